/-! jobs: the component's search, 2; the next row -/
set_option maxRecDepth 100000
section T2
variable {c c' np nd nb na ns nj : Nat} {no dp bd jp : Nat → Nat} {ld : Option Nat} {rw : Nat → Option Nat} {rk : Nat → Nat × Nat} {T T' A A' : Nat → Nat → Int32} {F F' GF : Nat → Int32} {L : Nat → Int64} {GA : Nat → Nat → Int32}
theorem tries_eq (hA : ∀ j, j < nj → (1 ≤ (A 26 j).toInt ∧ (A 26 j).toInt ≤ 50) ∧ (0 ≤ (A 27 j).toInt ∧ (A 27 j).toInt ≤ 1000)) (hc : 0 ≤ (F 41).toInt ∧ (F 41).toInt ≤ 20) : ∀ (m d : Nat) (rp : List Nat) (T : Nat → Nat → Int32) (B : jBt), JX nj np jp T A F → wf nj rp → m + rp.length = nj → m < d → Tr T 19 rp → Bst T B → ∃ T' : Nat → Nat → Int32, f_X0_triesD d 8 (Int32.ofNat rp.length) (Int32.ofNat (mask rp)) (csE (fun j => A 2 (jp j)) (A 26) (F 41) rp) (csL (fun j => A 2 (jp j)) (A 26) (A 27) (F 41) rp) (lay (kX np nd nb no rk) T (rX np nd nb no dp bd ld rw)) = some (lay (kX np nd nb no rk) T' (rX np nd nb no dp bd ld rw)) ∧ TE T T' rp.length ∧ Bst T' ((ext nj m rp).foldl (stepB (fun j => A 2 (jp j)) (A 26) (A 27) (F 41)) B)
  | m, 0, _, _, _, _, _, _, h, _, _ => absurd h (Nat.not_lt_zero m)
  | m, d + 1, rp, T, B, hJ, hw, hl, hd, hT, hB => by
    obtain ⟨h1, h2, h3, h4, h5⟩ := id hJ
    obtain ⟨b1, b2, b3⟩ := id hB
    unfold f_X0_triesD f_X0_tries
    simp -implicitDefEqProofs (maxSteps := 2000000) (disch := omega) only [lm_is, lm_g0, lm_g1, lm_g2, lm_g3, lm_g4, lm_g5, lm_g6, lm_g7, lm_g8, lm_g9, lm_g10, lm_g11, lm_g12, lm_g13, lm_g14, lm_g15, lm_g16, lm_g17, lm_g18, lm_g19, lm_g20, lm_g21, lm_g22, lm_g23, lm_g24, lm_g25, lm_g26, lm_g27, lm_g28, lm_g29, lm_g30, lm_g31, lm_g32, lm_g33, lm_g34, lm_g35, lm_g36, lm_g37, lm_g38, lm_g39, lm_g40, lm_g41, lm_g42, lm_g43, lm_g44, lm_g45, lm_g46, lm_g47, lm_g48, lm_g49, lm_g50, lm_g51, lm_p1, lm_p6, lm_p12, lm_p13, lm_p22, lm_p23, lm_p29, lm_p30, lm_p31, lm_p32, lm_p33, lm_p34, lm_p35, lm_p37, lm_p41, lm_p44, lm_p45, lm_p51, y_is, y_g0, y_g1, y_p1, y_g2, y_g3, y_p3, y_g4, y_p4, y_g5, y_g6, y_g7, y_g8, y_g9, y_g10, y_p10, y_g12, y_p12, y_g13, y_g14, y_p14, y_g15, y_g16, y_p16, y_g17, y_g18, y_p18, y_g19, y_p19, y_g20, y_g21, y_g22, y_p22, y_g23, y_p23, y_g24, y_p24, y_g25, y_p25, y_g26, y_g27, y_p27, y_g11, y_r11, y12_is, y12_g0, y12_p0, y12_g1, y12_g2, y12_p2, y12_g3, y13_is, y13_g0, y13_p0, y13_g1, y13_g2, y13_p2, y13_g3, y14_is, y14_g0, y14_p0, y14_g1, y14_g2, y14_p2, y14_g3, y1_i, y1_i0, y1_i1, y1_i2, y1_i3, y1_i4, y1_i5, y11_i, y11_i0, y11_i1, y11_i2, y11_i3, y11_i4, y11_i5, y11_s, y11_s0, y11_s1, y11_s2, y11_s3, y11_s4, y11_s5, y16_i, y16_i0, y16_i1, y16_i2, y16_s, y16_s0, y16_s1, y16_s2, y17_i, y17_i0, y17_i1, y17_i2, y17_i3, y17_i4, y17_i5, y17_s, y17_s0, y17_s1, y17_s2, y17_s3, y17_s4, y17_s5, y19_i, y19_i0, y19_i1, y19_i2, y19_i3, y19_i4, y19_i5, y19_i6, y19_s, y19_s0, y19_s1, y19_s2, y19_s3, y19_s4, y19_s5, y19_s6, y20_i, y20_i0, y20_i1, y20_i2, y20_i3, y20_i4, y20_i5, y20_i6, y20_s, y20_s0, y20_s1, y20_s2, y20_s3, y20_s4, y20_s5, y20_s6, y9_a, y10_a, y15_a, y18_a, y21_a, yp_is, yp_g0, yp_p0, yp_g1, yp_p1, yp_g2, yp_p2, yp_g3, yp_p3, yp_g4, yl_is, yl_g0, yl_p0, yl_g2, yl_p2, yl_e, yl_e0, ye_a, yo_is, yo_g0, yo_p0, yo_g1, yo_p1, yd_is, yd_g0, yd_g1, yd_p1, yd_g2, yd_p2, yd_g3, yd_p3, yd_g4, yd_p4, yd_g5, yd_p5, yd_g6, yd_p6, yb_is, yb_g0, yb_g1, yb_p1, yb_g2, yb_p2, yb_g3, yb_p3, yb_g4, yb_p4, yb_g5, yb_p5, yb_g6, yb_p6, yb_g7, yb_p7, ys_is, ys_g0, ys_p0, ys_r, ys_a, yj_i, yj_i0, yj_s0, yj_i1, yj_s1, yj_i2, yj_s2, lm_n1, lm_sn1, lm_n1_0, lm_sn1_0, lm_n1_1, lm_sn1_1, lm_n1_2, lm_sn1_2, lm_n1_3, lm_sn1_3, lm_n1_4, lm_sn1_4, lm_n1_5, lm_sn1_5, lm_n2, lm_sn2, lm_n3, lm_sn3, lm_n4, lm_sn4, lm_n5, lm_sn5, lm_n6, lm_sn6, lm_n7, lm_sn7, lm_n8, lm_sn8, lm_n9, lm_sn9, lm_n10, lm_sn10, lm_n11, lm_sn11, lm_n12, lm_sn12, lm_n13, lm_sn13, lm_n14, lm_sn14, lm_n15, lm_sn15, lm_n16, lm_sn16, lm_n17, lm_sn17, lm_n18, lm_sn18, lm_n19, lm_n19_0, lm_sn19_0, lm_n19_1, lm_sn19_1, lm_n19_2, lm_sn19_2, lm_n19_3, lm_sn19_3, lm_n19_4, lm_sn19_4, lm_n19_5, lm_sn19_5, lm_n19_6, lm_sn19_6, lm_n20, lm_sn20, lm_n21, lm_sn21, lm_n22, lm_sn22, lm_n23, lm_sn23, lm_n23_0, lm_sn23_0, lm_n23_1, lm_sn23_1, lm_n23_2, lm_sn23_2, lm_n24, lm_sn24, lm_n24_0, lm_sn24_0, lm_n24_1, lm_sn24_1, lm_n24_2, lm_sn24_2, lm_n24_3, lm_sn24_3, lm_n24_4, lm_sn24_4, lm_n24_5, lm_sn24_5, lm_n25, lm_sn25, lm_n25_0, lm_sn25_0, lm_n25_1, lm_sn25_1, lm_n25_2, lm_sn25_2, lm_n25_3, lm_sn25_3, lm_n25_4, lm_sn25_4, lm_n25_5, lm_sn25_5, lm_n25_6, lm_sn25_6, lm_n26, lm_sn26, lm_n26_0, lm_sn26_0, lm_n26_1, lm_sn26_1, lm_n26_2, lm_sn26_2, lm_n26_3, lm_sn26_3, lm_n26_4, lm_sn26_4, lm_n26_5, lm_sn26_5, lm_n26_6, lm_sn26_6, lm_n27, lm_sn27, lm_n27_0, lm_sn27_0, lm_n27_1, lm_sn27_1, lm_n27_2, lm_sn27_2, lm_n27_3, lm_sn27_3, lm_n27_4, lm_sn27_4, lm_n27_5, lm_sn27_5, lm_n27_6, lm_sn27_6, lm_n28, lm_sn28, lm_n28_0, lm_sn28_0, lm_n28_1, lm_sn28_1, lm_n28_2, lm_sn28_2, lm_n28_3, lm_sn28_3, lm_n28_4, lm_sn28_4, lm_n28_5, lm_sn28_5, lm_n28_6, lm_sn28_6, lm_n29, lm_sn29, lm_n29_0, lm_sn29_0, lm_n29_1, lm_sn29_1, lm_n29_2, lm_sn29_2, lm_n29_3, lm_sn29_3, lm_n29_4, lm_sn29_4, lm_n29_5, lm_sn29_5, lm_n29_6, lm_sn29_6, lm_n30, lm_sn30, lm_n31, lm_sn31, lm_n31_0, lm_sn31_0, lm_n31_1, lm_sn31_1, lm_n31_2, lm_sn31_2, lm_n31_3, lm_sn31_3, lm_n32, lm_sn32, lm_n32_0, lm_sn32_0, lm_n32_1, lm_sn32_1, lm_n32_2, lm_sn32_2, lm_n32_3, lm_sn32_3, lm_n33, lm_sn33, lm_n34, lm_sn34, tu_at, tu_ne, tu_nk, vu_at, vu_ne, jb_some, Option.bind_some, Option.bind_none, one0, if_true, if_false, b1, b2, h3]
    by_cases g : csL (fun j => A 2 (jp j)) (A 26) (A 27) (F 41) rp ≤ B.1
    · simp only [if_pos g]
      cases m with
      | zero =>
        have el : rp.length = nj := by omega
        simp only [el, if_true, ext, List.foldl_cons, List.foldl_nil]
        obtain ⟨T', a1, a2, a3⟩ := copy_L (np := np) (nd := nd) (nb := nb) (no := no) (dp := dp) (bd := bd) (ld := ld) (rw := rw) (rk := rk) (f_X0_triesD d) h1 nj 0 300 (tu (tu T 8 22 (csL (fun j => A 2 (jp j)) (A 26) (A 27) (F 41) rp)) 8 23 (csE (fun j => A 2 (jp j)) (A 26) (F 41) rp)) (by rw [tu_nk _ _ _ (by decide), tu_nk _ _ _ (by decide)]; exact h3) (by omega) (by omega)
        have hup : f_X0_tries_j35 (f_X0_triesD d) 8 (csE (fun j => A 2 (jp j)) (A 26) (F 41) rp) (csL (fun j => A 2 (jp j)) (A 26) (A 27) (F 41) rp) (lay (kX np nd nb no rk) T (rX np nd nb no dp bd ld rw)) = some (lay (kX np nd nb no rk) T' (rX np nd nb no dp bd ld rw)) := by
          unfold f_X0_tries_j35
          simp -implicitDefEqProofs (maxSteps := 2000000) (disch := omega) only [lm_is, lm_g0, lm_g1, lm_g2, lm_g3, lm_g4, lm_g5, lm_g6, lm_g7, lm_g8, lm_g9, lm_g10, lm_g11, lm_g12, lm_g13, lm_g14, lm_g15, lm_g16, lm_g17, lm_g18, lm_g19, lm_g20, lm_g21, lm_g22, lm_g23, lm_g24, lm_g25, lm_g26, lm_g27, lm_g28, lm_g29, lm_g30, lm_g31, lm_g32, lm_g33, lm_g34, lm_g35, lm_g36, lm_g37, lm_g38, lm_g39, lm_g40, lm_g41, lm_g42, lm_g43, lm_g44, lm_g45, lm_g46, lm_g47, lm_g48, lm_g49, lm_g50, lm_g51, lm_p1, lm_p6, lm_p12, lm_p13, lm_p22, lm_p23, lm_p29, lm_p30, lm_p31, lm_p32, lm_p33, lm_p34, lm_p35, lm_p37, lm_p41, lm_p44, lm_p45, lm_p51, y_is, y_g0, y_g1, y_p1, y_g2, y_g3, y_p3, y_g4, y_p4, y_g5, y_g6, y_g7, y_g8, y_g9, y_g10, y_p10, y_g12, y_p12, y_g13, y_g14, y_p14, y_g15, y_g16, y_p16, y_g17, y_g18, y_p18, y_g19, y_p19, y_g20, y_g21, y_g22, y_p22, y_g23, y_p23, y_g24, y_p24, y_g25, y_p25, y_g26, y_g27, y_p27, y_g11, y_r11, y12_is, y12_g0, y12_p0, y12_g1, y12_g2, y12_p2, y12_g3, y13_is, y13_g0, y13_p0, y13_g1, y13_g2, y13_p2, y13_g3, y14_is, y14_g0, y14_p0, y14_g1, y14_g2, y14_p2, y14_g3, y1_i, y1_i0, y1_i1, y1_i2, y1_i3, y1_i4, y1_i5, y11_i, y11_i0, y11_i1, y11_i2, y11_i3, y11_i4, y11_i5, y11_s, y11_s0, y11_s1, y11_s2, y11_s3, y11_s4, y11_s5, y16_i, y16_i0, y16_i1, y16_i2, y16_s, y16_s0, y16_s1, y16_s2, y17_i, y17_i0, y17_i1, y17_i2, y17_i3, y17_i4, y17_i5, y17_s, y17_s0, y17_s1, y17_s2, y17_s3, y17_s4, y17_s5, y19_i, y19_i0, y19_i1, y19_i2, y19_i3, y19_i4, y19_i5, y19_i6, y19_s, y19_s0, y19_s1, y19_s2, y19_s3, y19_s4, y19_s5, y19_s6, y20_i, y20_i0, y20_i1, y20_i2, y20_i3, y20_i4, y20_i5, y20_i6, y20_s, y20_s0, y20_s1, y20_s2, y20_s3, y20_s4, y20_s5, y20_s6, y9_a, y10_a, y15_a, y18_a, y21_a, yp_is, yp_g0, yp_p0, yp_g1, yp_p1, yp_g2, yp_p2, yp_g3, yp_p3, yp_g4, yl_is, yl_g0, yl_p0, yl_g2, yl_p2, yl_e, yl_e0, ye_a, yo_is, yo_g0, yo_p0, yo_g1, yo_p1, yd_is, yd_g0, yd_g1, yd_p1, yd_g2, yd_p2, yd_g3, yd_p3, yd_g4, yd_p4, yd_g5, yd_p5, yd_g6, yd_p6, yb_is, yb_g0, yb_g1, yb_p1, yb_g2, yb_p2, yb_g3, yb_p3, yb_g4, yb_p4, yb_g5, yb_p5, yb_g6, yb_p6, yb_g7, yb_p7, ys_is, ys_g0, ys_p0, ys_r, ys_a, yj_i, yj_i0, yj_s0, yj_i1, yj_s1, yj_i2, yj_s2, lm_n1, lm_sn1, lm_n1_0, lm_sn1_0, lm_n1_1, lm_sn1_1, lm_n1_2, lm_sn1_2, lm_n1_3, lm_sn1_3, lm_n1_4, lm_sn1_4, lm_n1_5, lm_sn1_5, lm_n2, lm_sn2, lm_n3, lm_sn3, lm_n4, lm_sn4, lm_n5, lm_sn5, lm_n6, lm_sn6, lm_n7, lm_sn7, lm_n8, lm_sn8, lm_n9, lm_sn9, lm_n10, lm_sn10, lm_n11, lm_sn11, lm_n12, lm_sn12, lm_n13, lm_sn13, lm_n14, lm_sn14, lm_n15, lm_sn15, lm_n16, lm_sn16, lm_n17, lm_sn17, lm_n18, lm_sn18, lm_n19, lm_n19_0, lm_sn19_0, lm_n19_1, lm_sn19_1, lm_n19_2, lm_sn19_2, lm_n19_3, lm_sn19_3, lm_n19_4, lm_sn19_4, lm_n19_5, lm_sn19_5, lm_n19_6, lm_sn19_6, lm_n20, lm_sn20, lm_n21, lm_sn21, lm_n22, lm_sn22, lm_n23, lm_sn23, lm_n23_0, lm_sn23_0, lm_n23_1, lm_sn23_1, lm_n23_2, lm_sn23_2, lm_n24, lm_sn24, lm_n24_0, lm_sn24_0, lm_n24_1, lm_sn24_1, lm_n24_2, lm_sn24_2, lm_n24_3, lm_sn24_3, lm_n24_4, lm_sn24_4, lm_n24_5, lm_sn24_5, lm_n25, lm_sn25, lm_n25_0, lm_sn25_0, lm_n25_1, lm_sn25_1, lm_n25_2, lm_sn25_2, lm_n25_3, lm_sn25_3, lm_n25_4, lm_sn25_4, lm_n25_5, lm_sn25_5, lm_n25_6, lm_sn25_6, lm_n26, lm_sn26, lm_n26_0, lm_sn26_0, lm_n26_1, lm_sn26_1, lm_n26_2, lm_sn26_2, lm_n26_3, lm_sn26_3, lm_n26_4, lm_sn26_4, lm_n26_5, lm_sn26_5, lm_n26_6, lm_sn26_6, lm_n27, lm_sn27, lm_n27_0, lm_sn27_0, lm_n27_1, lm_sn27_1, lm_n27_2, lm_sn27_2, lm_n27_3, lm_sn27_3, lm_n27_4, lm_sn27_4, lm_n27_5, lm_sn27_5, lm_n27_6, lm_sn27_6, lm_n28, lm_sn28, lm_n28_0, lm_sn28_0, lm_n28_1, lm_sn28_1, lm_n28_2, lm_sn28_2, lm_n28_3, lm_sn28_3, lm_n28_4, lm_sn28_4, lm_n28_5, lm_sn28_5, lm_n28_6, lm_sn28_6, lm_n29, lm_sn29, lm_n29_0, lm_sn29_0, lm_n29_1, lm_sn29_1, lm_n29_2, lm_sn29_2, lm_n29_3, lm_sn29_3, lm_n29_4, lm_sn29_4, lm_n29_5, lm_sn29_5, lm_n29_6, lm_sn29_6, lm_n30, lm_sn30, lm_n31, lm_sn31, lm_n31_0, lm_sn31_0, lm_n31_1, lm_sn31_1, lm_n31_2, lm_sn31_2, lm_n31_3, lm_sn31_3, lm_n32, lm_sn32, lm_n32_0, lm_sn32_0, lm_n32_1, lm_sn32_1, lm_n32_2, lm_sn32_2, lm_n32_3, lm_sn32_3, lm_n33, lm_sn33, lm_n34, lm_sn34, tu_at, tu_ne, tu_nk, vu_at, vu_ne, jb_some, Option.bind_some, Option.bind_none, one0, if_true, if_false]
          exact a1
        have hfr : TE T T' nj := ⟨fun n j h => by
          rw [a2 n j (by omega)]
          unfold tu
          rw [if_neg (by omega), if_neg (by omega)], fun k hk => by
          rw [a2 19 k (by omega), tu_ne _ _ _ (by decide), tu_ne _ _ _ (by decide)]⟩
        have hbs : Bst T' (csL (fun j => A 2 (jp j)) (A 26) (A 27) (F 41) rp, csE (fun j => A 2 (jp j)) (A 26) (F 41) rp, rp) := ⟨by rw [a2 8 22 (by omega), tu_nk _ _ _ (by decide), tu_at], by rw [a2 8 23 (by omega), tu_at], Tr_to rp (fun k hk => by
          rw [a3 k (by omega) (by omega), tu_ne _ _ _ (by decide), tu_ne _ _ _ (by decide)]) hT⟩
        by_cases g1 : csL (fun j => A 2 (jp j)) (A 26) (A 27) (F 41) rp < B.1
        · simp only [if_pos g1]
          refine ⟨T', hup, hfr, ?_⟩
          unfold stepB
          rw [if_pos (.inl g1)]
          exact hbs
        · have ge : csL (fun j => A 2 (jp j)) (A 26) (A 27) (F 41) rp = B.1 := by
            rw [Int32.le_iff_toInt_le] at g
            rw [Int32.lt_iff_toInt_lt] at g1
            apply Int32.toInt_inj.mp
            omega
          simp only [if_neg g1]
          by_cases g2 : B.2.1 ≤ csE (fun j => A 2 (jp j)) (A 26) (F 41) rp
          · simp only [if_pos g2]
            refine ⟨T, rfl, TE_refl T _, ?_⟩
            unfold stepB
            rw [if_neg]
            · exact hB
            · rintro (h | ⟨_, h⟩)
              · exact g1 h
              · rw [Int32.le_iff_toInt_le] at g2
                rw [Int32.lt_iff_toInt_lt] at h
                omega
          · simp only [if_neg g2]
            refine ⟨T', hup, hfr, ?_⟩
            unfold stepB
            rw [if_pos]
            · exact hbs
            · refine .inr ⟨ge, ?_⟩
              rw [Int32.le_iff_toInt_le] at g2
              rw [Int32.lt_iff_toInt_lt]
              omega
      | succ m =>
        have el : ¬ rp.length = nj := by omega
        have el2 : ¬ Int32.ofNat rp.length = Int32.ofNat nj := by
          rw [on_eq (by omega) (by omega)]
          exact el
        simp only [if_neg el2]
        have H := fun j (hj : j < nj) T B (a : JX nj np jp T A F) (b : Tr T 19 (j :: rp)) (c : Bst T B) => tries_eq hA hc m d (j :: rp) T B a (fun i hi => by
          rcases List.mem_cons.mp hi with rfl | hi
          · exact hj
          · exact hw i hi) (by simp only [List.length_cons]; omega) (by omega) b c
        have hL := loop_L (np := np) (nd := nd) (nb := nb) (no := no) (dp := dp) (bd := bd) (ld := ld) (rw := rw) (rk := rk) (d := d) (m := m) hw (by omega) H nj 0 300 T B hJ hT hB (by omega) (by omega)
        rw [← List.range_eq_range'] at hL
        exact hL
    · simp only [if_neg g]
      refine ⟨T, rfl, TE_refl T _, ?_⟩
      rw [fold_skip]
      · exact hB
      · intro q hq
        rw [Int32.le_iff_toInt_le] at g
        have := ext_ge (al := fun j => A 2 (jp j)) (fun j hj => (hA j hj).1) (fun j hj => (hA j hj).2) hc m rp hw (by omega) q hq
        omega
end T2
/-! the next row, purely -/
def fdI (l : List Nat) : Nat → Option Nat
  | 0 => none
  | i + 1 => if l.getD i 0 ≤ l.getD (i + 1) 0 then some i else fdI l i
def fdJ (l : List Nat) (i : Nat) : Nat → Nat
  | 0 => 0
  | j + 1 => if l.getD i 0 ≤ l.getD (j + 1) 0 then j + 1 else fdJ l i j
def swp (l : List Nat) (i j : Nat) : List Nat := (l.set i (l.getD j 0)).set j (l.getD i 0)
def rvs : Nat → List Nat → Nat → Nat → List Nat
  | 0, l, _, _ => l
  | f + 1, l, a, b => if b ≤ a then l else rvs f (swp l a b) (a + 1) (b - 1)
def nxt (n : Nat) (l : List Nat) : Option (List Nat) := match fdI l (n - 1) with
  | none => none
  | some i => some (rvs 8 (swp l i (fdJ l i (n - 1))) (i + 1) (n - 1))
def chn (n : Nat) : List (List Nat) → Bool
  | [] => true
  | [a] => decide (nxt n a.reverse = none)
  | a :: b :: r => decide (nxt n a.reverse = some b.reverse) && chn n (b :: r)
/-- .. up to what comes behind -/
def chT (n : Nat) : List (List Nat) → List (List Nat) → Bool
  | [], _ => true
  | [a], r => decide (nxt n a.reverse = r.head?.map List.reverse)
  | a :: b :: t, r => decide (nxt n a.reverse = some b.reverse) && chT n (b :: t) r
theorem chn_app (n : Nat) : ∀ l r, chT n l r = true → chn n r = true → chn n (l ++ r) = true
  | [], r, _, h => h
  | [a], [], h, _ => h
  | [a], b :: r, h, h2 => by
    show (decide (nxt n a.reverse = some b.reverse) && chn n (b :: r)) = true
    rw [Bool.and_eq_true]
    exact ⟨h, h2⟩
  | a :: b :: t, r, h, h2 => by
    have h' : (decide (nxt n a.reverse = some b.reverse) && chT n (b :: t) r) = true := h
    rw [Bool.and_eq_true] at h'
    show (decide (nxt n a.reverse = some b.reverse) && chn n (b :: t ++ r)) = true
    rw [Bool.and_eq_true]
    exact ⟨h'.1, chn_app n (b :: t) r h'.2 h2⟩
theorem chk_s : ∀ n, n < 7 → chn n (ext n n []) = true ∧ (ext n n []).length ≤ 5040 ∧ (ext n n []).head? = some (List.range n).reverse := by decide +kernel
theorem ch7_0 : chT 7 (ext 7 6 [0]) (ext 7 6 [1]) = true ∧ (ext 7 6 [0]).length ≤ 720 := by decide +kernel
theorem ch7_1 : chT 7 (ext 7 6 [1]) (ext 7 6 [2]) = true ∧ (ext 7 6 [1]).length ≤ 720 := by decide +kernel
theorem ch7_2 : chT 7 (ext 7 6 [2]) (ext 7 6 [3]) = true ∧ (ext 7 6 [2]).length ≤ 720 := by decide +kernel
theorem ch7_3 : chT 7 (ext 7 6 [3]) (ext 7 6 [4]) = true ∧ (ext 7 6 [3]).length ≤ 720 := by decide +kernel
theorem ch7_4 : chT 7 (ext 7 6 [4]) (ext 7 6 [5]) = true ∧ (ext 7 6 [4]).length ≤ 720 := by decide +kernel
theorem ch7_5 : chT 7 (ext 7 6 [5]) (ext 7 6 [6]) = true ∧ (ext 7 6 [5]).length ≤ 720 := by decide +kernel
theorem ch7_6 : chn 7 (ext 7 6 [6]) = true ∧ (ext 7 6 [6]).length ≤ 720 := by decide +kernel
theorem chT_app (n : Nat) : ∀ (l r r' : List (List Nat)), r ≠ [] → chT n l r = true → chT n l (r ++ r') = true
  | [], _, _, _, _ => rfl
  | [a], [], _, h0, _ => absurd rfl h0
  | [a], b :: r, r', _, h => h
  | a :: b :: t, r, r', h0, h => by
    have h' : (decide (nxt n a.reverse = some b.reverse) && chT n (b :: t) r) = true := h
    rw [Bool.and_eq_true] at h'
    show (decide (nxt n a.reverse = some b.reverse) && chT n (b :: t) (r ++ r')) = true
    rw [Bool.and_eq_true]
    exact ⟨h'.1, chT_app n (b :: t) r r' h0 h'.2⟩
theorem ex7_n : ext 7 6 [1] ≠ [] ∧ ext 7 6 [2] ≠ [] ∧ ext 7 6 [3] ≠ [] ∧ ext 7 6 [4] ≠ [] ∧ ext 7 6 [5] ≠ [] ∧ ext 7 6 [6] ≠ [] := by decide +kernel
theorem ex7_h : (ext 7 6 [0]).head? = some (List.range 7).reverse := by decide +kernel
theorem ex7 : ext 7 7 [] = ext 7 6 [0] ++ (ext 7 6 [1] ++ (ext 7 6 [2] ++ (ext 7 6 [3] ++ (ext 7 6 [4] ++ (ext 7 6 [5] ++ ext 7 6 [6]))))) := by
  rw [ext]
  simp [List.range, List.range.loop]
theorem chk : ∀ n, n < 8 → chn n (ext n n []) = true ∧ (ext n n []).length ≤ 5040 ∧ (ext n n []).head? = some (List.range n).reverse := by
  intro n hn
  rcases Nat.lt_or_ge n 7 with h | h
  · exact chk_s n h
  · have : n = 7 := by omega
    subst this
    obtain ⟨n1, n2, n3, n4, n5, n6⟩ := ex7_n
    rw [ex7]
    refine ⟨?_, ?_, ?_⟩
    · refine chn_app 7 _ _ (chT_app 7 _ _ _ n1 ch7_0.1) (chn_app 7 _ _ (chT_app 7 _ _ _ n2 ch7_1.1) (chn_app 7 _ _ (chT_app 7 _ _ _ n3 ch7_2.1) (chn_app 7 _ _ (chT_app 7 _ _ _ n4 ch7_3.1) (chn_app 7 _ _ (chT_app 7 _ _ _ n5 ch7_4.1) (chn_app 7 _ _ ch7_5.1 ch7_6.1)))))
    · simp only [List.length_append]
      have := ch7_0.2
      have := ch7_1.2
      have := ch7_2.2
      have := ch7_3.2
      have := ch7_4.2
      have := ch7_5.2
      have := ch7_6.2
      omega
    · have h0 := ex7_h
      cases h7 : ext 7 6 [0] with
      | nil => rw [h7] at h0; cases h0
      | cons a t =>
        rw [h7] at h0
        exact h0
