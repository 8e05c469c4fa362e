/-! pressing, 4 -/
set_option maxRecDepth 100000
theorem nT_fr {T : Nat → Nat → Int32} {i : Nat} {b bv : Int32} : ∀ n j, n ≠ 1000 + i → nT T i b bv n j = T n j := by
  intro n j h
  simp (disch := omega) only [nT, tu_ne, vu_ne]
section P4
variable {c c' np nd nb na ns nj : Nat} {no dp bd jp : Nat → Nat} {ld : Option Nat} {rw : Nat → Option Nat} {rk : Nat → Nat × Nat} {T T' A A' : Nat → Nat → Int32} {F F' GF : Nat → Int32} {L : Nat → Int64} {GA : Nat → Nat → Int32}
theorem press_main (hR : Rel c np nd nb ns nj no dp bd jp ld rw rk T A F L) (hc : c < 64) {d : Nat} (hd : d < nd) (hn : nb < 200) {b : Int32} (hb : 200 ≤ b.toInt ∧ b.toInt ≤ 1200) : ∀ w : Int32, w = 0 ∨ w = 1 → ∃ (r : Int32) (hx' hm' : jH), f_X0_press_j124 8 (200 + d) (1000 + nb) (T 14 0) 8 (bvA A (dp d) b) w (lay (kX np nd (nb + 1) no rk) (nT T nb b (bvA A (dp d) b)) (rX np nd nb no dp (va_up bd nb d) ld rw)) = some (r, hx') ∧ f_X5_press_j85 8 (Int32.ofNat d) b (Int32.ofNat (dp d)) 8 (Int32.ofNat (dp d)) b w (layM F A L GF GA) = some (r, hm') ∧ Rst (c + 1) hx' hm' := by
  obtain ⟨hP, hD, hB, hA, hL, hT, hK, hJ, hO, hS⟩ := id hR
  obtain ⟨p8, pF, pT, pp⟩ := id hP
  obtain ⟨d12, dF, dT, dt, dd⟩ := id hD
  obtain ⟨b2, bF, bT, bt, bb⟩ := id hB
  obtain ⟨q1, q2, q3, q4, q5, q6, q7⟩ := dd d hd
  obtain ⟨x1, x2, x3, x6⟩ := pp (dp d) q1
  have hLW : LW A := fun k hk => (hL.2 k hk).2
  obtain ⟨v1, v2, v3, v4, v5, v6⟩ := bv_t hLW ⟨x2.1, x2.2.1⟩ hb
  have g11 : ∀ k, nT T nb b (bvA A (dp d) b) 11 k = T 11 k := by
    intro k
    simp (disch := omega) only [nT, tu_ne, vu_ne]
  have gfr : ∀ n j, n ≠ 1000 + nb → nT T nb b (bvA A (dp d) b) n j = T n j := by
    intro n j h
    simp (disch := omega) only [nT, tu_ne, vu_ne]
  have hPT := PT_of hP hL q1
  have hPT2 : PT no (dp d) (nT T nb b (bvA A (dp d) b)) A := by
    obtain ⟨h1, h2, h3, h4, h5, h6⟩ := id hPT
    refine ⟨h1, by rw [gfr _ _ (by omega)]; exact h2, h3, fun k hk => ?_, by rw [gfr _ _ (by omega)]; exact h5, h6⟩
    rw [gfr _ _ (by omega), gfr _ _ (by omega)]
    exact h4 k hk
  intro w hw
  have ut := us_t (w := w) hLW ⟨v3, v4⟩
  have hPT3 : PT no (dp d) (tu (uT A (nT T nb b (bvA A (dp d) b)) (bvA A (dp d) b) w) (1000 + nb) 5 (uT A (nT T nb b (bvA A (dp d) b)) (bvA A (dp d) b) w 14 0 - T 14 0)) A := by
    have gf : ∀ n j, ¬ (n = 1000 + nb ∨ n = 12 ∨ n = 13 ∨ n = 14) → tu (uT A (nT T nb b (bvA A (dp d) b)) (bvA A (dp d) b) w) (1000 + nb) 5 (uT A (nT T nb b (bvA A (dp d) b)) (bvA A (dp d) b) w 14 0 - T 14 0) n j = nT T nb b (bvA A (dp d) b) n j := by
      intro n j h
      unfold uT
      simp (disch := omega) only [tu_ne]
    obtain ⟨h1, h2, h3, h4, h5, h6⟩ := id hPT2
    refine ⟨h1, by rw [gf _ _ (by omega)]; exact h2, h3, fun k hk => ?_, by rw [gf _ _ (by omega)]; exact h5, h6⟩
    rw [gf _ _ (by omega), gf _ _ (by omega)]
    exact h4 k hk
  obtain ⟨st, i1, c1, c2⟩ := cuts_eq (np := np) (nd := nd) (nb := nb + 1) (na := nb) (dp := dp) (bd := va_up bd nb d) (ld := ld) (rw := rw) (rk := rk) (F := F) (L := L) (GF := va_up (va_up (va_up (va_up (va_up GF 30 (bvA A (dp d) b)) 31 (hdA A (bvA A (dp d) b))) 32 (tlA A (bvA A (dp d) b))) 33 (wdA A (bvA A (dp d) b) w)) 34 (usA A (bvA A (dp d) b) w)) (GA := GA) hPT3 q1 p8 (u := usA A (bvA A (dp d) b) w) (by omega)
  have f1 := findBar_eq (F := F) (L := L) (GF := GF) (GA := GA) (w := w) (show dp d < 8 by omega) hLW ⟨x2.1, x2.2.1⟩ hb
  rw [← f1] at c2
  have e1 := pressB (A := A) (T := nT T nb b (bvA A (dp d) b)) (nb := nb + 1) (na := nb) (bd := va_up bd nb d) (ld := ld) (rw := rw) (rk := rk) hd d12 (Nat.lt_succ_self nb) q1 p8 (v := T 14 0) (all := bvA A (dp d) b) hw hPT2 (fun k hk => by rw [g11]; exact (hL.2 k hk).1) (by rw [gfr _ _ (by omega)]; exact hA.2.2.2.2.2.2.2.1) (by rw [gfr _ _ (by omega)]; exact hA.2.2.2.2.2.2.2.2) c1
  have e2 := pressE (T := decT (dp d) (no (dp d)) 0 (sT A (nT T nb b (bvA A (dp d) b)) nb (T 14 0) (bvA A (dp d) b) w st)) (bd := va_up bd nb d) (ld := ld) (rw := rw) (rk := rk) hd d12 hn q1 p8 (by
    rw [decT_fr _ _ _ _ _ (by omega)]
    simp (disch := omega) only [sT, cT, uT, nT, tu_ne, tu_nk, vu_ne]
    exact hPT.2.1) (by
    rw [decT_fr _ _ _ _ _ (by omega)]
    simp (disch := omega) only [sT, cT, uT, nT, tu_ne, tu_nk, vu_ne]
    exact bT) hPT.1
  have e3 := decM (F := F) (L := L) (GF := gF A GF (bvA A (dp d) b) w st.1) (GA := gT GA st) (x := Int32.ofNat d) (b := b) (p := dp d) (n := no (dp d)) (by omega) hPT.1 (no (dp d)) 0 300 A hPT.2.2.1 (by omega) (by have := hPT.1; omega)
  have e4 := pressN (F := F) (L := L) (GF := gF A GF (bvA A (dp d) b) w st.1) (GA := gT GA st) (A := decA (dp d) (gT GA st) (no (dp d)) 0 A) (b := b) (d := d) (i := nb) (p := dp d) (n := no (dp d)) (by omega) hn (by omega) hPT.1 (by rw [decA_fr _ _ _ _ _ (by omega)]; exact hPT.2.2.1) bF
  refine ⟨st.1, _, _, ?_, ?_, Rst_mk (GF := gF A GF (bvA A (dp d) b) w st.1) (GA := gT GA st) (press_rel (GF := GF) (GA := GA) (w := w) (all := bvA A (dp d) b) (b := b) hR hc hd hn i1)⟩
  · rw [e1, e2]
    congr 2
    rw [decT_fr _ _ _ _ _ (by omega)]
    unfold sT
    rw [tu_nk _ _ _ (by decide), tu_at]
  · unfold f_X5_press_j85
    rw [lm_is, Option.bind_some, c2, Option.bind_some]
    exact e3.trans e4
end P4
theorem law_press (p b : Int32) : alike (f_X0_press 8 p b) (f_X5_press 8 p b) := by
  refine alike_mk fun c np nd nb ns nj no dp bd jp ld rw rk T A F L GF GA hc hR => ?_
  obtain ⟨hP, hD, hB, hA, hL, hT, hK, hJ, hO, hS⟩ := id hR
  obtain ⟨p8, pF, pT, pp⟩ := id hP
  obtain ⟨d12, dF, dT, dt, dd⟩ := id hD
  obtain ⟨b2, bF, bT, bt, bb⟩ := id hB
  unfold f_X0_press f_X5_press
  simp only [y_is, lm_is, Option.bind_some, isD0 dT d12, isD5 dF d12, in0, in5, jb_some, Int32.toInt_toInt64, k32_0, k64_0, k32_1, k64_1, k32_2, k64_2, k32_3, k64_3, k32_4, k64_4, k32_5, k64_5, k32_6, k64_6, k32_7, k64_7, k32_8, k64_8, k32_12, k64_12, k32_20, k64_20, k32_50, k64_50, k32_60, k64_60, k32_80, k64_80, k32_100, k64_100, k32_200, k64_200, k32_500, k64_500, k32_1000, k64_1000, k32_1200, k64_1200, k32_5000, k64_5000, k32_9000, k64_9000, k32_9999, k64_9999, k32_20000, k64_20000, k32_200000, k64_200000, k32_1000000, k64_1000000]
  by_cases hp : 0 ≤ p.toInt ∧ p.toInt < nd
  · obtain ⟨d, hd, rfl⟩ := in_nat hp
    obtain ⟨q1, q2, q3, q4, q5, q6, q7⟩ := dd d hd
    obtain ⟨x1, x2, x3, x6⟩ := pp (dp d) q1
    by_cases hb : 200 ≤ b.toInt ∧ b.toInt ≤ 1200
    · obtain ⟨r, hr, m1, m2⟩ := may_eq (nb := nb) (no := no) (bd := bd) (ld := ld) (rw := rw) (rk := rk) (L := L) (GF := GF) (GA := GA) hD hd
      rcases hr with rfl | rfl
      · simp -implicitDefEqProofs (maxSteps := 2000000) (disch := omega) only [lm_is, lm_g0, lm_g1, lm_g2, lm_g3, lm_g4, lm_g5, lm_g6, lm_g7, lm_g8, lm_g9, lm_g10, lm_g11, lm_g12, lm_g13, lm_g14, lm_g15, lm_g16, lm_g17, lm_g18, lm_g19, lm_g20, lm_g21, lm_g22, lm_g23, lm_g24, lm_g25, lm_g26, lm_g27, lm_g28, lm_g29, lm_g30, lm_g31, lm_g32, lm_g33, lm_g34, lm_g35, lm_g36, lm_g37, lm_g38, lm_g39, lm_g40, lm_g41, lm_g42, lm_g43, lm_g44, lm_g45, lm_g46, lm_g47, lm_g48, lm_g49, lm_g50, lm_g51, lm_p1, lm_p6, lm_p12, lm_p13, lm_p22, lm_p23, lm_p29, lm_p30, lm_p31, lm_p32, lm_p33, lm_p34, lm_p35, lm_p37, lm_p41, lm_p44, lm_p45, lm_p51, y_is, y_g0, y_g1, y_p1, y_g2, y_g3, y_p3, y_g4, y_p4, y_g5, y_g6, y_g7, y_g8, y_g9, y_g10, y_p10, y_g12, y_p12, y_g13, y_g14, y_p14, y_g15, y_g16, y_p16, y_g17, y_g18, y_p18, y_g19, y_p19, y_g20, y_g21, y_g22, y_p22, y_g23, y_p23, y_g24, y_p24, y_g25, y_p25, y_g26, y_g27, y_p27, y_g11, y_r11, y12_is, y12_g0, y12_p0, y12_g1, y12_g2, y12_p2, y12_g3, y13_is, y13_g0, y13_p0, y13_g1, y13_g2, y13_p2, y13_g3, y14_is, y14_g0, y14_p0, y14_g1, y14_g2, y14_p2, y14_g3, y1_i, y1_i0, y1_i1, y1_i2, y1_i3, y1_i4, y1_i5, y11_i, y11_i0, y11_i1, y11_i2, y11_i3, y11_i4, y11_i5, y11_s, y11_s0, y11_s1, y11_s2, y11_s3, y11_s4, y11_s5, y16_i, y16_i0, y16_i1, y16_i2, y16_s, y16_s0, y16_s1, y16_s2, y17_i, y17_i0, y17_i1, y17_i2, y17_i3, y17_i4, y17_i5, y17_s, y17_s0, y17_s1, y17_s2, y17_s3, y17_s4, y17_s5, y19_i, y19_i0, y19_i1, y19_i2, y19_i3, y19_i4, y19_i5, y19_i6, y19_s, y19_s0, y19_s1, y19_s2, y19_s3, y19_s4, y19_s5, y19_s6, y20_i, y20_i0, y20_i1, y20_i2, y20_i3, y20_i4, y20_i5, y20_i6, y20_s, y20_s0, y20_s1, y20_s2, y20_s3, y20_s4, y20_s5, y20_s6, y9_a, y10_a, y15_a, y18_a, y21_a, yp_is, yp_g0, yp_p0, yp_g1, yp_p1, yp_g2, yp_p2, yp_g3, yp_p3, yp_g4, yl_is, yl_g0, yl_p0, yl_g2, yl_p2, yl_e, yl_e0, ye_a, yo_is, yo_g0, yo_p0, yo_g1, yo_p1, yd_is, yd_g0, yd_g1, yd_p1, yd_g2, yd_p2, yd_g3, yd_p3, yd_g4, yd_p4, yd_g5, yd_p5, yd_g6, yd_p6, yb_is, yb_g0, yb_g1, yb_p1, yb_g2, yb_p2, yb_g3, yb_p3, yb_g4, yb_p4, yb_g5, yb_p5, yb_g6, yb_p6, yb_g7, yb_p7, ys_is, ys_g0, ys_p0, ys_r, ys_a, yj_i, yj_i0, yj_s0, yj_i1, yj_s1, yj_i2, yj_s2, lm_n1, lm_sn1, lm_n1_0, lm_sn1_0, lm_n1_1, lm_sn1_1, lm_n1_2, lm_sn1_2, lm_n1_3, lm_sn1_3, lm_n1_4, lm_sn1_4, lm_n1_5, lm_sn1_5, lm_n2, lm_sn2, lm_n3, lm_sn3, lm_n4, lm_sn4, lm_n5, lm_sn5, lm_n6, lm_sn6, lm_n7, lm_sn7, lm_n8, lm_sn8, lm_n9, lm_sn9, lm_n10, lm_sn10, lm_n11, lm_sn11, lm_n12, lm_sn12, lm_n13, lm_sn13, lm_n14, lm_sn14, lm_n15, lm_sn15, lm_n16, lm_sn16, lm_n17, lm_sn17, lm_n18, lm_sn18, lm_n19, lm_n19_0, lm_sn19_0, lm_n19_1, lm_sn19_1, lm_n19_2, lm_sn19_2, lm_n19_3, lm_sn19_3, lm_n19_4, lm_sn19_4, lm_n19_5, lm_sn19_5, lm_n19_6, lm_sn19_6, lm_n20, lm_sn20, lm_n21, lm_sn21, lm_n22, lm_sn22, lm_n23, lm_sn23, lm_n23_0, lm_sn23_0, lm_n23_1, lm_sn23_1, lm_n23_2, lm_sn23_2, lm_n24, lm_sn24, lm_n24_0, lm_sn24_0, lm_n24_1, lm_sn24_1, lm_n24_2, lm_sn24_2, lm_n24_3, lm_sn24_3, lm_n24_4, lm_sn24_4, lm_n24_5, lm_sn24_5, lm_n25, lm_sn25, lm_n25_0, lm_sn25_0, lm_n25_1, lm_sn25_1, lm_n25_2, lm_sn25_2, lm_n25_3, lm_sn25_3, lm_n25_4, lm_sn25_4, lm_n25_5, lm_sn25_5, lm_n25_6, lm_sn25_6, lm_n26, lm_sn26, lm_n26_0, lm_sn26_0, lm_n26_1, lm_sn26_1, lm_n26_2, lm_sn26_2, lm_n26_3, lm_sn26_3, lm_n26_4, lm_sn26_4, lm_n26_5, lm_sn26_5, lm_n26_6, lm_sn26_6, lm_n27, lm_sn27, lm_n27_0, lm_sn27_0, lm_n27_1, lm_sn27_1, lm_n27_2, lm_sn27_2, lm_n27_3, lm_sn27_3, lm_n27_4, lm_sn27_4, lm_n27_5, lm_sn27_5, lm_n27_6, lm_sn27_6, lm_n28, lm_sn28, lm_n28_0, lm_sn28_0, lm_n28_1, lm_sn28_1, lm_n28_2, lm_sn28_2, lm_n28_3, lm_sn28_3, lm_n28_4, lm_sn28_4, lm_n28_5, lm_sn28_5, lm_n28_6, lm_sn28_6, lm_n29, lm_sn29, lm_n29_0, lm_sn29_0, lm_n29_1, lm_sn29_1, lm_n29_2, lm_sn29_2, lm_n29_3, lm_sn29_3, lm_n29_4, lm_sn29_4, lm_n29_5, lm_sn29_5, lm_n29_6, lm_sn29_6, lm_n30, lm_sn30, lm_n31, lm_sn31, lm_n31_0, lm_sn31_0, lm_n31_1, lm_sn31_1, lm_n31_2, lm_sn31_2, lm_n31_3, lm_sn31_3, lm_n32, lm_sn32, lm_n32_0, lm_sn32_0, lm_n32_1, lm_sn32_1, lm_n32_2, lm_sn32_2, lm_n32_3, lm_sn32_3, lm_n33, lm_sn33, lm_n34, lm_sn34, tu_at, tu_ne, tu_nk, vu_at, vu_ne, jb_some, Option.bind_some, Option.bind_none, one0, if_true, if_false, if_pos hp, if_pos hb, dt.1, m1, m2]
        exact ⟨_, _, _, rfl, rfl, Rst_mk (Rel_succ hR)⟩
      · by_cases hs : nb = 200
        · simp -implicitDefEqProofs (maxSteps := 2000000) (disch := omega) only [lm_is, lm_g0, lm_g1, lm_g2, lm_g3, lm_g4, lm_g5, lm_g6, lm_g7, lm_g8, lm_g9, lm_g10, lm_g11, lm_g12, lm_g13, lm_g14, lm_g15, lm_g16, lm_g17, lm_g18, lm_g19, lm_g20, lm_g21, lm_g22, lm_g23, lm_g24, lm_g25, lm_g26, lm_g27, lm_g28, lm_g29, lm_g30, lm_g31, lm_g32, lm_g33, lm_g34, lm_g35, lm_g36, lm_g37, lm_g38, lm_g39, lm_g40, lm_g41, lm_g42, lm_g43, lm_g44, lm_g45, lm_g46, lm_g47, lm_g48, lm_g49, lm_g50, lm_g51, lm_p1, lm_p6, lm_p12, lm_p13, lm_p22, lm_p23, lm_p29, lm_p30, lm_p31, lm_p32, lm_p33, lm_p34, lm_p35, lm_p37, lm_p41, lm_p44, lm_p45, lm_p51, y_is, y_g0, y_g1, y_p1, y_g2, y_g3, y_p3, y_g4, y_p4, y_g5, y_g6, y_g7, y_g8, y_g9, y_g10, y_p10, y_g12, y_p12, y_g13, y_g14, y_p14, y_g15, y_g16, y_p16, y_g17, y_g18, y_p18, y_g19, y_p19, y_g20, y_g21, y_g22, y_p22, y_g23, y_p23, y_g24, y_p24, y_g25, y_p25, y_g26, y_g27, y_p27, y_g11, y_r11, y12_is, y12_g0, y12_p0, y12_g1, y12_g2, y12_p2, y12_g3, y13_is, y13_g0, y13_p0, y13_g1, y13_g2, y13_p2, y13_g3, y14_is, y14_g0, y14_p0, y14_g1, y14_g2, y14_p2, y14_g3, y1_i, y1_i0, y1_i1, y1_i2, y1_i3, y1_i4, y1_i5, y11_i, y11_i0, y11_i1, y11_i2, y11_i3, y11_i4, y11_i5, y11_s, y11_s0, y11_s1, y11_s2, y11_s3, y11_s4, y11_s5, y16_i, y16_i0, y16_i1, y16_i2, y16_s, y16_s0, y16_s1, y16_s2, y17_i, y17_i0, y17_i1, y17_i2, y17_i3, y17_i4, y17_i5, y17_s, y17_s0, y17_s1, y17_s2, y17_s3, y17_s4, y17_s5, y19_i, y19_i0, y19_i1, y19_i2, y19_i3, y19_i4, y19_i5, y19_i6, y19_s, y19_s0, y19_s1, y19_s2, y19_s3, y19_s4, y19_s5, y19_s6, y20_i, y20_i0, y20_i1, y20_i2, y20_i3, y20_i4, y20_i5, y20_i6, y20_s, y20_s0, y20_s1, y20_s2, y20_s3, y20_s4, y20_s5, y20_s6, y9_a, y10_a, y15_a, y18_a, y21_a, yp_is, yp_g0, yp_p0, yp_g1, yp_p1, yp_g2, yp_p2, yp_g3, yp_p3, yp_g4, yl_is, yl_g0, yl_p0, yl_g2, yl_p2, yl_e, yl_e0, ye_a, yo_is, yo_g0, yo_p0, yo_g1, yo_p1, yd_is, yd_g0, yd_g1, yd_p1, yd_g2, yd_p2, yd_g3, yd_p3, yd_g4, yd_p4, yd_g5, yd_p5, yd_g6, yd_p6, yb_is, yb_g0, yb_g1, yb_p1, yb_g2, yb_p2, yb_g3, yb_p3, yb_g4, yb_p4, yb_g5, yb_p5, yb_g6, yb_p6, yb_g7, yb_p7, ys_is, ys_g0, ys_p0, ys_r, ys_a, yj_i, yj_i0, yj_s0, yj_i1, yj_s1, yj_i2, yj_s2, lm_n1, lm_sn1, lm_n1_0, lm_sn1_0, lm_n1_1, lm_sn1_1, lm_n1_2, lm_sn1_2, lm_n1_3, lm_sn1_3, lm_n1_4, lm_sn1_4, lm_n1_5, lm_sn1_5, lm_n2, lm_sn2, lm_n3, lm_sn3, lm_n4, lm_sn4, lm_n5, lm_sn5, lm_n6, lm_sn6, lm_n7, lm_sn7, lm_n8, lm_sn8, lm_n9, lm_sn9, lm_n10, lm_sn10, lm_n11, lm_sn11, lm_n12, lm_sn12, lm_n13, lm_sn13, lm_n14, lm_sn14, lm_n15, lm_sn15, lm_n16, lm_sn16, lm_n17, lm_sn17, lm_n18, lm_sn18, lm_n19, lm_n19_0, lm_sn19_0, lm_n19_1, lm_sn19_1, lm_n19_2, lm_sn19_2, lm_n19_3, lm_sn19_3, lm_n19_4, lm_sn19_4, lm_n19_5, lm_sn19_5, lm_n19_6, lm_sn19_6, lm_n20, lm_sn20, lm_n21, lm_sn21, lm_n22, lm_sn22, lm_n23, lm_sn23, lm_n23_0, lm_sn23_0, lm_n23_1, lm_sn23_1, lm_n23_2, lm_sn23_2, lm_n24, lm_sn24, lm_n24_0, lm_sn24_0, lm_n24_1, lm_sn24_1, lm_n24_2, lm_sn24_2, lm_n24_3, lm_sn24_3, lm_n24_4, lm_sn24_4, lm_n24_5, lm_sn24_5, lm_n25, lm_sn25, lm_n25_0, lm_sn25_0, lm_n25_1, lm_sn25_1, lm_n25_2, lm_sn25_2, lm_n25_3, lm_sn25_3, lm_n25_4, lm_sn25_4, lm_n25_5, lm_sn25_5, lm_n25_6, lm_sn25_6, lm_n26, lm_sn26, lm_n26_0, lm_sn26_0, lm_n26_1, lm_sn26_1, lm_n26_2, lm_sn26_2, lm_n26_3, lm_sn26_3, lm_n26_4, lm_sn26_4, lm_n26_5, lm_sn26_5, lm_n26_6, lm_sn26_6, lm_n27, lm_sn27, lm_n27_0, lm_sn27_0, lm_n27_1, lm_sn27_1, lm_n27_2, lm_sn27_2, lm_n27_3, lm_sn27_3, lm_n27_4, lm_sn27_4, lm_n27_5, lm_sn27_5, lm_n27_6, lm_sn27_6, lm_n28, lm_sn28, lm_n28_0, lm_sn28_0, lm_n28_1, lm_sn28_1, lm_n28_2, lm_sn28_2, lm_n28_3, lm_sn28_3, lm_n28_4, lm_sn28_4, lm_n28_5, lm_sn28_5, lm_n28_6, lm_sn28_6, lm_n29, lm_sn29, lm_n29_0, lm_sn29_0, lm_n29_1, lm_sn29_1, lm_n29_2, lm_sn29_2, lm_n29_3, lm_sn29_3, lm_n29_4, lm_sn29_4, lm_n29_5, lm_sn29_5, lm_n29_6, lm_sn29_6, lm_n30, lm_sn30, lm_n31, lm_sn31, lm_n31_0, lm_sn31_0, lm_n31_1, lm_sn31_1, lm_n31_2, lm_sn31_2, lm_n31_3, lm_sn31_3, lm_n32, lm_sn32, lm_n32_0, lm_sn32_0, lm_n32_1, lm_sn32_1, lm_n32_2, lm_sn32_2, lm_n32_3, lm_sn32_3, lm_n33, lm_sn33, lm_n34, lm_sn34, tu_at, tu_ne, tu_nk, vu_at, vu_ne, jb_some, Option.bind_some, Option.bind_none, one0, if_true, if_false, if_pos hp, if_pos hb, dt.1, m1, m2, bT, bF, on_l200, eq_true hs]
          exact ⟨_, _, _, rfl, rfl, Rst_mk (Rel_succ hR)⟩
        · have hn : nb < 200 := by omega
          have hni : jNI (lay (kX np nd nb no rk) T (rX np nd nb no dp bd ld rw)) 8 0 10 = nb := by
            unfold jNI
            rw [y_g10, bT]
            exact on (by omega)
          have hLW : LW A := fun k hk => (hL.2 k hk).2
          obtain ⟨v1, v2, v3, v4, v5, v6⟩ := bv_t hLW ⟨x2.1, x2.2.1⟩ hb
          have j1 := jnew_lay (a := 1000 + nb) (T := T) (R := rX np nd nb no dp bd ld rw) (8, 0) (fun _ => 0) (fun _ => none) (kX_bar0 (np := np) (nd := nd) (no := no) (rk := rk) (Nat.le_refl nb)) (by omega) (o := .inr (7, [.null, .int 0, .int 0, .int 0, .int 0, .int 0, .int 0, .int 0])) rfl
          rw [kX_newbar] at j1
          have x1' := barOf_eq (np := np) (nd := nd) (nb := nb + 1) (na := nb) (no := no) (dp := dp) (bd := va_up bd nb d) (ld := ld) (rw := rw) (rk := rk) (A := A) (T := tu (tu (va_up T (1000 + nb) (fun _ => 0)) (1000 + nb) 6 (-1)) (1000 + nb) 1 b) q1 p8 b (by simp (disch := omega) only [tu_ne, vu_ne]; exact (hL.2 0 (by decide)).1) (by simp (disch := omega) only [tu_ne, vu_ne]; exact (hL.2 5 (by decide)).1) (by simp (disch := omega) only [tu_ne, vu_ne]; exact x1.2.1)
          have main := press_main (GF := GF) (GA := GA) hR hc hd hn hb
          have j123 : f_X0_press_j123 8 (200 + d) (1000 + nb) (T 14 0) 8 (bvA A (dp d) b) (lay (kX np nd (nb + 1) no rk) (nT T nb b (bvA A (dp d) b)) (rX np nd nb no dp (va_up bd nb d) ld rw)) = f_X0_press_j124 8 (200 + d) (1000 + nb) (T 14 0) 8 (bvA A (dp d) b) 0 (lay (kX np nd (nb + 1) no rk) (nT T nb b (bvA A (dp d) b)) (rX np nd nb no dp (va_up bd nb d) ld rw)) := rfl
          have j84 : f_X5_press_j84 8 (Int32.ofNat d) b (Int32.ofNat (dp d)) 8 (Int32.ofNat (dp d)) b (layM F A L GF GA) = f_X5_press_j85 8 (Int32.ofNat d) b (Int32.ofNat (dp d)) 8 (Int32.ofNat (dp d)) b 0 (layM F A L GF GA) := rfl
          have gfr := nT_fr (T := T) (i := nb) (b := b) (bv := bvA A (dp d) b)
          have en2 : nT T nb b (bvA A (dp d) b) (1000 + nb) 2 = bvA A (dp d) b := tu_at _ _ _ _
          have enT : tu (tu (tu (va_up T (1000 + nb) (fun _ => 0)) (1000 + nb) 6 (-1)) (1000 + nb) 1 b) (1000 + nb) 2 (bvA A (dp d) b) = nT T nb b (bvA A (dp d) b) := rfl
          unfold f_X8_init
          simp -implicitDefEqProofs (maxSteps := 2000000) (disch := omega) only [lm_is, lm_g0, lm_g1, lm_g2, lm_g3, lm_g4, lm_g5, lm_g6, lm_g7, lm_g8, lm_g9, lm_g10, lm_g11, lm_g12, lm_g13, lm_g14, lm_g15, lm_g16, lm_g17, lm_g18, lm_g19, lm_g20, lm_g21, lm_g22, lm_g23, lm_g24, lm_g25, lm_g26, lm_g27, lm_g28, lm_g29, lm_g30, lm_g31, lm_g32, lm_g33, lm_g34, lm_g35, lm_g36, lm_g37, lm_g38, lm_g39, lm_g40, lm_g41, lm_g42, lm_g43, lm_g44, lm_g45, lm_g46, lm_g47, lm_g48, lm_g49, lm_g50, lm_g51, lm_p1, lm_p6, lm_p12, lm_p13, lm_p22, lm_p23, lm_p29, lm_p30, lm_p31, lm_p32, lm_p33, lm_p34, lm_p35, lm_p37, lm_p41, lm_p44, lm_p45, lm_p51, y_is, y_g0, y_g1, y_p1, y_g2, y_g3, y_p3, y_g4, y_p4, y_g5, y_g6, y_g7, y_g8, y_g9, y_g10, y_p10, y_g12, y_p12, y_g13, y_g14, y_p14, y_g15, y_g16, y_p16, y_g17, y_g18, y_p18, y_g19, y_p19, y_g20, y_g21, y_g22, y_p22, y_g23, y_p23, y_g24, y_p24, y_g25, y_p25, y_g26, y_g27, y_p27, y_g11, y_r11, y12_is, y12_g0, y12_p0, y12_g1, y12_g2, y12_p2, y12_g3, y13_is, y13_g0, y13_p0, y13_g1, y13_g2, y13_p2, y13_g3, y14_is, y14_g0, y14_p0, y14_g1, y14_g2, y14_p2, y14_g3, y1_i, y1_i0, y1_i1, y1_i2, y1_i3, y1_i4, y1_i5, y11_i, y11_i0, y11_i1, y11_i2, y11_i3, y11_i4, y11_i5, y11_s, y11_s0, y11_s1, y11_s2, y11_s3, y11_s4, y11_s5, y16_i, y16_i0, y16_i1, y16_i2, y16_s, y16_s0, y16_s1, y16_s2, y17_i, y17_i0, y17_i1, y17_i2, y17_i3, y17_i4, y17_i5, y17_s, y17_s0, y17_s1, y17_s2, y17_s3, y17_s4, y17_s5, y19_i, y19_i0, y19_i1, y19_i2, y19_i3, y19_i4, y19_i5, y19_i6, y19_s, y19_s0, y19_s1, y19_s2, y19_s3, y19_s4, y19_s5, y19_s6, y20_i, y20_i0, y20_i1, y20_i2, y20_i3, y20_i4, y20_i5, y20_i6, y20_s, y20_s0, y20_s1, y20_s2, y20_s3, y20_s4, y20_s5, y20_s6, y9_a, y10_a, y15_a, y18_a, y21_a, yp_is, yp_g0, yp_p0, yp_g1, yp_p1, yp_g2, yp_p2, yp_g3, yp_p3, yp_g4, yl_is, yl_g0, yl_p0, yl_g2, yl_p2, yl_e, yl_e0, ye_a, yo_is, yo_g0, yo_p0, yo_g1, yo_p1, yd_is, yd_g0, yd_g1, yd_p1, yd_g2, yd_p2, yd_g3, yd_p3, yd_g4, yd_p4, yd_g5, yd_p5, yd_g6, yd_p6, yb_is, yb_g0, yb_g1, yb_p1, yb_g2, yb_p2, yb_g3, yb_p3, yb_g4, yb_p4, yb_g5, yb_p5, yb_g6, yb_p6, yb_g7, yb_p7, ys_is, ys_g0, ys_p0, ys_r, ys_a, yj_i, yj_i0, yj_s0, yj_i1, yj_s1, yj_i2, yj_s2, lm_n1, lm_sn1, lm_n1_0, lm_sn1_0, lm_n1_1, lm_sn1_1, lm_n1_2, lm_sn1_2, lm_n1_3, lm_sn1_3, lm_n1_4, lm_sn1_4, lm_n1_5, lm_sn1_5, lm_n2, lm_sn2, lm_n3, lm_sn3, lm_n4, lm_sn4, lm_n5, lm_sn5, lm_n6, lm_sn6, lm_n7, lm_sn7, lm_n8, lm_sn8, lm_n9, lm_sn9, lm_n10, lm_sn10, lm_n11, lm_sn11, lm_n12, lm_sn12, lm_n13, lm_sn13, lm_n14, lm_sn14, lm_n15, lm_sn15, lm_n16, lm_sn16, lm_n17, lm_sn17, lm_n18, lm_sn18, lm_n19, lm_n19_0, lm_sn19_0, lm_n19_1, lm_sn19_1, lm_n19_2, lm_sn19_2, lm_n19_3, lm_sn19_3, lm_n19_4, lm_sn19_4, lm_n19_5, lm_sn19_5, lm_n19_6, lm_sn19_6, lm_n20, lm_sn20, lm_n21, lm_sn21, lm_n22, lm_sn22, lm_n23, lm_sn23, lm_n23_0, lm_sn23_0, lm_n23_1, lm_sn23_1, lm_n23_2, lm_sn23_2, lm_n24, lm_sn24, lm_n24_0, lm_sn24_0, lm_n24_1, lm_sn24_1, lm_n24_2, lm_sn24_2, lm_n24_3, lm_sn24_3, lm_n24_4, lm_sn24_4, lm_n24_5, lm_sn24_5, lm_n25, lm_sn25, lm_n25_0, lm_sn25_0, lm_n25_1, lm_sn25_1, lm_n25_2, lm_sn25_2, lm_n25_3, lm_sn25_3, lm_n25_4, lm_sn25_4, lm_n25_5, lm_sn25_5, lm_n25_6, lm_sn25_6, lm_n26, lm_sn26, lm_n26_0, lm_sn26_0, lm_n26_1, lm_sn26_1, lm_n26_2, lm_sn26_2, lm_n26_3, lm_sn26_3, lm_n26_4, lm_sn26_4, lm_n26_5, lm_sn26_5, lm_n26_6, lm_sn26_6, lm_n27, lm_sn27, lm_n27_0, lm_sn27_0, lm_n27_1, lm_sn27_1, lm_n27_2, lm_sn27_2, lm_n27_3, lm_sn27_3, lm_n27_4, lm_sn27_4, lm_n27_5, lm_sn27_5, lm_n27_6, lm_sn27_6, lm_n28, lm_sn28, lm_n28_0, lm_sn28_0, lm_n28_1, lm_sn28_1, lm_n28_2, lm_sn28_2, lm_n28_3, lm_sn28_3, lm_n28_4, lm_sn28_4, lm_n28_5, lm_sn28_5, lm_n28_6, lm_sn28_6, lm_n29, lm_sn29, lm_n29_0, lm_sn29_0, lm_n29_1, lm_sn29_1, lm_n29_2, lm_sn29_2, lm_n29_3, lm_sn29_3, lm_n29_4, lm_sn29_4, lm_n29_5, lm_sn29_5, lm_n29_6, lm_sn29_6, lm_n30, lm_sn30, lm_n31, lm_sn31, lm_n31_0, lm_sn31_0, lm_n31_1, lm_sn31_1, lm_n31_2, lm_sn31_2, lm_n31_3, lm_sn31_3, lm_n32, lm_sn32, lm_n32_0, lm_sn32_0, lm_n32_1, lm_sn32_1, lm_n32_2, lm_sn32_2, lm_n32_3, lm_sn32_3, lm_n33, lm_sn33, lm_n34, lm_sn34, tu_at, tu_ne, tu_nk, vu_at, vu_ne, jb_some, Option.bind_some, Option.bind_none, one0, if_true, if_false, if_pos hp, if_pos hb, dt.1, m1, m2, bT, bF, on_l200, hs, hni, j1, yb_p0, rX_bar1, x1', enT, en2, q2, gfr, j123, j84]
          rcases hT with ⟨t1, t2⟩ | ⟨e, he, t1, t2, t3⟩
          · subst t1
            have n1 : ¬ ((-1 : Int32) = Int32.ofNat d) := fun h => by
              have h2 := h.symm
              rw [ofn_m1 (show d < 100000 by omega)] at h2
              exact h2
            simp only [t2, if_neg n1]
            exact main 0 (.inl rfl)
          · subst t1
            simp only [t2, t3, on_eq (show e < 100000 by omega) (show d < 100000 by omega)]
            by_cases hed : e = d
            · have hed' : 200 + e = 200 + d := by omega
              simp only [if_pos hed, if_pos hed']
              by_cases g : F 23 = F 12 - 1
              · simp only [if_pos g]
                exact main 1 (.inr rfl)
              · simp only [if_neg g]
                exact main 0 (.inl rfl)
            · have hed' : ¬ 200 + e = 200 + d := by omega
              simp only [if_neg hed, if_neg hed']
              exact main 0 (.inl rfl)
    · simp only [if_pos hp, if_neg hb, if_true, one0, if_false]
      exact ⟨_, _, _, rfl, rfl, Rst_mk (Rel_succ hR)⟩
  · simp only [if_neg hp, if_true]
    exact ⟨_, _, _, rfl, rfl, Rst_mk (Rel_succ hR)⟩
