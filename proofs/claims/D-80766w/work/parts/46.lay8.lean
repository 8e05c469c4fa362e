/-! the component's heap at its own names (printed by gen/lay8.py) -/
set_option maxRecDepth 100000
section L8
variable {np nd nb na : Nat} {no dp bd : Nat → Nat} {ld : Option Nat} {rw : Nat → Option Nat} {rk : Nat → Nat × Nat} {T : Nat → Nat → Int32} {R : Nat → Nat → Option Nat}
theorem y_is : jis (lay (kX np nd nb no rk) T R) 8 0 = some () := lx_is0 rfl
theorem y_g0 : jgA (lay (kX np nd nb no rk) T (rX np nd na no dp bd ld rw)) 8 0 0 = some 9 := lx_g0_0 rfl
theorem y_g1 : jgI (lay (kX np nd nb no rk) T R) 8 0 1 = some (T 8 1) := lx_g0_1 rfl
theorem y_p1 (v : Int32) : jpF (lay (kX np nd nb no rk) T R) 8 0 1 (.int v) = some (lay (kX np nd nb no rk) (tu T 8 1 v) R) := lx_p0_1 rfl (by decide) v
theorem y_g2 : jgA (lay (kX np nd nb no rk) T (rX np nd na no dp bd ld rw)) 8 0 2 = some 10 := lx_g0_2 rfl
theorem y_g3 : jgI (lay (kX np nd nb no rk) T R) 8 0 3 = some (T 8 3) := lx_g0_3 rfl
theorem y_p3 (v : Int32) : jpF (lay (kX np nd nb no rk) T R) 8 0 3 (.int v) = some (lay (kX np nd nb no rk) (tu T 8 3 v) R) := lx_p0_3 rfl (by decide) v
theorem y_g4 : jgI (lay (kX np nd nb no rk) T R) 8 0 4 = some (T 8 4) := lx_g0_4 rfl
theorem y_p4 (v : Int32) : jpF (lay (kX np nd nb no rk) T R) 8 0 4 (.int v) = some (lay (kX np nd nb no rk) (tu T 8 4 v) R) := lx_p0_4 rfl (by decide) v
theorem y_g5 : jgA (lay (kX np nd nb no rk) T (rX np nd na no dp bd ld rw)) 8 0 5 = some 11 := lx_g0_5 rfl
theorem y_g6 : jgA (lay (kX np nd nb no rk) T (rX np nd na no dp bd ld rw)) 8 0 6 = some 12 := lx_g0_6 rfl
theorem y_g7 : jgA (lay (kX np nd nb no rk) T (rX np nd na no dp bd ld rw)) 8 0 7 = some 13 := lx_g0_7 rfl
theorem y_g8 : jgA (lay (kX np nd nb no rk) T (rX np nd na no dp bd ld rw)) 8 0 8 = some 14 := lx_g0_8 rfl
theorem y_g9 : jgA (lay (kX np nd nb no rk) T (rX np nd na no dp bd ld rw)) 8 0 9 = some 15 := lx_g0_9 rfl
theorem y_g10 : jgI (lay (kX np nd nb no rk) T R) 8 0 10 = some (T 8 10) := lx_g0_10 rfl
theorem y_p10 (v : Int32) : jpF (lay (kX np nd nb no rk) T R) 8 0 10 (.int v) = some (lay (kX np nd nb no rk) (tu T 8 10 v) R) := lx_p0_10 rfl (by decide) v
theorem y_g12 : jgI (lay (kX np nd nb no rk) T R) 8 0 12 = some (T 8 12) := lx_g0_12 rfl
theorem y_p12 (v : Int32) : jpF (lay (kX np nd nb no rk) T R) 8 0 12 (.int v) = some (lay (kX np nd nb no rk) (tu T 8 12 v) R) := lx_p0_12 rfl (by decide) v
theorem y_g13 : jgA (lay (kX np nd nb no rk) T (rX np nd na no dp bd ld rw)) 8 0 13 = some 16 := lx_g0_13 rfl
theorem y_g14 : jgI (lay (kX np nd nb no rk) T R) 8 0 14 = some (T 8 14) := lx_g0_14 rfl
theorem y_p14 (v : Int32) : jpF (lay (kX np nd nb no rk) T R) 8 0 14 (.int v) = some (lay (kX np nd nb no rk) (tu T 8 14 v) R) := lx_p0_14 rfl (by decide) v
theorem y_g15 : jgA (lay (kX np nd nb no rk) T (rX np nd na no dp bd ld rw)) 8 0 15 = some 17 := lx_g0_15 rfl
theorem y_g16 : jgI (lay (kX np nd nb no rk) T R) 8 0 16 = some (T 8 16) := lx_g0_16 rfl
theorem y_p16 (v : Int32) : jpF (lay (kX np nd nb no rk) T R) 8 0 16 (.int v) = some (lay (kX np nd nb no rk) (tu T 8 16 v) R) := lx_p0_16 rfl (by decide) v
theorem y_g17 : jgA (lay (kX np nd nb no rk) T (rX np nd na no dp bd ld rw)) 8 0 17 = some 18 := lx_g0_17 rfl
theorem y_g18 : jgI (lay (kX np nd nb no rk) T R) 8 0 18 = some (T 8 18) := lx_g0_18 rfl
theorem y_p18 (v : Int32) : jpF (lay (kX np nd nb no rk) T R) 8 0 18 (.int v) = some (lay (kX np nd nb no rk) (tu T 8 18 v) R) := lx_p0_18 rfl (by decide) v
theorem y_g19 : jgI (lay (kX np nd nb no rk) T R) 8 0 19 = some (T 8 19) := lx_g0_19 rfl
theorem y_p19 (v : Int32) : jpF (lay (kX np nd nb no rk) T R) 8 0 19 (.int v) = some (lay (kX np nd nb no rk) (tu T 8 19 v) R) := lx_p0_19 rfl (by decide) v
theorem y_g20 : jgA (lay (kX np nd nb no rk) T (rX np nd na no dp bd ld rw)) 8 0 20 = some 19 := lx_g0_20 rfl
theorem y_g21 : jgA (lay (kX np nd nb no rk) T (rX np nd na no dp bd ld rw)) 8 0 21 = some 20 := lx_g0_21 rfl
theorem y_g22 : jgI (lay (kX np nd nb no rk) T R) 8 0 22 = some (T 8 22) := lx_g0_22 rfl
theorem y_p22 (v : Int32) : jpF (lay (kX np nd nb no rk) T R) 8 0 22 (.int v) = some (lay (kX np nd nb no rk) (tu T 8 22 v) R) := lx_p0_22 rfl (by decide) v
theorem y_g23 : jgI (lay (kX np nd nb no rk) T R) 8 0 23 = some (T 8 23) := lx_g0_23 rfl
theorem y_p23 (v : Int32) : jpF (lay (kX np nd nb no rk) T R) 8 0 23 (.int v) = some (lay (kX np nd nb no rk) (tu T 8 23 v) R) := lx_p0_23 rfl (by decide) v
theorem y_g24 : jgI (lay (kX np nd nb no rk) T R) 8 0 24 = some (T 8 24) := lx_g0_24 rfl
theorem y_p24 (v : Int32) : jpF (lay (kX np nd nb no rk) T R) 8 0 24 (.int v) = some (lay (kX np nd nb no rk) (tu T 8 24 v) R) := lx_p0_24 rfl (by decide) v
theorem y_g25 : jgI (lay (kX np nd nb no rk) T R) 8 0 25 = some (T 8 25) := lx_g0_25 rfl
theorem y_p25 (v : Int32) : jpF (lay (kX np nd nb no rk) T R) 8 0 25 (.int v) = some (lay (kX np nd nb no rk) (tu T 8 25 v) R) := lx_p0_25 rfl (by decide) v
theorem y_g26 : jgA (lay (kX np nd nb no rk) T (rX np nd na no dp bd ld rw)) 8 0 26 = some 21 := lx_g0_26 rfl
theorem y_g27 : jgI (lay (kX np nd nb no rk) T R) 8 0 27 = some (T 8 27) := lx_g0_27 rfl
theorem y_p27 (v : Int32) : jpF (lay (kX np nd nb no rk) T R) 8 0 27 (.int v) = some (lay (kX np nd nb no rk) (tu T 8 27 v) R) := lx_p0_27 rfl (by decide) v
theorem y_g11 : jgA (lay (kX np nd nb no rk) T (rX np nd na no dp bd ld rw)) 8 0 11 = ld := lx_g0_11 rfl
theorem y_r11 : jgR (lay (kX np nd nb no rk) T (rX np nd na no dp bd ld rw)) 8 0 11 = some ld := lx_r0_11 rfl
theorem y12_is : jis (lay (kX np nd nb no rk) T R) 12 1 = some () := lx_is1 rfl
theorem y12_g0 : jgI (lay (kX np nd nb no rk) T R) 12 1 0 = some (T 12 0) := lx_g1_0 rfl
theorem y12_p0 (v : Int32) : jpF (lay (kX np nd nb no rk) T R) 12 1 0 (.int v) = some (lay (kX np nd nb no rk) (tu T 12 0 v) R) := lx_p1_0 rfl (by decide) v
theorem y12_g1 : jgA (lay (kX np nd nb no rk) T (rX np nd na no dp bd ld rw)) 12 1 1 = some 8 := lx_g1_1 rfl
theorem y12_g2 : jgI (lay (kX np nd nb no rk) T R) 12 1 2 = some (T 12 2) := lx_g1_2 rfl
theorem y12_p2 (v : Int32) : jpF (lay (kX np nd nb no rk) T R) 12 1 2 (.int v) = some (lay (kX np nd nb no rk) (tu T 12 2 v) R) := lx_p1_2 rfl (by decide) v
theorem y12_g3 : jgA (lay (kX np nd nb no rk) T (rX np nd na no dp bd ld rw)) 12 1 3 = some 8 := lx_g1_3 rfl
theorem y13_is : jis (lay (kX np nd nb no rk) T R) 13 1 = some () := lx_is1 rfl
theorem y13_g0 : jgI (lay (kX np nd nb no rk) T R) 13 1 0 = some (T 13 0) := lx_g1_0 rfl
theorem y13_p0 (v : Int32) : jpF (lay (kX np nd nb no rk) T R) 13 1 0 (.int v) = some (lay (kX np nd nb no rk) (tu T 13 0 v) R) := lx_p1_0 rfl (by decide) v
theorem y13_g1 : jgA (lay (kX np nd nb no rk) T (rX np nd na no dp bd ld rw)) 13 1 1 = some 8 := lx_g1_1 rfl
theorem y13_g2 : jgI (lay (kX np nd nb no rk) T R) 13 1 2 = some (T 13 2) := lx_g1_2 rfl
theorem y13_p2 (v : Int32) : jpF (lay (kX np nd nb no rk) T R) 13 1 2 (.int v) = some (lay (kX np nd nb no rk) (tu T 13 2 v) R) := lx_p1_2 rfl (by decide) v
theorem y13_g3 : jgA (lay (kX np nd nb no rk) T (rX np nd na no dp bd ld rw)) 13 1 3 = some 8 := lx_g1_3 rfl
theorem y14_is : jis (lay (kX np nd nb no rk) T R) 14 2 = some () := lx_is2 rfl
theorem y14_g0 : jgI (lay (kX np nd nb no rk) T R) 14 2 0 = some (T 14 0) := lx_g2_0 rfl
theorem y14_p0 (v : Int32) : jpF (lay (kX np nd nb no rk) T R) 14 2 0 (.int v) = some (lay (kX np nd nb no rk) (tu T 14 0 v) R) := lx_p2_0 rfl (by decide) v
theorem y14_g1 : jgA (lay (kX np nd nb no rk) T (rX np nd na no dp bd ld rw)) 14 2 1 = some 8 := lx_g2_1 rfl
theorem y14_g2 : jgI (lay (kX np nd nb no rk) T R) 14 2 2 = some (T 14 2) := lx_g2_2 rfl
theorem y14_p2 (v : Int32) : jpF (lay (kX np nd nb no rk) T R) 14 2 2 (.int v) = some (lay (kX np nd nb no rk) (tu T 14 2 v) R) := lx_p2_2 rfl (by decide) v
theorem y14_g3 : jgA (lay (kX np nd nb no rk) T (rX np nd na no dp bd ld rw)) 14 2 3 = some 8 := lx_g2_3 rfl
theorem y1_i (j : Nat) (h : j < 6) : jaI (lay (kX np nd nb no rk) T R) 1 .int (Int32.ofNat j) = some (T 1 j) := lx_in11 rfl j h (by omega)
theorem y1_i0 : jaI (lay (kX np nd nb no rk) T R) 1 .int 0 = some (T 1 0) := lx_in11 rfl 0 (Nat.le_of_ble_eq_true rfl) (by omega)
theorem y1_i1 : jaI (lay (kX np nd nb no rk) T R) 1 .int 1 = some (T 1 1) := lx_in11 rfl 1 (Nat.le_of_ble_eq_true rfl) (by omega)
theorem y1_i2 : jaI (lay (kX np nd nb no rk) T R) 1 .int 2 = some (T 1 2) := lx_in11 rfl 2 (Nat.le_of_ble_eq_true rfl) (by omega)
theorem y1_i3 : jaI (lay (kX np nd nb no rk) T R) 1 .int 3 = some (T 1 3) := lx_in11 rfl 3 (Nat.le_of_ble_eq_true rfl) (by omega)
theorem y1_i4 : jaI (lay (kX np nd nb no rk) T R) 1 .int 4 = some (T 1 4) := lx_in11 rfl 4 (Nat.le_of_ble_eq_true rfl) (by omega)
theorem y1_i5 : jaI (lay (kX np nd nb no rk) T R) 1 .int 5 = some (T 1 5) := lx_in11 rfl 5 (Nat.le_of_ble_eq_true rfl) (by omega)
theorem y11_i (j : Nat) (h : j < 6) : jaI (lay (kX np nd nb no rk) T R) 11 .int (Int32.ofNat j) = some (T 11 j) := lx_in11 rfl j h (by omega)
theorem y11_i0 : jaI (lay (kX np nd nb no rk) T R) 11 .int 0 = some (T 11 0) := lx_in11 rfl 0 (Nat.le_of_ble_eq_true rfl) (by omega)
theorem y11_i1 : jaI (lay (kX np nd nb no rk) T R) 11 .int 1 = some (T 11 1) := lx_in11 rfl 1 (Nat.le_of_ble_eq_true rfl) (by omega)
theorem y11_i2 : jaI (lay (kX np nd nb no rk) T R) 11 .int 2 = some (T 11 2) := lx_in11 rfl 2 (Nat.le_of_ble_eq_true rfl) (by omega)
theorem y11_i3 : jaI (lay (kX np nd nb no rk) T R) 11 .int 3 = some (T 11 3) := lx_in11 rfl 3 (Nat.le_of_ble_eq_true rfl) (by omega)
theorem y11_i4 : jaI (lay (kX np nd nb no rk) T R) 11 .int 4 = some (T 11 4) := lx_in11 rfl 4 (Nat.le_of_ble_eq_true rfl) (by omega)
theorem y11_i5 : jaI (lay (kX np nd nb no rk) T R) 11 .int 5 = some (T 11 5) := lx_in11 rfl 5 (Nat.le_of_ble_eq_true rfl) (by omega)
theorem y11_s (j : Nat) (v : Int32) (h : j < 6) : jaSI (lay (kX np nd nb no rk) T R) 11 (Int32.ofNat j) v = some (lay (kX np nd nb no rk) (tu T 11 j v) R) := by
  rw [lx_s11 rfl (by decide) _ v (by rw [oi (by omega)]; omega) (by rw [oi (by omega)]; exact Int.ofNat_lt.mpr h), on (by omega)]
theorem y11_s0 (v : Int32) : jaSI (lay (kX np nd nb no rk) T R) 11 0 v = some (lay (kX np nd nb no rk) (tu T 11 0 v) R) := y11_s 0 v (by decide)
theorem y11_s1 (v : Int32) : jaSI (lay (kX np nd nb no rk) T R) 11 1 v = some (lay (kX np nd nb no rk) (tu T 11 1 v) R) := y11_s 1 v (by decide)
theorem y11_s2 (v : Int32) : jaSI (lay (kX np nd nb no rk) T R) 11 2 v = some (lay (kX np nd nb no rk) (tu T 11 2 v) R) := y11_s 2 v (by decide)
theorem y11_s3 (v : Int32) : jaSI (lay (kX np nd nb no rk) T R) 11 3 v = some (lay (kX np nd nb no rk) (tu T 11 3 v) R) := y11_s 3 v (by decide)
theorem y11_s4 (v : Int32) : jaSI (lay (kX np nd nb no rk) T R) 11 4 v = some (lay (kX np nd nb no rk) (tu T 11 4 v) R) := y11_s 4 v (by decide)
theorem y11_s5 (v : Int32) : jaSI (lay (kX np nd nb no rk) T R) 11 5 v = some (lay (kX np nd nb no rk) (tu T 11 5 v) R) := y11_s 5 v (by decide)
theorem y16_i (j : Nat) (h : j < 3) : jaI (lay (kX np nd nb no rk) T R) 16 .int (Int32.ofNat j) = some (T 16 j) := lx_in11 rfl j h (by omega)
theorem y16_i0 : jaI (lay (kX np nd nb no rk) T R) 16 .int 0 = some (T 16 0) := lx_in11 rfl 0 (Nat.le_of_ble_eq_true rfl) (by omega)
theorem y16_i1 : jaI (lay (kX np nd nb no rk) T R) 16 .int 1 = some (T 16 1) := lx_in11 rfl 1 (Nat.le_of_ble_eq_true rfl) (by omega)
theorem y16_i2 : jaI (lay (kX np nd nb no rk) T R) 16 .int 2 = some (T 16 2) := lx_in11 rfl 2 (Nat.le_of_ble_eq_true rfl) (by omega)
theorem y16_s (j : Nat) (v : Int32) (h : j < 3) : jaSI (lay (kX np nd nb no rk) T R) 16 (Int32.ofNat j) v = some (lay (kX np nd nb no rk) (tu T 16 j v) R) := by
  rw [lx_s11 rfl (by decide) _ v (by rw [oi (by omega)]; omega) (by rw [oi (by omega)]; exact Int.ofNat_lt.mpr h), on (by omega)]
theorem y16_s0 (v : Int32) : jaSI (lay (kX np nd nb no rk) T R) 16 0 v = some (lay (kX np nd nb no rk) (tu T 16 0 v) R) := y16_s 0 v (by decide)
theorem y16_s1 (v : Int32) : jaSI (lay (kX np nd nb no rk) T R) 16 1 v = some (lay (kX np nd nb no rk) (tu T 16 1 v) R) := y16_s 1 v (by decide)
theorem y16_s2 (v : Int32) : jaSI (lay (kX np nd nb no rk) T R) 16 2 v = some (lay (kX np nd nb no rk) (tu T 16 2 v) R) := y16_s 2 v (by decide)
theorem y17_i (j : Nat) (h : j < 6) : jaI (lay (kX np nd nb no rk) T R) 17 .int (Int32.ofNat j) = some (T 17 j) := lx_in11 rfl j h (by omega)
theorem y17_i0 : jaI (lay (kX np nd nb no rk) T R) 17 .int 0 = some (T 17 0) := lx_in11 rfl 0 (Nat.le_of_ble_eq_true rfl) (by omega)
theorem y17_i1 : jaI (lay (kX np nd nb no rk) T R) 17 .int 1 = some (T 17 1) := lx_in11 rfl 1 (Nat.le_of_ble_eq_true rfl) (by omega)
theorem y17_i2 : jaI (lay (kX np nd nb no rk) T R) 17 .int 2 = some (T 17 2) := lx_in11 rfl 2 (Nat.le_of_ble_eq_true rfl) (by omega)
theorem y17_i3 : jaI (lay (kX np nd nb no rk) T R) 17 .int 3 = some (T 17 3) := lx_in11 rfl 3 (Nat.le_of_ble_eq_true rfl) (by omega)
theorem y17_i4 : jaI (lay (kX np nd nb no rk) T R) 17 .int 4 = some (T 17 4) := lx_in11 rfl 4 (Nat.le_of_ble_eq_true rfl) (by omega)
theorem y17_i5 : jaI (lay (kX np nd nb no rk) T R) 17 .int 5 = some (T 17 5) := lx_in11 rfl 5 (Nat.le_of_ble_eq_true rfl) (by omega)
theorem y17_s (j : Nat) (v : Int32) (h : j < 6) : jaSI (lay (kX np nd nb no rk) T R) 17 (Int32.ofNat j) v = some (lay (kX np nd nb no rk) (tu T 17 j v) R) := by
  rw [lx_s11 rfl (by decide) _ v (by rw [oi (by omega)]; omega) (by rw [oi (by omega)]; exact Int.ofNat_lt.mpr h), on (by omega)]
theorem y17_s0 (v : Int32) : jaSI (lay (kX np nd nb no rk) T R) 17 0 v = some (lay (kX np nd nb no rk) (tu T 17 0 v) R) := y17_s 0 v (by decide)
theorem y17_s1 (v : Int32) : jaSI (lay (kX np nd nb no rk) T R) 17 1 v = some (lay (kX np nd nb no rk) (tu T 17 1 v) R) := y17_s 1 v (by decide)
theorem y17_s2 (v : Int32) : jaSI (lay (kX np nd nb no rk) T R) 17 2 v = some (lay (kX np nd nb no rk) (tu T 17 2 v) R) := y17_s 2 v (by decide)
theorem y17_s3 (v : Int32) : jaSI (lay (kX np nd nb no rk) T R) 17 3 v = some (lay (kX np nd nb no rk) (tu T 17 3 v) R) := y17_s 3 v (by decide)
theorem y17_s4 (v : Int32) : jaSI (lay (kX np nd nb no rk) T R) 17 4 v = some (lay (kX np nd nb no rk) (tu T 17 4 v) R) := y17_s 4 v (by decide)
theorem y17_s5 (v : Int32) : jaSI (lay (kX np nd nb no rk) T R) 17 5 v = some (lay (kX np nd nb no rk) (tu T 17 5 v) R) := y17_s 5 v (by decide)
theorem y19_i (j : Nat) (h : j < 7) : jaI (lay (kX np nd nb no rk) T R) 19 .int (Int32.ofNat j) = some (T 19 j) := lx_in11 rfl j h (by omega)
theorem y19_i0 : jaI (lay (kX np nd nb no rk) T R) 19 .int 0 = some (T 19 0) := lx_in11 rfl 0 (Nat.le_of_ble_eq_true rfl) (by omega)
theorem y19_i1 : jaI (lay (kX np nd nb no rk) T R) 19 .int 1 = some (T 19 1) := lx_in11 rfl 1 (Nat.le_of_ble_eq_true rfl) (by omega)
theorem y19_i2 : jaI (lay (kX np nd nb no rk) T R) 19 .int 2 = some (T 19 2) := lx_in11 rfl 2 (Nat.le_of_ble_eq_true rfl) (by omega)
theorem y19_i3 : jaI (lay (kX np nd nb no rk) T R) 19 .int 3 = some (T 19 3) := lx_in11 rfl 3 (Nat.le_of_ble_eq_true rfl) (by omega)
theorem y19_i4 : jaI (lay (kX np nd nb no rk) T R) 19 .int 4 = some (T 19 4) := lx_in11 rfl 4 (Nat.le_of_ble_eq_true rfl) (by omega)
theorem y19_i5 : jaI (lay (kX np nd nb no rk) T R) 19 .int 5 = some (T 19 5) := lx_in11 rfl 5 (Nat.le_of_ble_eq_true rfl) (by omega)
theorem y19_i6 : jaI (lay (kX np nd nb no rk) T R) 19 .int 6 = some (T 19 6) := lx_in11 rfl 6 (Nat.le_of_ble_eq_true rfl) (by omega)
theorem y19_s (j : Nat) (v : Int32) (h : j < 7) : jaSI (lay (kX np nd nb no rk) T R) 19 (Int32.ofNat j) v = some (lay (kX np nd nb no rk) (tu T 19 j v) R) := by
  rw [lx_s11 rfl (by decide) _ v (by rw [oi (by omega)]; omega) (by rw [oi (by omega)]; exact Int.ofNat_lt.mpr h), on (by omega)]
theorem y19_s0 (v : Int32) : jaSI (lay (kX np nd nb no rk) T R) 19 0 v = some (lay (kX np nd nb no rk) (tu T 19 0 v) R) := y19_s 0 v (by decide)
theorem y19_s1 (v : Int32) : jaSI (lay (kX np nd nb no rk) T R) 19 1 v = some (lay (kX np nd nb no rk) (tu T 19 1 v) R) := y19_s 1 v (by decide)
theorem y19_s2 (v : Int32) : jaSI (lay (kX np nd nb no rk) T R) 19 2 v = some (lay (kX np nd nb no rk) (tu T 19 2 v) R) := y19_s 2 v (by decide)
theorem y19_s3 (v : Int32) : jaSI (lay (kX np nd nb no rk) T R) 19 3 v = some (lay (kX np nd nb no rk) (tu T 19 3 v) R) := y19_s 3 v (by decide)
theorem y19_s4 (v : Int32) : jaSI (lay (kX np nd nb no rk) T R) 19 4 v = some (lay (kX np nd nb no rk) (tu T 19 4 v) R) := y19_s 4 v (by decide)
theorem y19_s5 (v : Int32) : jaSI (lay (kX np nd nb no rk) T R) 19 5 v = some (lay (kX np nd nb no rk) (tu T 19 5 v) R) := y19_s 5 v (by decide)
theorem y19_s6 (v : Int32) : jaSI (lay (kX np nd nb no rk) T R) 19 6 v = some (lay (kX np nd nb no rk) (tu T 19 6 v) R) := y19_s 6 v (by decide)
theorem y20_i (j : Nat) (h : j < 7) : jaI (lay (kX np nd nb no rk) T R) 20 .int (Int32.ofNat j) = some (T 20 j) := lx_in11 rfl j h (by omega)
theorem y20_i0 : jaI (lay (kX np nd nb no rk) T R) 20 .int 0 = some (T 20 0) := lx_in11 rfl 0 (Nat.le_of_ble_eq_true rfl) (by omega)
theorem y20_i1 : jaI (lay (kX np nd nb no rk) T R) 20 .int 1 = some (T 20 1) := lx_in11 rfl 1 (Nat.le_of_ble_eq_true rfl) (by omega)
theorem y20_i2 : jaI (lay (kX np nd nb no rk) T R) 20 .int 2 = some (T 20 2) := lx_in11 rfl 2 (Nat.le_of_ble_eq_true rfl) (by omega)
theorem y20_i3 : jaI (lay (kX np nd nb no rk) T R) 20 .int 3 = some (T 20 3) := lx_in11 rfl 3 (Nat.le_of_ble_eq_true rfl) (by omega)
theorem y20_i4 : jaI (lay (kX np nd nb no rk) T R) 20 .int 4 = some (T 20 4) := lx_in11 rfl 4 (Nat.le_of_ble_eq_true rfl) (by omega)
theorem y20_i5 : jaI (lay (kX np nd nb no rk) T R) 20 .int 5 = some (T 20 5) := lx_in11 rfl 5 (Nat.le_of_ble_eq_true rfl) (by omega)
theorem y20_i6 : jaI (lay (kX np nd nb no rk) T R) 20 .int 6 = some (T 20 6) := lx_in11 rfl 6 (Nat.le_of_ble_eq_true rfl) (by omega)
theorem y20_s (j : Nat) (v : Int32) (h : j < 7) : jaSI (lay (kX np nd nb no rk) T R) 20 (Int32.ofNat j) v = some (lay (kX np nd nb no rk) (tu T 20 j v) R) := by
  rw [lx_s11 rfl (by decide) _ v (by rw [oi (by omega)]; omega) (by rw [oi (by omega)]; exact Int.ofNat_lt.mpr h), on (by omega)]
theorem y20_s0 (v : Int32) : jaSI (lay (kX np nd nb no rk) T R) 20 0 v = some (lay (kX np nd nb no rk) (tu T 20 0 v) R) := y20_s 0 v (by decide)
theorem y20_s1 (v : Int32) : jaSI (lay (kX np nd nb no rk) T R) 20 1 v = some (lay (kX np nd nb no rk) (tu T 20 1 v) R) := y20_s 1 v (by decide)
theorem y20_s2 (v : Int32) : jaSI (lay (kX np nd nb no rk) T R) 20 2 v = some (lay (kX np nd nb no rk) (tu T 20 2 v) R) := y20_s 2 v (by decide)
theorem y20_s3 (v : Int32) : jaSI (lay (kX np nd nb no rk) T R) 20 3 v = some (lay (kX np nd nb no rk) (tu T 20 3 v) R) := y20_s 3 v (by decide)
theorem y20_s4 (v : Int32) : jaSI (lay (kX np nd nb no rk) T R) 20 4 v = some (lay (kX np nd nb no rk) (tu T 20 4 v) R) := y20_s 4 v (by decide)
theorem y20_s5 (v : Int32) : jaSI (lay (kX np nd nb no rk) T R) 20 5 v = some (lay (kX np nd nb no rk) (tu T 20 5 v) R) := y20_s 5 v (by decide)
theorem y20_s6 (v : Int32) : jaSI (lay (kX np nd nb no rk) T R) 20 6 v = some (lay (kX np nd nb no rk) (tu T 20 6 v) R) := y20_s 6 v (by decide)
theorem y9_a (j : Nat) (h : j < np) (hl : np ≤ 8) : jaA (lay (kX np nd nb no rk) T (rX np nd na no dp bd ld rw)) 9 (Int32.ofNat j) = some (64 + 16 * j) := by
  rw [lx_an14 rfl j (show j < 8 by omega) (by omega), rX_9 h]
theorem y10_a (j : Nat) (h : j < nd) (hl : nd ≤ 12) : jaA (lay (kX np nd nb no rk) T (rX np nd na no dp bd ld rw)) 10 (Int32.ofNat j) = some (200 + j) := by
  rw [lx_an15 rfl j (show j < 12 by omega) (by omega), rX_10 h]
theorem y15_a (j : Nat) (h : j < na) (hl : na ≤ 200) : jaA (lay (kX np nd nb no rk) T (rX np nd na no dp bd ld rw)) 15 (Int32.ofNat j) = some (1000 + j) := by
  rw [lx_an16 rfl j (show j < 200 by omega) (by omega), rX_15 h]
theorem y18_a (j : Nat) (h : j < 7) : jaA (lay (kX np nd nb no rk) T (rX np nd na no dp bd ld rw)) 18 (Int32.ofNat j) = some (24 + j) := by
  rw [lx_an19 rfl j (show j < 7 by omega) (by omega), rX_18 h]
theorem y21_a (j : Nat) (h : j < 4) : jaA (lay (kX np nd nb no rk) T (rX np nd na no dp bd ld rw)) 21 (Int32.ofNat j) = some (32 + j) := by
  rw [lx_an17 rfl j (show j < 4 by omega) (by omega), rX_21 h]
theorem yp_is {p : Nat} (h : p < np) (h8 : np ≤ 8) : jis (lay (kX np nd nb no rk) T R) (64 + 16 * p) 4 = some () := lx_is4 (by rw [kX_prof h h8])
theorem yp_g0 {p : Nat} (h : p < np) (h8 : np ≤ 8) : jgI (lay (kX np nd nb no rk) T R) (64 + 16 * p) 4 0 = some (T (64 + 16 * p) 0) := lx_g4_0 (by rw [kX_prof h h8])
theorem yp_p0 {p : Nat} (h : p < np) (h8 : np ≤ 8) (v : Int32) : jpF (lay (kX np nd nb no rk) T R) (64 + 16 * p) 4 0 (.int v) = some (lay (kX np nd nb no rk) (tu T (64 + 16 * p) 0 v) R) := lx_p4_0 (by rw [kX_prof h h8]) (by omega) v
theorem yp_g1 {p : Nat} (h : p < np) (h8 : np ≤ 8) : jgI (lay (kX np nd nb no rk) T R) (64 + 16 * p) 4 1 = some (T (64 + 16 * p) 1) := lx_g4_1 (by rw [kX_prof h h8])
theorem yp_p1 {p : Nat} (h : p < np) (h8 : np ≤ 8) (v : Int32) : jpF (lay (kX np nd nb no rk) T R) (64 + 16 * p) 4 1 (.int v) = some (lay (kX np nd nb no rk) (tu T (64 + 16 * p) 1 v) R) := lx_p4_1 (by rw [kX_prof h h8]) (by omega) v
theorem yp_g2 {p : Nat} (h : p < np) (h8 : np ≤ 8) : jgI (lay (kX np nd nb no rk) T R) (64 + 16 * p) 4 2 = some (T (64 + 16 * p) 2) := lx_g4_2 (by rw [kX_prof h h8])
theorem yp_p2 {p : Nat} (h : p < np) (h8 : np ≤ 8) (v : Int32) : jpF (lay (kX np nd nb no rk) T R) (64 + 16 * p) 4 2 (.int v) = some (lay (kX np nd nb no rk) (tu T (64 + 16 * p) 2 v) R) := lx_p4_2 (by rw [kX_prof h h8]) (by omega) v
theorem yp_g3 {p : Nat} (h : p < np) (h8 : np ≤ 8) : jgI (lay (kX np nd nb no rk) T R) (64 + 16 * p) 4 3 = some (T (64 + 16 * p) 3) := lx_g4_3 (by rw [kX_prof h h8])
theorem yp_p3 {p : Nat} (h : p < np) (h8 : np ≤ 8) (v : Int32) : jpF (lay (kX np nd nb no rk) T R) (64 + 16 * p) 4 3 (.int v) = some (lay (kX np nd nb no rk) (tu T (64 + 16 * p) 3 v) R) := lx_p4_3 (by rw [kX_prof h h8]) (by omega) v
theorem yp_g4 {p : Nat} (h : p < np) (h8 : np ≤ 8) : jgA (lay (kX np nd nb no rk) T (rX np nd na no dp bd ld rw)) (64 + 16 * p) 4 4 = some (64 + 16 * p + 1) := by
  rw [lx_g4_4 (by rw [kX_prof h h8]), rX_prof h h8]
theorem yl_is {p : Nat} (h : p < np) (h8 : np ≤ 8) : jis (lay (kX np nd nb no rk) T R) (64 + 16 * p + 1) 5 = some () := lx_is5 (by rw [kX_list h h8])
theorem yl_g0 {p : Nat} (h : p < np) (h8 : np ≤ 8) : jgI (lay (kX np nd nb no rk) T R) (64 + 16 * p + 1) 5 0 = some (T (64 + 16 * p + 1) 0) := lx_g5_0 (by rw [kX_list h h8])
theorem yl_p0 {p : Nat} (h : p < np) (h8 : np ≤ 8) (v : Int32) : jpF (lay (kX np nd nb no rk) T R) (64 + 16 * p + 1) 5 0 (.int v) = some (lay (kX np nd nb no rk) (tu T (64 + 16 * p + 1) 0 v) R) := lx_p5_0 (by rw [kX_list h h8]) (by omega) v
theorem yl_g2 {p : Nat} (h : p < np) (h8 : np ≤ 8) : jgI (lay (kX np nd nb no rk) T R) (64 + 16 * p + 1) 5 2 = some (T (64 + 16 * p + 1) 2) := lx_g5_2 (by rw [kX_list h h8])
theorem yl_p2 {p : Nat} (h : p < np) (h8 : np ≤ 8) (v : Int32) : jpF (lay (kX np nd nb no rk) T R) (64 + 16 * p + 1) 5 2 (.int v) = some (lay (kX np nd nb no rk) (tu T (64 + 16 * p + 1) 2 v) R) := lx_p5_2 (by rw [kX_list h h8]) (by omega) v
theorem yl_e {p : Nat} (h : p < np) (h8 : np ≤ 8) (hn : no p ≠ 0) : jgA (lay (kX np nd nb no rk) T (rX np nd na no dp bd ld rw)) (64 + 16 * p + 1) 5 1 = some (64 + 16 * p + 2) := by
  rw [lx_g5_1 (by rw [kX_list h h8]), rX_list h h8 hn]
theorem yl_e0 {p : Nat} (h : p < np) (h8 : np ≤ 8) (hn : no p = 0) : jgA (lay (kX np nd nb no rk) T (rX np nd na no dp bd ld rw)) (64 + 16 * p + 1) 5 1 = some 2 := by
  rw [lx_g5_1 (by rw [kX_list h h8]), rX_list0 h h8 hn]
theorem ye_a {p : Nat} (h : p < np) (h8 : np ≤ 8) (k : Nat) (hk : k < no p) (h3 : no p ≤ 3) : jaA (lay (kX np nd nb no rk) T (rX np nd na no dp bd ld rw)) (64 + 16 * p + 2) (Int32.ofNat k) = some (64 + 16 * p + 3 + k) := by
  rw [lx_an18 (by rw [kX_elem h h8 (by omega)]) k (by rw [kX_elem h h8 (by omega)]; show k < 10; omega) (by omega), rX_elem h h8 hk]
theorem yo_is {p k : Nat} (h : p < np) (h8 : np ≤ 8) (hk : k < no p) (h3 : no p ≤ 3) : jis (lay (kX np nd nb no rk) T R) (64 + 16 * p + 3 + k) 8 = some () := lx_is8 (by rw [kX_ord h h8 hk h3])
theorem yo_g0 {p k : Nat} (h : p < np) (h8 : np ≤ 8) (hk : k < no p) (h3 : no p ≤ 3) : jgI (lay (kX np nd nb no rk) T R) (64 + 16 * p + 3 + k) 8 0 = some (T (64 + 16 * p + 3 + k) 0) := lx_g8_0 (by rw [kX_ord h h8 hk h3])
theorem yo_p0 {p k : Nat} (h : p < np) (h8 : np ≤ 8) (hk : k < no p) (h3 : no p ≤ 3) (v : Int32) : jpF (lay (kX np nd nb no rk) T R) (64 + 16 * p + 3 + k) 8 0 (.int v) = some (lay (kX np nd nb no rk) (tu T (64 + 16 * p + 3 + k) 0 v) R) := lx_p8_0 (by rw [kX_ord h h8 hk h3]) (by omega) v
theorem yo_g1 {p k : Nat} (h : p < np) (h8 : np ≤ 8) (hk : k < no p) (h3 : no p ≤ 3) : jgI (lay (kX np nd nb no rk) T R) (64 + 16 * p + 3 + k) 8 1 = some (T (64 + 16 * p + 3 + k) 1) := lx_g8_1 (by rw [kX_ord h h8 hk h3])
theorem yo_p1 {p k : Nat} (h : p < np) (h8 : np ≤ 8) (hk : k < no p) (h3 : no p ≤ 3) (v : Int32) : jpF (lay (kX np nd nb no rk) T R) (64 + 16 * p + 3 + k) 8 1 (.int v) = some (lay (kX np nd nb no rk) (tu T (64 + 16 * p + 3 + k) 1 v) R) := lx_p8_1 (by rw [kX_ord h h8 hk h3]) (by omega) v
theorem yd_is {d : Nat} (h : d < nd) (h12 : nd ≤ 12) : jis (lay (kX np nd nb no rk) T R) (200 + d) 6 = some () := lx_is6 (by rw [kX_die h h12])
theorem yd_g0 {d : Nat} (h : d < nd) (h12 : nd ≤ 12) : jgA (lay (kX np nd nb no rk) T (rX np nd na no dp bd ld rw)) (200 + d) 6 0 = some (64 + 16 * dp d) := by
  rw [lx_g6_0 (by rw [kX_die h h12]), rX_die h h12]
theorem yd_g1 {d : Nat} (h : d < nd) (h12 : nd ≤ 12) : jgI (lay (kX np nd nb no rk) T R) (200 + d) 6 1 = some (T (200 + d) 1) := lx_g6_1 (by rw [kX_die h h12])
theorem yd_p1 {d : Nat} (h : d < nd) (h12 : nd ≤ 12) (v : Int32) : jpF (lay (kX np nd nb no rk) T R) (200 + d) 6 1 (.int v) = some (lay (kX np nd nb no rk) (tu T (200 + d) 1 v) R) := lx_p6_1 (by rw [kX_die h h12]) (by omega) v
theorem yd_g2 {d : Nat} (h : d < nd) (h12 : nd ≤ 12) : jgI (lay (kX np nd nb no rk) T R) (200 + d) 6 2 = some (T (200 + d) 2) := lx_g6_2 (by rw [kX_die h h12])
theorem yd_p2 {d : Nat} (h : d < nd) (h12 : nd ≤ 12) (v : Int32) : jpF (lay (kX np nd nb no rk) T R) (200 + d) 6 2 (.int v) = some (lay (kX np nd nb no rk) (tu T (200 + d) 2 v) R) := lx_p6_2 (by rw [kX_die h h12]) (by omega) v
theorem yd_g3 {d : Nat} (h : d < nd) (h12 : nd ≤ 12) : jgI (lay (kX np nd nb no rk) T R) (200 + d) 6 3 = some (T (200 + d) 3) := lx_g6_3 (by rw [kX_die h h12])
theorem yd_p3 {d : Nat} (h : d < nd) (h12 : nd ≤ 12) (v : Int32) : jpF (lay (kX np nd nb no rk) T R) (200 + d) 6 3 (.int v) = some (lay (kX np nd nb no rk) (tu T (200 + d) 3 v) R) := lx_p6_3 (by rw [kX_die h h12]) (by omega) v
theorem yd_g4 {d : Nat} (h : d < nd) (h12 : nd ≤ 12) : jgI (lay (kX np nd nb no rk) T R) (200 + d) 6 4 = some (T (200 + d) 4) := lx_g6_4 (by rw [kX_die h h12])
theorem yd_p4 {d : Nat} (h : d < nd) (h12 : nd ≤ 12) (v : Int32) : jpF (lay (kX np nd nb no rk) T R) (200 + d) 6 4 (.int v) = some (lay (kX np nd nb no rk) (tu T (200 + d) 4 v) R) := lx_p6_4 (by rw [kX_die h h12]) (by omega) v
theorem yd_g5 {d : Nat} (h : d < nd) (h12 : nd ≤ 12) : jgI (lay (kX np nd nb no rk) T R) (200 + d) 6 5 = some (T (200 + d) 5) := lx_g6_5 (by rw [kX_die h h12])
theorem yd_p5 {d : Nat} (h : d < nd) (h12 : nd ≤ 12) (v : Int32) : jpF (lay (kX np nd nb no rk) T R) (200 + d) 6 5 (.int v) = some (lay (kX np nd nb no rk) (tu T (200 + d) 5 v) R) := lx_p6_5 (by rw [kX_die h h12]) (by omega) v
theorem yd_g6 {d : Nat} (h : d < nd) (h12 : nd ≤ 12) : jgI (lay (kX np nd nb no rk) T R) (200 + d) 6 6 = some (T (200 + d) 6) := lx_g6_6 (by rw [kX_die h h12])
theorem yd_p6 {d : Nat} (h : d < nd) (h12 : nd ≤ 12) (v : Int32) : jpF (lay (kX np nd nb no rk) T R) (200 + d) 6 6 (.int v) = some (lay (kX np nd nb no rk) (tu T (200 + d) 6 v) R) := lx_p6_6 (by rw [kX_die h h12]) (by omega) v
theorem yb_is {i : Nat} (h : i < nb) : jis (lay (kX np nd nb no rk) T R) (1000 + i) 7 = some () := lx_is7 (by rw [kX_bar h])
theorem yb_g0 {i : Nat} (h : i < nb) : jgA (lay (kX np nd nb no rk) T (rX np nd na no dp bd ld rw)) (1000 + i) 7 0 = some (200 + bd i) := by
  rw [lx_g7_0 (by rw [kX_bar h]), rX_bar]
theorem yb_g1 {i : Nat} (h : i < nb) : jgI (lay (kX np nd nb no rk) T R) (1000 + i) 7 1 = some (T (1000 + i) 1) := lx_g7_1 (by rw [kX_bar h])
theorem yb_p1 {i : Nat} (h : i < nb) (v : Int32) : jpF (lay (kX np nd nb no rk) T R) (1000 + i) 7 1 (.int v) = some (lay (kX np nd nb no rk) (tu T (1000 + i) 1 v) R) := lx_p7_1 (by rw [kX_bar h]) (by omega) v
theorem yb_g2 {i : Nat} (h : i < nb) : jgI (lay (kX np nd nb no rk) T R) (1000 + i) 7 2 = some (T (1000 + i) 2) := lx_g7_2 (by rw [kX_bar h])
theorem yb_p2 {i : Nat} (h : i < nb) (v : Int32) : jpF (lay (kX np nd nb no rk) T R) (1000 + i) 7 2 (.int v) = some (lay (kX np nd nb no rk) (tu T (1000 + i) 2 v) R) := lx_p7_2 (by rw [kX_bar h]) (by omega) v
theorem yb_g3 {i : Nat} (h : i < nb) : jgI (lay (kX np nd nb no rk) T R) (1000 + i) 7 3 = some (T (1000 + i) 3) := lx_g7_3 (by rw [kX_bar h])
theorem yb_p3 {i : Nat} (h : i < nb) (v : Int32) : jpF (lay (kX np nd nb no rk) T R) (1000 + i) 7 3 (.int v) = some (lay (kX np nd nb no rk) (tu T (1000 + i) 3 v) R) := lx_p7_3 (by rw [kX_bar h]) (by omega) v
theorem yb_g4 {i : Nat} (h : i < nb) : jgI (lay (kX np nd nb no rk) T R) (1000 + i) 7 4 = some (T (1000 + i) 4) := lx_g7_4 (by rw [kX_bar h])
theorem yb_p4 {i : Nat} (h : i < nb) (v : Int32) : jpF (lay (kX np nd nb no rk) T R) (1000 + i) 7 4 (.int v) = some (lay (kX np nd nb no rk) (tu T (1000 + i) 4 v) R) := lx_p7_4 (by rw [kX_bar h]) (by omega) v
theorem yb_g5 {i : Nat} (h : i < nb) : jgI (lay (kX np nd nb no rk) T R) (1000 + i) 7 5 = some (T (1000 + i) 5) := lx_g7_5 (by rw [kX_bar h])
theorem yb_p5 {i : Nat} (h : i < nb) (v : Int32) : jpF (lay (kX np nd nb no rk) T R) (1000 + i) 7 5 (.int v) = some (lay (kX np nd nb no rk) (tu T (1000 + i) 5 v) R) := lx_p7_5 (by rw [kX_bar h]) (by omega) v
theorem yb_g6 {i : Nat} (h : i < nb) : jgI (lay (kX np nd nb no rk) T R) (1000 + i) 7 6 = some (T (1000 + i) 6) := lx_g7_6 (by rw [kX_bar h])
theorem yb_p6 {i : Nat} (h : i < nb) (v : Int32) : jpF (lay (kX np nd nb no rk) T R) (1000 + i) 7 6 (.int v) = some (lay (kX np nd nb no rk) (tu T (1000 + i) 6 v) R) := lx_p7_6 (by rw [kX_bar h]) (by omega) v
theorem yb_g7 {i : Nat} (h : i < nb) : jgI (lay (kX np nd nb no rk) T R) (1000 + i) 7 7 = some (T (1000 + i) 7) := lx_g7_7 (by rw [kX_bar h])
theorem yb_p7 {i : Nat} (h : i < nb) (v : Int32) : jpF (lay (kX np nd nb no rk) T R) (1000 + i) 7 7 (.int v) = some (lay (kX np nd nb no rk) (tu T (1000 + i) 7 v) R) := lx_p7_7 (by rw [kX_bar h]) (by omega) v
theorem ys_is {s : Nat} (h : s < 4) : jis (lay (kX np nd nb no rk) T R) (32 + s) 3 = some () := lx_is3 (by rw [kX_sheet h])
theorem ys_g0 {s : Nat} (h : s < 4) : jgI (lay (kX np nd nb no rk) T R) (32 + s) 3 0 = some (T (32 + s) 0) := lx_g3_0 (by rw [kX_sheet h])
theorem ys_p0 {s : Nat} (h : s < 4) (v : Int32) : jpF (lay (kX np nd nb no rk) T R) (32 + s) 3 0 (.int v) = some (lay (kX np nd nb no rk) (tu T (32 + s) 0 v) R) := lx_p3_0 (by rw [kX_sheet h]) (by omega) v
theorem ys_r {s : Nat} (h : s < 4) : jgR (lay (kX np nd nb no rk) T (rX np nd na no dp bd ld rw)) (32 + s) 3 1 = some (rw s) := by
  rw [lx_r3_1 (by rw [kX_sheet h]), rX_sheet h]
theorem ys_a {s : Nat} (h : s < 4) : jgA (lay (kX np nd nb no rk) T (rX np nd na no dp bd ld rw)) (32 + s) 3 1 = rw s := by
  rw [lx_g3_1 (by rw [kX_sheet h]), rX_sheet h]
theorem yj_i {j : Nat} (h : j < 7) (k : Nat) (hk : k < 3) : jaI (lay (kX np nd nb no rk) T R) (24 + j) .int (Int32.ofNat k) = some (T (24 + j) k) := lx_in11 (by rw [kX_job h]) k (by rw [kX_job h]; exact hk) (by omega)
theorem yj_i0 {j : Nat} (h : j < 7) : jaI (lay (kX np nd nb no rk) T R) (24 + j) .int 0 = some (T (24 + j) 0) := yj_i h 0 (by decide)
theorem yj_s0 {j : Nat} (h : j < 7) (v : Int32) : jaSI (lay (kX np nd nb no rk) T R) (24 + j) 0 v = some (lay (kX np nd nb no rk) (tu T (24 + j) 0 v) R) := lx_s11 (by rw [kX_job h]) (by omega) 0 v (by decide) (by rw [kX_job h]; decide)
theorem yj_i1 {j : Nat} (h : j < 7) : jaI (lay (kX np nd nb no rk) T R) (24 + j) .int 1 = some (T (24 + j) 1) := yj_i h 1 (by decide)
theorem yj_s1 {j : Nat} (h : j < 7) (v : Int32) : jaSI (lay (kX np nd nb no rk) T R) (24 + j) 1 v = some (lay (kX np nd nb no rk) (tu T (24 + j) 1 v) R) := lx_s11 (by rw [kX_job h]) (by omega) 1 v (by decide) (by rw [kX_job h]; decide)
theorem yj_i2 {j : Nat} (h : j < 7) : jaI (lay (kX np nd nb no rk) T R) (24 + j) .int 2 = some (T (24 + j) 2) := yj_i h 2 (by decide)
theorem yj_s2 {j : Nat} (h : j < 7) (v : Int32) : jaSI (lay (kX np nd nb no rk) T R) (24 + j) 2 v = some (lay (kX np nd nb no rk) (tu T (24 + j) 2 v) R) := lx_s11 (by rw [kX_job h]) (by omega) 2 v (by decide) (by rw [kX_job h]; decide)
end L8
section LMN
variable {F GF : Nat → Int32} {A GA : Nat → Nat → Int32} {L : Nat → Int64}
theorem lm_n1 (j : Nat) (h : j < 6) : jaI (layM F A L GF GA) 9 .int (Int32.ofNat j) = some (A 1 j) := by
  rw [lm_a1, if_pos (by rw [oi (by omega)]; omega), on (by omega)]
theorem lm_sn1 (j : Nat) (v : Int32) (h : j < 6) : jaSI (layM F A L GF GA) 9 (Int32.ofNat j) v = some (layM F (tu A 1 j v) L GF GA) := by
  rw [lm_s1, if_pos (by rw [oi (by omega)]; omega), on (by omega), tu_eq]
theorem lm_n1_0 : jaI (layM F A L GF GA) 9 .int 0 = some (A 1 0) := lm_n1 0 (by decide)
theorem lm_sn1_0 (v : Int32) : jaSI (layM F A L GF GA) 9 0 v = some (layM F (tu A 1 0 v) L GF GA) := lm_sn1 0 v (by decide)
theorem lm_n1_1 : jaI (layM F A L GF GA) 9 .int 1 = some (A 1 1) := lm_n1 1 (by decide)
theorem lm_sn1_1 (v : Int32) : jaSI (layM F A L GF GA) 9 1 v = some (layM F (tu A 1 1 v) L GF GA) := lm_sn1 1 v (by decide)
theorem lm_n1_2 : jaI (layM F A L GF GA) 9 .int 2 = some (A 1 2) := lm_n1 2 (by decide)
theorem lm_sn1_2 (v : Int32) : jaSI (layM F A L GF GA) 9 2 v = some (layM F (tu A 1 2 v) L GF GA) := lm_sn1 2 v (by decide)
theorem lm_n1_3 : jaI (layM F A L GF GA) 9 .int 3 = some (A 1 3) := lm_n1 3 (by decide)
theorem lm_sn1_3 (v : Int32) : jaSI (layM F A L GF GA) 9 3 v = some (layM F (tu A 1 3 v) L GF GA) := lm_sn1 3 v (by decide)
theorem lm_n1_4 : jaI (layM F A L GF GA) 9 .int 4 = some (A 1 4) := lm_n1 4 (by decide)
theorem lm_sn1_4 (v : Int32) : jaSI (layM F A L GF GA) 9 4 v = some (layM F (tu A 1 4 v) L GF GA) := lm_sn1 4 v (by decide)
theorem lm_n1_5 : jaI (layM F A L GF GA) 9 .int 5 = some (A 1 5) := lm_n1 5 (by decide)
theorem lm_sn1_5 (v : Int32) : jaSI (layM F A L GF GA) 9 5 v = some (layM F (tu A 1 5 v) L GF GA) := lm_sn1 5 v (by decide)
theorem lm_n2 (j : Nat) (h : j < 8) : jaI (layM F A L GF GA) 10 .int (Int32.ofNat j) = some (A 2 j) := by
  rw [lm_a2, if_pos (by rw [oi (by omega)]; omega), on (by omega)]
theorem lm_sn2 (j : Nat) (v : Int32) (h : j < 8) : jaSI (layM F A L GF GA) 10 (Int32.ofNat j) v = some (layM F (tu A 2 j v) L GF GA) := by
  rw [lm_s2, if_pos (by rw [oi (by omega)]; omega), on (by omega), tu_eq]
theorem lm_n3 (j : Nat) (h : j < 8) : jaI (layM F A L GF GA) 11 .int (Int32.ofNat j) = some (A 3 j) := by
  rw [lm_a3, if_pos (by rw [oi (by omega)]; omega), on (by omega)]
theorem lm_sn3 (j : Nat) (v : Int32) (h : j < 8) : jaSI (layM F A L GF GA) 11 (Int32.ofNat j) v = some (layM F (tu A 3 j v) L GF GA) := by
  rw [lm_s3, if_pos (by rw [oi (by omega)]; omega), on (by omega), tu_eq]
theorem lm_n4 (j : Nat) (h : j < 8) : jaI (layM F A L GF GA) 12 .int (Int32.ofNat j) = some (A 4 j) := by
  rw [lm_a4, if_pos (by rw [oi (by omega)]; omega), on (by omega)]
theorem lm_sn4 (j : Nat) (v : Int32) (h : j < 8) : jaSI (layM F A L GF GA) 12 (Int32.ofNat j) v = some (layM F (tu A 4 j v) L GF GA) := by
  rw [lm_s4, if_pos (by rw [oi (by omega)]; omega), on (by omega), tu_eq]
theorem lm_n5 (j : Nat) (h : j < 8) : jaI (layM F A L GF GA) 13 .int (Int32.ofNat j) = some (A 5 j) := by
  rw [lm_a5, if_pos (by rw [oi (by omega)]; omega), on (by omega)]
theorem lm_sn5 (j : Nat) (v : Int32) (h : j < 8) : jaSI (layM F A L GF GA) 13 (Int32.ofNat j) v = some (layM F (tu A 5 j v) L GF GA) := by
  rw [lm_s5, if_pos (by rw [oi (by omega)]; omega), on (by omega), tu_eq]
theorem lm_n6 (j : Nat) (h : j < 12) : jaI (layM F A L GF GA) 14 .int (Int32.ofNat j) = some (A 6 j) := by
  rw [lm_a6, if_pos (by rw [oi (by omega)]; omega), on (by omega)]
theorem lm_sn6 (j : Nat) (v : Int32) (h : j < 12) : jaSI (layM F A L GF GA) 14 (Int32.ofNat j) v = some (layM F (tu A 6 j v) L GF GA) := by
  rw [lm_s6, if_pos (by rw [oi (by omega)]; omega), on (by omega), tu_eq]
theorem lm_n7 (j : Nat) (h : j < 12) : jaI (layM F A L GF GA) 15 .int (Int32.ofNat j) = some (A 7 j) := by
  rw [lm_a7, if_pos (by rw [oi (by omega)]; omega), on (by omega)]
theorem lm_sn7 (j : Nat) (v : Int32) (h : j < 12) : jaSI (layM F A L GF GA) 15 (Int32.ofNat j) v = some (layM F (tu A 7 j v) L GF GA) := by
  rw [lm_s7, if_pos (by rw [oi (by omega)]; omega), on (by omega), tu_eq]
theorem lm_n8 (j : Nat) (h : j < 12) : jaI (layM F A L GF GA) 16 .int (Int32.ofNat j) = some (A 8 j) := by
  rw [lm_a8, if_pos (by rw [oi (by omega)]; omega), on (by omega)]
theorem lm_sn8 (j : Nat) (v : Int32) (h : j < 12) : jaSI (layM F A L GF GA) 16 (Int32.ofNat j) v = some (layM F (tu A 8 j v) L GF GA) := by
  rw [lm_s8, if_pos (by rw [oi (by omega)]; omega), on (by omega), tu_eq]
theorem lm_n9 (j : Nat) (h : j < 12) : jaI (layM F A L GF GA) 17 .int (Int32.ofNat j) = some (A 9 j) := by
  rw [lm_a9, if_pos (by rw [oi (by omega)]; omega), on (by omega)]
theorem lm_sn9 (j : Nat) (v : Int32) (h : j < 12) : jaSI (layM F A L GF GA) 17 (Int32.ofNat j) v = some (layM F (tu A 9 j v) L GF GA) := by
  rw [lm_s9, if_pos (by rw [oi (by omega)]; omega), on (by omega), tu_eq]
theorem lm_n10 (j : Nat) (h : j < 12) : jaI (layM F A L GF GA) 18 .int (Int32.ofNat j) = some (A 10 j) := by
  rw [lm_a10, if_pos (by rw [oi (by omega)]; omega), on (by omega)]
theorem lm_sn10 (j : Nat) (v : Int32) (h : j < 12) : jaSI (layM F A L GF GA) 18 (Int32.ofNat j) v = some (layM F (tu A 10 j v) L GF GA) := by
  rw [lm_s10, if_pos (by rw [oi (by omega)]; omega), on (by omega), tu_eq]
theorem lm_n11 (j : Nat) (h : j < 200) : jaI (layM F A L GF GA) 19 .int (Int32.ofNat j) = some (A 11 j) := by
  rw [lm_a11, if_pos (by rw [oi (by omega)]; omega), on (by omega)]
theorem lm_sn11 (j : Nat) (v : Int32) (h : j < 200) : jaSI (layM F A L GF GA) 19 (Int32.ofNat j) v = some (layM F (tu A 11 j v) L GF GA) := by
  rw [lm_s11, if_pos (by rw [oi (by omega)]; omega), on (by omega), tu_eq]
theorem lm_n12 (j : Nat) (h : j < 200) : jaI (layM F A L GF GA) 20 .int (Int32.ofNat j) = some (A 12 j) := by
  rw [lm_a12, if_pos (by rw [oi (by omega)]; omega), on (by omega)]
theorem lm_sn12 (j : Nat) (v : Int32) (h : j < 200) : jaSI (layM F A L GF GA) 20 (Int32.ofNat j) v = some (layM F (tu A 12 j v) L GF GA) := by
  rw [lm_s12, if_pos (by rw [oi (by omega)]; omega), on (by omega), tu_eq]
theorem lm_n13 (j : Nat) (h : j < 200) : jaI (layM F A L GF GA) 21 .int (Int32.ofNat j) = some (A 13 j) := by
  rw [lm_a13, if_pos (by rw [oi (by omega)]; omega), on (by omega)]
theorem lm_sn13 (j : Nat) (v : Int32) (h : j < 200) : jaSI (layM F A L GF GA) 21 (Int32.ofNat j) v = some (layM F (tu A 13 j v) L GF GA) := by
  rw [lm_s13, if_pos (by rw [oi (by omega)]; omega), on (by omega), tu_eq]
theorem lm_n14 (j : Nat) (h : j < 200) : jaI (layM F A L GF GA) 22 .int (Int32.ofNat j) = some (A 14 j) := by
  rw [lm_a14, if_pos (by rw [oi (by omega)]; omega), on (by omega)]
theorem lm_sn14 (j : Nat) (v : Int32) (h : j < 200) : jaSI (layM F A L GF GA) 22 (Int32.ofNat j) v = some (layM F (tu A 14 j v) L GF GA) := by
  rw [lm_s14, if_pos (by rw [oi (by omega)]; omega), on (by omega), tu_eq]
theorem lm_n15 (j : Nat) (h : j < 200) : jaI (layM F A L GF GA) 23 .int (Int32.ofNat j) = some (A 15 j) := by
  rw [lm_a15, if_pos (by rw [oi (by omega)]; omega), on (by omega)]
theorem lm_sn15 (j : Nat) (v : Int32) (h : j < 200) : jaSI (layM F A L GF GA) 23 (Int32.ofNat j) v = some (layM F (tu A 15 j v) L GF GA) := by
  rw [lm_s15, if_pos (by rw [oi (by omega)]; omega), on (by omega), tu_eq]
theorem lm_n16 (j : Nat) (h : j < 200) : jaI (layM F A L GF GA) 24 .int (Int32.ofNat j) = some (A 16 j) := by
  rw [lm_a16, if_pos (by rw [oi (by omega)]; omega), on (by omega)]
theorem lm_sn16 (j : Nat) (v : Int32) (h : j < 200) : jaSI (layM F A L GF GA) 24 (Int32.ofNat j) v = some (layM F (tu A 16 j v) L GF GA) := by
  rw [lm_s16, if_pos (by rw [oi (by omega)]; omega), on (by omega), tu_eq]
theorem lm_n17 (j : Nat) (h : j < 200) : jaI (layM F A L GF GA) 25 .int (Int32.ofNat j) = some (A 17 j) := by
  rw [lm_a17, if_pos (by rw [oi (by omega)]; omega), on (by omega)]
theorem lm_sn17 (j : Nat) (v : Int32) (h : j < 200) : jaSI (layM F A L GF GA) 25 (Int32.ofNat j) v = some (layM F (tu A 17 j v) L GF GA) := by
  rw [lm_s17, if_pos (by rw [oi (by omega)]; omega), on (by omega), tu_eq]
theorem lm_n18 (j : Nat) (h : j < 200) : jaI (layM F A L GF GA) 26 .int (Int32.ofNat j) = some (A 18 j) := by
  rw [lm_a18, if_pos (by rw [oi (by omega)]; omega), on (by omega)]
theorem lm_sn18 (j : Nat) (v : Int32) (h : j < 200) : jaSI (layM F A L GF GA) 26 (Int32.ofNat j) v = some (layM F (tu A 18 j v) L GF GA) := by
  rw [lm_s18, if_pos (by rw [oi (by omega)]; omega), on (by omega), tu_eq]
theorem lm_n19 (j : Nat) (h : j < 7) : jaL (layM F A L GF GA) 27 (Int32.ofNat j) = some (L j) := by
  rw [lm_a19, if_pos (by rw [oi (by omega)]; omega), on (by omega)]
theorem lm_n19_0 : jaL (layM F A L GF GA) 27 0 = some (L 0) := lm_n19 0 (by decide)
theorem lm_sn19_0 (v : Int64) : jaSL (layM F A L GF GA) 27 0 v = some (layM F A (vp_updL L 0 v) GF GA) := by
  rw [lm_s19, if_pos (by decide)]
  rfl
theorem lm_n19_1 : jaL (layM F A L GF GA) 27 1 = some (L 1) := lm_n19 1 (by decide)
theorem lm_sn19_1 (v : Int64) : jaSL (layM F A L GF GA) 27 1 v = some (layM F A (vp_updL L 1 v) GF GA) := by
  rw [lm_s19, if_pos (by decide)]
  rfl
theorem lm_n19_2 : jaL (layM F A L GF GA) 27 2 = some (L 2) := lm_n19 2 (by decide)
theorem lm_sn19_2 (v : Int64) : jaSL (layM F A L GF GA) 27 2 v = some (layM F A (vp_updL L 2 v) GF GA) := by
  rw [lm_s19, if_pos (by decide)]
  rfl
theorem lm_n19_3 : jaL (layM F A L GF GA) 27 3 = some (L 3) := lm_n19 3 (by decide)
theorem lm_sn19_3 (v : Int64) : jaSL (layM F A L GF GA) 27 3 v = some (layM F A (vp_updL L 3 v) GF GA) := by
  rw [lm_s19, if_pos (by decide)]
  rfl
theorem lm_n19_4 : jaL (layM F A L GF GA) 27 4 = some (L 4) := lm_n19 4 (by decide)
theorem lm_sn19_4 (v : Int64) : jaSL (layM F A L GF GA) 27 4 v = some (layM F A (vp_updL L 4 v) GF GA) := by
  rw [lm_s19, if_pos (by decide)]
  rfl
theorem lm_n19_5 : jaL (layM F A L GF GA) 27 5 = some (L 5) := lm_n19 5 (by decide)
theorem lm_sn19_5 (v : Int64) : jaSL (layM F A L GF GA) 27 5 v = some (layM F A (vp_updL L 5 v) GF GA) := by
  rw [lm_s19, if_pos (by decide)]
  rfl
theorem lm_n19_6 : jaL (layM F A L GF GA) 27 6 = some (L 6) := lm_n19 6 (by decide)
theorem lm_sn19_6 (v : Int64) : jaSL (layM F A L GF GA) 27 6 v = some (layM F A (vp_updL L 6 v) GF GA) := by
  rw [lm_s19, if_pos (by decide)]
  rfl
theorem lm_n20 (j : Nat) (h : j < 8) : jaI (layM F A L GF GA) 28 .int (Int32.ofNat j) = some (A 20 j) := by
  rw [lm_a20, if_pos (by rw [oi (by omega)]; omega), on (by omega)]
theorem lm_sn20 (j : Nat) (v : Int32) (h : j < 8) : jaSI (layM F A L GF GA) 28 (Int32.ofNat j) v = some (layM F (tu A 20 j v) L GF GA) := by
  rw [lm_s20, if_pos (by rw [oi (by omega)]; omega), on (by omega), tu_eq]
theorem lm_n21 (j : Nat) (h : j < 24) : jaI (layM F A L GF GA) 29 .int (Int32.ofNat j) = some (A 21 j) := by
  rw [lm_a21, if_pos (by rw [oi (by omega)]; omega), on (by omega)]
theorem lm_sn21 (j : Nat) (v : Int32) (h : j < 24) : jaSI (layM F A L GF GA) 29 (Int32.ofNat j) v = some (layM F (tu A 21 j v) L GF GA) := by
  rw [lm_s21, if_pos (by rw [oi (by omega)]; omega), on (by omega), tu_eq]
theorem lm_n22 (j : Nat) (h : j < 24) : jaI (layM F A L GF GA) 30 .int (Int32.ofNat j) = some (A 22 j) := by
  rw [lm_a22, if_pos (by rw [oi (by omega)]; omega), on (by omega)]
theorem lm_sn22 (j : Nat) (v : Int32) (h : j < 24) : jaSI (layM F A L GF GA) 30 (Int32.ofNat j) v = some (layM F (tu A 22 j v) L GF GA) := by
  rw [lm_s22, if_pos (by rw [oi (by omega)]; omega), on (by omega), tu_eq]
theorem lm_n23 (j : Nat) (h : j < 3) : jaI (layM F A L GF GA) 31 .int (Int32.ofNat j) = some (GA 23 j) := by
  rw [lm_a23, if_pos (by rw [oi (by omega)]; omega), on (by omega)]
theorem lm_sn23 (j : Nat) (v : Int32) (h : j < 3) : jaSI (layM F A L GF GA) 31 (Int32.ofNat j) v = some (layM F A L GF (tu GA 23 j v)) := by
  rw [lm_s23, if_pos (by rw [oi (by omega)]; omega), on (by omega), tu_eq]
theorem lm_n23_0 : jaI (layM F A L GF GA) 31 .int 0 = some (GA 23 0) := lm_n23 0 (by decide)
theorem lm_sn23_0 (v : Int32) : jaSI (layM F A L GF GA) 31 0 v = some (layM F A L GF (tu GA 23 0 v)) := lm_sn23 0 v (by decide)
theorem lm_n23_1 : jaI (layM F A L GF GA) 31 .int 1 = some (GA 23 1) := lm_n23 1 (by decide)
theorem lm_sn23_1 (v : Int32) : jaSI (layM F A L GF GA) 31 1 v = some (layM F A L GF (tu GA 23 1 v)) := lm_sn23 1 v (by decide)
theorem lm_n23_2 : jaI (layM F A L GF GA) 31 .int 2 = some (GA 23 2) := lm_n23 2 (by decide)
theorem lm_sn23_2 (v : Int32) : jaSI (layM F A L GF GA) 31 2 v = some (layM F A L GF (tu GA 23 2 v)) := lm_sn23 2 v (by decide)
theorem lm_n24 (j : Nat) (h : j < 6) : jaI (layM F A L GF GA) 32 .int (Int32.ofNat j) = some (A 24 j) := by
  rw [lm_a24, if_pos (by rw [oi (by omega)]; omega), on (by omega)]
theorem lm_sn24 (j : Nat) (v : Int32) (h : j < 6) : jaSI (layM F A L GF GA) 32 (Int32.ofNat j) v = some (layM F (tu A 24 j v) L GF GA) := by
  rw [lm_s24, if_pos (by rw [oi (by omega)]; omega), on (by omega), tu_eq]
theorem lm_n24_0 : jaI (layM F A L GF GA) 32 .int 0 = some (A 24 0) := lm_n24 0 (by decide)
theorem lm_sn24_0 (v : Int32) : jaSI (layM F A L GF GA) 32 0 v = some (layM F (tu A 24 0 v) L GF GA) := lm_sn24 0 v (by decide)
theorem lm_n24_1 : jaI (layM F A L GF GA) 32 .int 1 = some (A 24 1) := lm_n24 1 (by decide)
theorem lm_sn24_1 (v : Int32) : jaSI (layM F A L GF GA) 32 1 v = some (layM F (tu A 24 1 v) L GF GA) := lm_sn24 1 v (by decide)
theorem lm_n24_2 : jaI (layM F A L GF GA) 32 .int 2 = some (A 24 2) := lm_n24 2 (by decide)
theorem lm_sn24_2 (v : Int32) : jaSI (layM F A L GF GA) 32 2 v = some (layM F (tu A 24 2 v) L GF GA) := lm_sn24 2 v (by decide)
theorem lm_n24_3 : jaI (layM F A L GF GA) 32 .int 3 = some (A 24 3) := lm_n24 3 (by decide)
theorem lm_sn24_3 (v : Int32) : jaSI (layM F A L GF GA) 32 3 v = some (layM F (tu A 24 3 v) L GF GA) := lm_sn24 3 v (by decide)
theorem lm_n24_4 : jaI (layM F A L GF GA) 32 .int 4 = some (A 24 4) := lm_n24 4 (by decide)
theorem lm_sn24_4 (v : Int32) : jaSI (layM F A L GF GA) 32 4 v = some (layM F (tu A 24 4 v) L GF GA) := lm_sn24 4 v (by decide)
theorem lm_n24_5 : jaI (layM F A L GF GA) 32 .int 5 = some (A 24 5) := lm_n24 5 (by decide)
theorem lm_sn24_5 (v : Int32) : jaSI (layM F A L GF GA) 32 5 v = some (layM F (tu A 24 5 v) L GF GA) := lm_sn24 5 v (by decide)
theorem lm_n25 (j : Nat) (h : j < 7) : jaI (layM F A L GF GA) 33 .int (Int32.ofNat j) = some (A 25 j) := by
  rw [lm_a25, if_pos (by rw [oi (by omega)]; omega), on (by omega)]
theorem lm_sn25 (j : Nat) (v : Int32) (h : j < 7) : jaSI (layM F A L GF GA) 33 (Int32.ofNat j) v = some (layM F (tu A 25 j v) L GF GA) := by
  rw [lm_s25, if_pos (by rw [oi (by omega)]; omega), on (by omega), tu_eq]
theorem lm_n25_0 : jaI (layM F A L GF GA) 33 .int 0 = some (A 25 0) := lm_n25 0 (by decide)
theorem lm_sn25_0 (v : Int32) : jaSI (layM F A L GF GA) 33 0 v = some (layM F (tu A 25 0 v) L GF GA) := lm_sn25 0 v (by decide)
theorem lm_n25_1 : jaI (layM F A L GF GA) 33 .int 1 = some (A 25 1) := lm_n25 1 (by decide)
theorem lm_sn25_1 (v : Int32) : jaSI (layM F A L GF GA) 33 1 v = some (layM F (tu A 25 1 v) L GF GA) := lm_sn25 1 v (by decide)
theorem lm_n25_2 : jaI (layM F A L GF GA) 33 .int 2 = some (A 25 2) := lm_n25 2 (by decide)
theorem lm_sn25_2 (v : Int32) : jaSI (layM F A L GF GA) 33 2 v = some (layM F (tu A 25 2 v) L GF GA) := lm_sn25 2 v (by decide)
theorem lm_n25_3 : jaI (layM F A L GF GA) 33 .int 3 = some (A 25 3) := lm_n25 3 (by decide)
theorem lm_sn25_3 (v : Int32) : jaSI (layM F A L GF GA) 33 3 v = some (layM F (tu A 25 3 v) L GF GA) := lm_sn25 3 v (by decide)
theorem lm_n25_4 : jaI (layM F A L GF GA) 33 .int 4 = some (A 25 4) := lm_n25 4 (by decide)
theorem lm_sn25_4 (v : Int32) : jaSI (layM F A L GF GA) 33 4 v = some (layM F (tu A 25 4 v) L GF GA) := lm_sn25 4 v (by decide)
theorem lm_n25_5 : jaI (layM F A L GF GA) 33 .int 5 = some (A 25 5) := lm_n25 5 (by decide)
theorem lm_sn25_5 (v : Int32) : jaSI (layM F A L GF GA) 33 5 v = some (layM F (tu A 25 5 v) L GF GA) := lm_sn25 5 v (by decide)
theorem lm_n25_6 : jaI (layM F A L GF GA) 33 .int 6 = some (A 25 6) := lm_n25 6 (by decide)
theorem lm_sn25_6 (v : Int32) : jaSI (layM F A L GF GA) 33 6 v = some (layM F (tu A 25 6 v) L GF GA) := lm_sn25 6 v (by decide)
theorem lm_n26 (j : Nat) (h : j < 7) : jaI (layM F A L GF GA) 34 .int (Int32.ofNat j) = some (A 26 j) := by
  rw [lm_a26, if_pos (by rw [oi (by omega)]; omega), on (by omega)]
theorem lm_sn26 (j : Nat) (v : Int32) (h : j < 7) : jaSI (layM F A L GF GA) 34 (Int32.ofNat j) v = some (layM F (tu A 26 j v) L GF GA) := by
  rw [lm_s26, if_pos (by rw [oi (by omega)]; omega), on (by omega), tu_eq]
theorem lm_n26_0 : jaI (layM F A L GF GA) 34 .int 0 = some (A 26 0) := lm_n26 0 (by decide)
theorem lm_sn26_0 (v : Int32) : jaSI (layM F A L GF GA) 34 0 v = some (layM F (tu A 26 0 v) L GF GA) := lm_sn26 0 v (by decide)
theorem lm_n26_1 : jaI (layM F A L GF GA) 34 .int 1 = some (A 26 1) := lm_n26 1 (by decide)
theorem lm_sn26_1 (v : Int32) : jaSI (layM F A L GF GA) 34 1 v = some (layM F (tu A 26 1 v) L GF GA) := lm_sn26 1 v (by decide)
theorem lm_n26_2 : jaI (layM F A L GF GA) 34 .int 2 = some (A 26 2) := lm_n26 2 (by decide)
theorem lm_sn26_2 (v : Int32) : jaSI (layM F A L GF GA) 34 2 v = some (layM F (tu A 26 2 v) L GF GA) := lm_sn26 2 v (by decide)
theorem lm_n26_3 : jaI (layM F A L GF GA) 34 .int 3 = some (A 26 3) := lm_n26 3 (by decide)
theorem lm_sn26_3 (v : Int32) : jaSI (layM F A L GF GA) 34 3 v = some (layM F (tu A 26 3 v) L GF GA) := lm_sn26 3 v (by decide)
theorem lm_n26_4 : jaI (layM F A L GF GA) 34 .int 4 = some (A 26 4) := lm_n26 4 (by decide)
theorem lm_sn26_4 (v : Int32) : jaSI (layM F A L GF GA) 34 4 v = some (layM F (tu A 26 4 v) L GF GA) := lm_sn26 4 v (by decide)
theorem lm_n26_5 : jaI (layM F A L GF GA) 34 .int 5 = some (A 26 5) := lm_n26 5 (by decide)
theorem lm_sn26_5 (v : Int32) : jaSI (layM F A L GF GA) 34 5 v = some (layM F (tu A 26 5 v) L GF GA) := lm_sn26 5 v (by decide)
theorem lm_n26_6 : jaI (layM F A L GF GA) 34 .int 6 = some (A 26 6) := lm_n26 6 (by decide)
theorem lm_sn26_6 (v : Int32) : jaSI (layM F A L GF GA) 34 6 v = some (layM F (tu A 26 6 v) L GF GA) := lm_sn26 6 v (by decide)
theorem lm_n27 (j : Nat) (h : j < 7) : jaI (layM F A L GF GA) 35 .int (Int32.ofNat j) = some (A 27 j) := by
  rw [lm_a27, if_pos (by rw [oi (by omega)]; omega), on (by omega)]
theorem lm_sn27 (j : Nat) (v : Int32) (h : j < 7) : jaSI (layM F A L GF GA) 35 (Int32.ofNat j) v = some (layM F (tu A 27 j v) L GF GA) := by
  rw [lm_s27, if_pos (by rw [oi (by omega)]; omega), on (by omega), tu_eq]
theorem lm_n27_0 : jaI (layM F A L GF GA) 35 .int 0 = some (A 27 0) := lm_n27 0 (by decide)
theorem lm_sn27_0 (v : Int32) : jaSI (layM F A L GF GA) 35 0 v = some (layM F (tu A 27 0 v) L GF GA) := lm_sn27 0 v (by decide)
theorem lm_n27_1 : jaI (layM F A L GF GA) 35 .int 1 = some (A 27 1) := lm_n27 1 (by decide)
theorem lm_sn27_1 (v : Int32) : jaSI (layM F A L GF GA) 35 1 v = some (layM F (tu A 27 1 v) L GF GA) := lm_sn27 1 v (by decide)
theorem lm_n27_2 : jaI (layM F A L GF GA) 35 .int 2 = some (A 27 2) := lm_n27 2 (by decide)
theorem lm_sn27_2 (v : Int32) : jaSI (layM F A L GF GA) 35 2 v = some (layM F (tu A 27 2 v) L GF GA) := lm_sn27 2 v (by decide)
theorem lm_n27_3 : jaI (layM F A L GF GA) 35 .int 3 = some (A 27 3) := lm_n27 3 (by decide)
theorem lm_sn27_3 (v : Int32) : jaSI (layM F A L GF GA) 35 3 v = some (layM F (tu A 27 3 v) L GF GA) := lm_sn27 3 v (by decide)
theorem lm_n27_4 : jaI (layM F A L GF GA) 35 .int 4 = some (A 27 4) := lm_n27 4 (by decide)
theorem lm_sn27_4 (v : Int32) : jaSI (layM F A L GF GA) 35 4 v = some (layM F (tu A 27 4 v) L GF GA) := lm_sn27 4 v (by decide)
theorem lm_n27_5 : jaI (layM F A L GF GA) 35 .int 5 = some (A 27 5) := lm_n27 5 (by decide)
theorem lm_sn27_5 (v : Int32) : jaSI (layM F A L GF GA) 35 5 v = some (layM F (tu A 27 5 v) L GF GA) := lm_sn27 5 v (by decide)
theorem lm_n27_6 : jaI (layM F A L GF GA) 35 .int 6 = some (A 27 6) := lm_n27 6 (by decide)
theorem lm_sn27_6 (v : Int32) : jaSI (layM F A L GF GA) 35 6 v = some (layM F (tu A 27 6 v) L GF GA) := lm_sn27 6 v (by decide)
theorem lm_n28 (j : Nat) (h : j < 7) : jaI (layM F A L GF GA) 36 .int (Int32.ofNat j) = some (GA 28 j) := by
  rw [lm_a28, if_pos (by rw [oi (by omega)]; omega), on (by omega)]
theorem lm_sn28 (j : Nat) (v : Int32) (h : j < 7) : jaSI (layM F A L GF GA) 36 (Int32.ofNat j) v = some (layM F A L GF (tu GA 28 j v)) := by
  rw [lm_s28, if_pos (by rw [oi (by omega)]; omega), on (by omega), tu_eq]
theorem lm_n28_0 : jaI (layM F A L GF GA) 36 .int 0 = some (GA 28 0) := lm_n28 0 (by decide)
theorem lm_sn28_0 (v : Int32) : jaSI (layM F A L GF GA) 36 0 v = some (layM F A L GF (tu GA 28 0 v)) := lm_sn28 0 v (by decide)
theorem lm_n28_1 : jaI (layM F A L GF GA) 36 .int 1 = some (GA 28 1) := lm_n28 1 (by decide)
theorem lm_sn28_1 (v : Int32) : jaSI (layM F A L GF GA) 36 1 v = some (layM F A L GF (tu GA 28 1 v)) := lm_sn28 1 v (by decide)
theorem lm_n28_2 : jaI (layM F A L GF GA) 36 .int 2 = some (GA 28 2) := lm_n28 2 (by decide)
theorem lm_sn28_2 (v : Int32) : jaSI (layM F A L GF GA) 36 2 v = some (layM F A L GF (tu GA 28 2 v)) := lm_sn28 2 v (by decide)
theorem lm_n28_3 : jaI (layM F A L GF GA) 36 .int 3 = some (GA 28 3) := lm_n28 3 (by decide)
theorem lm_sn28_3 (v : Int32) : jaSI (layM F A L GF GA) 36 3 v = some (layM F A L GF (tu GA 28 3 v)) := lm_sn28 3 v (by decide)
theorem lm_n28_4 : jaI (layM F A L GF GA) 36 .int 4 = some (GA 28 4) := lm_n28 4 (by decide)
theorem lm_sn28_4 (v : Int32) : jaSI (layM F A L GF GA) 36 4 v = some (layM F A L GF (tu GA 28 4 v)) := lm_sn28 4 v (by decide)
theorem lm_n28_5 : jaI (layM F A L GF GA) 36 .int 5 = some (GA 28 5) := lm_n28 5 (by decide)
theorem lm_sn28_5 (v : Int32) : jaSI (layM F A L GF GA) 36 5 v = some (layM F A L GF (tu GA 28 5 v)) := lm_sn28 5 v (by decide)
theorem lm_n28_6 : jaI (layM F A L GF GA) 36 .int 6 = some (GA 28 6) := lm_n28 6 (by decide)
theorem lm_sn28_6 (v : Int32) : jaSI (layM F A L GF GA) 36 6 v = some (layM F A L GF (tu GA 28 6 v)) := lm_sn28 6 v (by decide)
theorem lm_n29 (j : Nat) (h : j < 7) : jaI (layM F A L GF GA) 37 .int (Int32.ofNat j) = some (GA 29 j) := by
  rw [lm_a29, if_pos (by rw [oi (by omega)]; omega), on (by omega)]
theorem lm_sn29 (j : Nat) (v : Int32) (h : j < 7) : jaSI (layM F A L GF GA) 37 (Int32.ofNat j) v = some (layM F A L GF (tu GA 29 j v)) := by
  rw [lm_s29, if_pos (by rw [oi (by omega)]; omega), on (by omega), tu_eq]
theorem lm_n29_0 : jaI (layM F A L GF GA) 37 .int 0 = some (GA 29 0) := lm_n29 0 (by decide)
theorem lm_sn29_0 (v : Int32) : jaSI (layM F A L GF GA) 37 0 v = some (layM F A L GF (tu GA 29 0 v)) := lm_sn29 0 v (by decide)
theorem lm_n29_1 : jaI (layM F A L GF GA) 37 .int 1 = some (GA 29 1) := lm_n29 1 (by decide)
theorem lm_sn29_1 (v : Int32) : jaSI (layM F A L GF GA) 37 1 v = some (layM F A L GF (tu GA 29 1 v)) := lm_sn29 1 v (by decide)
theorem lm_n29_2 : jaI (layM F A L GF GA) 37 .int 2 = some (GA 29 2) := lm_n29 2 (by decide)
theorem lm_sn29_2 (v : Int32) : jaSI (layM F A L GF GA) 37 2 v = some (layM F A L GF (tu GA 29 2 v)) := lm_sn29 2 v (by decide)
theorem lm_n29_3 : jaI (layM F A L GF GA) 37 .int 3 = some (GA 29 3) := lm_n29 3 (by decide)
theorem lm_sn29_3 (v : Int32) : jaSI (layM F A L GF GA) 37 3 v = some (layM F A L GF (tu GA 29 3 v)) := lm_sn29 3 v (by decide)
theorem lm_n29_4 : jaI (layM F A L GF GA) 37 .int 4 = some (GA 29 4) := lm_n29 4 (by decide)
theorem lm_sn29_4 (v : Int32) : jaSI (layM F A L GF GA) 37 4 v = some (layM F A L GF (tu GA 29 4 v)) := lm_sn29 4 v (by decide)
theorem lm_n29_5 : jaI (layM F A L GF GA) 37 .int 5 = some (GA 29 5) := lm_n29 5 (by decide)
theorem lm_sn29_5 (v : Int32) : jaSI (layM F A L GF GA) 37 5 v = some (layM F A L GF (tu GA 29 5 v)) := lm_sn29 5 v (by decide)
theorem lm_n29_6 : jaI (layM F A L GF GA) 37 .int 6 = some (GA 29 6) := lm_n29 6 (by decide)
theorem lm_sn29_6 (v : Int32) : jaSI (layM F A L GF GA) 37 6 v = some (layM F A L GF (tu GA 29 6 v)) := lm_sn29 6 v (by decide)
theorem lm_n30 (j : Nat) (h : j < 200) : jaI (layM F A L GF GA) 38 .boolean (Int32.ofNat j) = some (GA 30 j) := by
  rw [lm_a30, if_pos (by rw [oi (by omega)]; omega), on (by omega)]
theorem lm_sn30 (j : Nat) (v : Int32) (h : j < 200) : jaSB (layM F A L GF GA) 38 .boolean (Int32.ofNat j) v = some (layM F A L GF (tu GA 30 j (vp_nar .boolean v))) := by
  rw [lm_s30, if_pos (by rw [oi (by omega)]; omega), on (by omega), tu_eq]
theorem lm_n31 (j : Nat) (h : j < 4) : jaI (layM F A L GF GA) 39 .int (Int32.ofNat j) = some (A 31 j) := by
  rw [lm_a31, if_pos (by rw [oi (by omega)]; omega), on (by omega)]
theorem lm_sn31 (j : Nat) (v : Int32) (h : j < 4) : jaSI (layM F A L GF GA) 39 (Int32.ofNat j) v = some (layM F (tu A 31 j v) L GF GA) := by
  rw [lm_s31, if_pos (by rw [oi (by omega)]; omega), on (by omega), tu_eq]
theorem lm_n31_0 : jaI (layM F A L GF GA) 39 .int 0 = some (A 31 0) := lm_n31 0 (by decide)
theorem lm_sn31_0 (v : Int32) : jaSI (layM F A L GF GA) 39 0 v = some (layM F (tu A 31 0 v) L GF GA) := lm_sn31 0 v (by decide)
theorem lm_n31_1 : jaI (layM F A L GF GA) 39 .int 1 = some (A 31 1) := lm_n31 1 (by decide)
theorem lm_sn31_1 (v : Int32) : jaSI (layM F A L GF GA) 39 1 v = some (layM F (tu A 31 1 v) L GF GA) := lm_sn31 1 v (by decide)
theorem lm_n31_2 : jaI (layM F A L GF GA) 39 .int 2 = some (A 31 2) := lm_n31 2 (by decide)
theorem lm_sn31_2 (v : Int32) : jaSI (layM F A L GF GA) 39 2 v = some (layM F (tu A 31 2 v) L GF GA) := lm_sn31 2 v (by decide)
theorem lm_n31_3 : jaI (layM F A L GF GA) 39 .int 3 = some (A 31 3) := lm_n31 3 (by decide)
theorem lm_sn31_3 (v : Int32) : jaSI (layM F A L GF GA) 39 3 v = some (layM F (tu A 31 3 v) L GF GA) := lm_sn31 3 v (by decide)
theorem lm_n32 (j : Nat) (h : j < 4) : jaI (layM F A L GF GA) 40 .int (Int32.ofNat j) = some (A 32 j) := by
  rw [lm_a32, if_pos (by rw [oi (by omega)]; omega), on (by omega)]
theorem lm_sn32 (j : Nat) (v : Int32) (h : j < 4) : jaSI (layM F A L GF GA) 40 (Int32.ofNat j) v = some (layM F (tu A 32 j v) L GF GA) := by
  rw [lm_s32, if_pos (by rw [oi (by omega)]; omega), on (by omega), tu_eq]
theorem lm_n32_0 : jaI (layM F A L GF GA) 40 .int 0 = some (A 32 0) := lm_n32 0 (by decide)
theorem lm_sn32_0 (v : Int32) : jaSI (layM F A L GF GA) 40 0 v = some (layM F (tu A 32 0 v) L GF GA) := lm_sn32 0 v (by decide)
theorem lm_n32_1 : jaI (layM F A L GF GA) 40 .int 1 = some (A 32 1) := lm_n32 1 (by decide)
theorem lm_sn32_1 (v : Int32) : jaSI (layM F A L GF GA) 40 1 v = some (layM F (tu A 32 1 v) L GF GA) := lm_sn32 1 v (by decide)
theorem lm_n32_2 : jaI (layM F A L GF GA) 40 .int 2 = some (A 32 2) := lm_n32 2 (by decide)
theorem lm_sn32_2 (v : Int32) : jaSI (layM F A L GF GA) 40 2 v = some (layM F (tu A 32 2 v) L GF GA) := lm_sn32 2 v (by decide)
theorem lm_n32_3 : jaI (layM F A L GF GA) 40 .int 3 = some (A 32 3) := lm_n32 3 (by decide)
theorem lm_sn32_3 (v : Int32) : jaSI (layM F A L GF GA) 40 3 v = some (layM F (tu A 32 3 v) L GF GA) := lm_sn32 3 v (by decide)
theorem lm_n33 (j : Nat) (h : j < 800) : jaI (layM F A L GF GA) 41 .int (Int32.ofNat j) = some (A 33 j) := by
  rw [lm_a33, if_pos (by rw [oi (by omega)]; omega), on (by omega)]
theorem lm_sn33 (j : Nat) (v : Int32) (h : j < 800) : jaSI (layM F A L GF GA) 41 (Int32.ofNat j) v = some (layM F (tu A 33 j v) L GF GA) := by
  rw [lm_s33, if_pos (by rw [oi (by omega)]; omega), on (by omega), tu_eq]
theorem lm_n34 (j : Nat) (h : j < 200) : jaI (layM F A L GF GA) 42 .int (Int32.ofNat j) = some (GA 34 j) := by
  rw [lm_a34, if_pos (by rw [oi (by omega)]; omega), on (by omega)]
theorem lm_sn34 (j : Nat) (v : Int32) (h : j < 200) : jaSI (layM F A L GF GA) 42 (Int32.ofNat j) v = some (layM F A L GF (tu GA 34 j v)) := by
  rw [lm_s34, if_pos (by rw [oi (by omega)]; omega), on (by omega), tu_eq]
end LMN
