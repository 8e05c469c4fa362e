/-! pressing, 3 -/
set_option maxRecDepth 100000
/-- a new bar -/
def nT (T : Nat → Nat → Int32) (i : Nat) (b bv : Int32) : Nat → Nat → Int32 := tu (tu (tu (va_up T (1000 + i) (fun _ => 0)) (1000 + i) 6 (-1)) (1000 + i) 1 b) (1000 + i) 2 bv
def gF (A : Nat → Nat → Int32) (GF : Nat → Int32) (all w g : Int32) : Nat → Int32 := va_up (va_up (va_up (va_up (va_up (va_up GF 30 all) 31 (hdA A all)) 32 (tlA A all)) 33 (wdA A all w)) 34 (usA A all w)) 29 g
section P3
variable {c c' np nd nb na ns nj : Nat} {no dp bd jp : Nat → Nat} {ld : Option Nat} {rw : Nat → Option Nat} {rk : Nat → Nat × Nat} {T T' A A' : Nat → Nat → Int32} {F F' GF : Nat → Int32} {L : Nat → Int64} {GA : Nat → Nat → Int32}
theorem press_fr {p d i : Nat} {all w b v : Int32} {st : jSt} (n j : Nat) (h : ¬ (n = 1000 + i ∨ (n = 200 + d ∧ (j = 3 ∨ j = 4)) ∨ (n = 8 ∧ (j = 4 ∨ j = 10 ∨ j = 12 ∨ j = 14)) ∨ n = 16 ∨ (n = 12 ∧ j = 0) ∨ (n = 13 ∧ j = 0) ∨ n = 14 ∨ (64 + 16 * p + 3 ≤ n ∧ n < 64 + 16 * p + 3 + no p ∧ j = 1))) : eT (decT p (no p) 0 (sT A (nT T i b all) i v all w st)) i d n j = T n j := by
  simp only [eT, tu]
  repeat rw [if_neg (by omega)]
  rw [decT_fr _ _ _ _ _ (by omega)]
  simp only [sT, cT, uT, nT, tu, va_up]
  repeat rw [if_neg (by omega)]
theorem eA_fr {d i : Nat} {b : Int32} {G : Nat → Int32} (n j : Nat) (h : ¬ ((11 ≤ n ∧ n ≤ 18 ∧ j = i) ∨ ((n = 8 ∨ n = 9) ∧ j = d))) : eA A G b i d n j = A n j := by
  simp only [eA, tu]
  repeat rw [if_neg (by omega)]
theorem isum_new {n : Nat} {f g : Nat → Int32} (h : ∀ i, i < n → g i = f i) : isum (n + 1) g = isum n f + g n := by
  rw [isum, isum_congr h]
theorem press_rel (hR : Rel c np nd nb ns nj no dp bd jp ld rw rk T A F L) (hc : c < 64) {d : Nat} (hd : d < nd) (hb : nb < 200) {b all w : Int32} {st : jSt} (hi : Inv A no (dp d) st) : Rel (c + 1) np nd (nb + 1) ns nj no dp (va_up bd nb d) jp (some (200 + d)) rw rk (eT (decT (dp d) (no (dp d)) 0 (sT A (nT T nb b all) nb (T 14 0) all w st)) nb d) (eA (decA (dp d) (gT GA st) (no (dp d)) 0 A) (gF A GF all w st.1) b nb d) (eF F nb d) (eL L (gF A GF all w st.1) b) := by
  obtain ⟨hP, hD, hB, hA, hL, hT, hK, hJ, hO, hS⟩ := id hR
  obtain ⟨p8, pF, pT, pp⟩ := id hP
  obtain ⟨d12, dF, dT, ⟨dt1, dt2, dt3⟩, dd⟩ := id hD
  obtain ⟨b2, bF, bT, ⟨bt1, bt2, bt3⟩, bb⟩ := id hB
  obtain ⟨q1, q2, q3, q4, q5, q6, q7⟩ := dd d hd
  obtain ⟨x1, x2, ⟨x3, x4, x5⟩, x6⟩ := pp (dp d) q1
  have hi0 := hi.1
  obtain ⟨T', hT'⟩ : ∃ T', T' = eT (decT (dp d) (no (dp d)) 0 (sT A (nT T nb b all) nb (T 14 0) all w st)) nb d := ⟨_, rfl⟩
  obtain ⟨A', hA'⟩ : ∃ A', A' = eA (decA (dp d) (gT GA st) (no (dp d)) 0 A) (gF A GF all w st.1) b nb d := ⟨_, rfl⟩
  rw [← hT', ← hA']
  have fT' : ∀ n j, ¬ (n = 1000 + nb ∨ (n = 200 + d ∧ (j = 3 ∨ j = 4)) ∨ (n = 8 ∧ (j = 4 ∨ j = 10 ∨ j = 12 ∨ j = 14)) ∨ n = 16 ∨ (n = 12 ∧ j = 0) ∨ (n = 13 ∧ j = 0) ∨ n = 14 ∨ (64 + 16 * dp d + 3 ≤ n ∧ n < 64 + 16 * dp d + 3 + no (dp d) ∧ j = 1)) → T' n j = T n j := by
    intro n j h
    rw [hT']
    exact press_fr n j h
  have fA' : ∀ n j, ¬ ((11 ≤ n ∧ n ≤ 18 ∧ j = nb) ∨ ((n = 8 ∨ n = 9) ∧ j = d) ∨ (n = 22 ∧ 3 * dp d ≤ j ∧ j < 3 * dp d + no (dp d))) → A' n j = A n j := by
    intro n j h
    rw [hA', eA_fr n j (by omega), decA_fr _ _ _ _ _ (by omega)]
  have e16 : ∀ k, k < no (dp d) → sT A (nT T nb b all) nb (T 14 0) all w st 16 k = gT GA st 23 k ∧ 0 ≤ (gT GA st 23 k).toInt ∧ (gT GA st 23 k).toInt ≤ (mstP A no (dp d) k).toInt := by
    intro k hk
    have : k = 0 ∨ k = 1 ∨ k = 2 := by omega
    have hne : ∀ k, sT A (nT T nb b all) nb (T 14 0) all w st 16 k = cT (tu (uT A (nT T nb b all) all w) (1000 + nb) 5 (uT A (nT T nb b all) all w 14 0 - T 14 0)) st 16 k := by
      intro k
      unfold sT
      rw [tu_ne _ _ _ (by omega), tu_ne _ _ _ (by omega)]
    rcases this with rfl | rfl | rfl
    · exact ⟨hne 0, hi.2.1⟩
    · exact ⟨hne 1, hi.2.2.1⟩
    · exact ⟨hne 2, hi.2.2.2⟩
  have w22 : ∀ k, k < no (dp d) → A' 22 (3 * dp d + k) = A 22 (3 * dp d + k) - gT GA st 23 k ∧ T' (64 + 16 * dp d + 3 + k) 1 = A 22 (3 * dp d + k) - gT GA st 23 k := by
    intro k hk
    constructor
    · rw [hA', eA_fr _ _ (by omega), decA_at _ _ _ _ (by omega) (by omega)]
    · have e1 : ∀ n j, ¬ (n = 8 ∨ n = 200 + d) → T' n j = decT (dp d) (no (dp d)) 0 (sT A (nT T nb b all) nb (T 14 0) all w st) n j := by
        intro n j h
        rw [hT']
        simp only [eT, tu]
        repeat rw [if_neg (by omega)]
      rw [e1 _ _ (by omega), decT_at _ _ _ _ (by omega) (by omega), (e16 k hk).1, ← (x6 k hk).2.1]
      congr 1
      simp only [sT, cT, uT, nT, tu, va_up]
      repeat rw [if_neg (by omega)]
  have v8 : T' 8 4 = T 8 4 + 1 ∧ T' 8 10 = Int32.ofNat (nb + 1) ∧ T' 8 12 = T 8 4 ∧ T' (200 + d) 3 = T (200 + d) 3 + 1 ∧ T' (200 + d) 4 = T (200 + d) 4 + 1 := by
    rw [hT']
    refine ⟨?_, ?_, ?_, ?_, ?_⟩ <;> simp (disch := omega) only [eT, decT_fr, sT, cT, uT, nT, tu_at, tu_ne, tu_nk, vu_ne]
  have vs : T' 12 0 = T 12 0 + hdA A all ∧ T' 13 0 = T 13 0 + tlA A all ∧ T' 14 0 = T 14 0 + wdA A all w := by
    rw [hT']
    refine ⟨?_, ?_, ?_⟩ <;> simp (disch := omega) only [eT, decT_fr, sT, cT, uT, nT, tu_at, tu_ne, tu_nk, vu_ne]
  have vb : T' (1000 + nb) 1 = b ∧ T' (1000 + nb) 2 = all ∧ T' (1000 + nb) 3 = st.1 ∧ T' (1000 + nb) 4 = usA A all w - st.1 ∧ T' (1000 + nb) 5 = wdA A all w ∧ T' (1000 + nb) 6 = -1 ∧ T' (1000 + nb) 7 = 0 := by
    rw [hT']
    refine ⟨?_, ?_, ?_, ?_, ?_, ?_, ?_⟩ <;> simp (disch := omega) only [eT, decT_fr, sT, cT, uT, nT, tu_at, tu_ne, tu_nk, vu_ne, vu_at, add_sub]
  have va : A' 11 nb = Int32.ofNat d ∧ A' 12 nb = b ∧ A' 13 nb = all ∧ A' 14 nb = st.1 ∧ A' 15 nb = usA A all w - st.1 ∧ A' 16 nb = wdA A all w ∧ A' 17 nb = -1 ∧ A' 18 nb = -1 ∧ A' 8 d = A 8 d + 1 ∧ A' 9 d = A 9 d + 1 := by
    rw [hA']
    refine ⟨?_, ?_, ?_, ?_, ?_, ?_, ?_, ?_, ?_, ?_⟩ <;> simp (disch := omega) only [eA, gF, decA_fr, tu_at, tu_ne, tu_nk, vu_ne, vu_at]
  obtain ⟨b1v, b2v, b3v, b4v, b5v, b6v, b7v⟩ := vb
  obtain ⟨a11, a12, a13, a14, a15, a16, a17, a18, a8, a9⟩ := va
  obtain ⟨u1, u2, u3, u4, u5⟩ := v8
  have e12 := add32 (a := F 12) (b := 1) (by rw [k32_1]; omega) (by rw [k32_1]; omega)
  rw [k32_1] at e12
  have hF : ∀ k, ¬ (k = 12 ∨ k = 13 ∨ k = 22 ∨ k = 23) → eF F nb d k = F k := by
    intro k h
    simp only [eF, va_up]
    repeat rw [if_neg (by omega)]
  refine ⟨?_, ?_, ?_, ?_, RL_congr (fun n j h => fT' n j (by omega)) (fun n j h => fA' n j (by omega)) hL, ?_, RK_congr (fun n j h => fT' n j (by omega)) (fun n j h => fA' n j (by omega)) (hF _ (by omega)) hK, RJ_congr (fun n j h => fT' n j (by omega)) (fun n j h => fA' n j (by omega)) (fun k h => hF k (by omega)) hJ, RO_congr (fun n j h => fT' n j (by omega)) (fun k h => hF k (by omega)) hO, RS_congr (fun n j h => fT' n j (by omega)) (fun n j h => fA' n j (by omega)) hS⟩
  · -- profiles
    refine ⟨p8, by rw [hF 1 (by omega)]; exact pF, by rw [fT' 8 1 (by omega)]; exact pT, fun e he => ?_⟩
    obtain ⟨y1, y2, y3, y4⟩ := pp e he
    rw [fT' (64 + 16 * e) 0 (by omega), fT' (64 + 16 * e) 1 (by omega), fT' (64 + 16 * e) 2 (by omega), fT' (64 + 16 * e) 3 (by omega), fT' (64 + 16 * e + 1) 2 (by omega), fA' 2 e (by omega), fA' 3 e (by omega), fA' 4 e (by omega), fA' 5 e (by omega), fA' 20 e (by omega)]
    refine ⟨y1, y2, y3, fun k hk => ?_⟩
    rw [fT' (64 + 16 * e + 3 + k) 0 (by omega), fA' 21 _ (by omega)]
    obtain ⟨z1, z2, z3, z4, z5, z6⟩ := y4 k hk
    by_cases hed : e = dp d
    · subst hed
      obtain ⟨g1, g2⟩ := w22 k hk
      obtain ⟨_, g3, g4⟩ := e16 k hk
      have hm : (mstP A no (dp d) k).toInt ≤ (A 22 (3 * dp d + k)).toInt := by
        unfold mstP
        rw [if_pos hk]
        split
        · exact Int.le_refl _
        · rename_i hh
          rw [Int32.le_iff_toInt_le, k32_60] at hh
          rw [k32_60]
          omega
      have e5 := sub32 (a := A 22 (3 * dp d + k)) (b := gT GA st 23 k) (by omega) (by omega)
      rw [g1, g2]
      exact ⟨z1, rfl, z3, z4, by omega, by omega⟩
    · rw [fT' (64 + 16 * e + 3 + k) 1 (by omega), fA' 22 _ (by omega)]
      exact ⟨z1, z2, z3, z4, z5, z6⟩
  · -- dies
    refine ⟨d12, by rw [hF 6 (by omega)]; exact dF, by rw [fT' 8 3 (by omega)]; exact dT, ⟨by rw [u1, dt1]; rfl, ?_, ?_⟩, fun e he => ?_⟩
    · show 0 ≤ (F 12 + 1).toInt
      omega
    · show (F 12 + 1).toInt ≤ _
      omega
    · obtain ⟨y1, y2, y3, y4, y5, y6, y7⟩ := dd e he
      rw [fT' (200 + e) 1 (by omega), fT' (200 + e) 2 (by omega), fT' (200 + e) 5 (by omega), fT' (200 + e) 6 (by omega), fA' 6 e (by omega), fA' 7 e (by omega), fA' 10 e (by omega)]
      by_cases hed : e = d
      · subst hed
        rw [u4, u5, a8, a9, y5, y6]
        exact ⟨y1, y2, y3, y4, rfl, rfl, y7⟩
      · rw [fT' (200 + e) 3 (by omega), fT' (200 + e) 4 (by omega), fA' 8 e (by omega), fA' 9 e (by omega)]
        exact ⟨y1, y2, y3, y4, y5, y6, y7⟩
  · -- bars
    refine ⟨by omega, rfl, u2, ⟨by rw [fT' 8 25 (by omega), hF 45 (by omega)]; exact bt1, by rw [hF 45 (by omega)]; exact bt2, by rw [hF 45 (by omega)]; omega⟩, fun i hi => ?_⟩
    rw [hF 45 (by omega)]
    by_cases hib : i = nb
    · subst hib
      rw [vu_at, a11, a12, a13, a14, a15, a16, a17, a18, b1v, b2v, b3v, b4v, b5v, b6v, b7v]
      exact ⟨⟨hd, rfl⟩, ⟨rfl, rfl, rfl, rfl, rfl, rfl⟩, .inl ⟨rfl, rfl⟩, hi0, .inl rfl⟩
    · have hi' : i < nb := by omega
      rw [vu_ne _ _ hib, fT' (1000 + i) 1 (by omega), fT' (1000 + i) 2 (by omega), fT' (1000 + i) 3 (by omega), fT' (1000 + i) 4 (by omega), fT' (1000 + i) 5 (by omega), fT' (1000 + i) 6 (by omega), fT' (1000 + i) 7 (by omega), fA' 11 i (by omega), fA' 12 i (by omega), fA' 13 i (by omega), fA' 14 i (by omega), fA' 15 i (by omega), fA' 16 i (by omega), fA' 17 i (by omega), fA' 18 i (by omega)]
      exact bb i hi'
  · -- accounts
    obtain ⟨h1, h2, h3, h4, h5, h6, h7, h8, h9⟩ := hA
    refine ⟨?_, ?_, ?_, ?_, ?_, ?_, ?_, by rw [fT' 12 2 (by omega)]; exact h8, by rw [fT' 13 2 (by omega)]; exact h9⟩
    · rw [vs.1, h1]
      show _ = (L 0 + (hdA A all).toInt64).toInt32
      rw [Int64.toInt32_add, Int32.toInt32_toInt64]
    · rw [vs.2.1, h2]
      show _ = (L 1 + (tlA A all).toInt64).toInt32
      rw [Int64.toInt32_add, Int32.toInt32_toInt64]
    · rw [vs.2.2, h3]
      show _ = (L 2 + (wdA A all w).toInt64).toInt32
      rw [Int64.toInt32_add, Int32.toInt32_toInt64]
    · rw [isum_new (f := A 14) (fun i h => fA' 14 i (by omega)), a14, h4]
      show _ = (L 3 + st.1.toInt64).toInt32
      rw [Int64.toInt32_add, Int32.toInt32_toInt64]
    · rw [isum_new (f := A 15) (fun i h => fA' 15 i (by omega)), a15, h5]
      show _ = (L 4 + (usA A all w - st.1).toInt64).toInt32
      rw [Int64.toInt32_add, Int32.toInt32_toInt64]
    · rw [isum_new (f := A 13) (fun i h => fA' 13 i (by omega)), a13, h6]
      show _ = (L 5 + all.toInt64).toInt32
      rw [Int64.toInt32_add, Int32.toInt32_toInt64]
    · rw [isum_new (f := A 12) (fun i h => fA' 12 i (by omega)), a12, h7]
      show _ = (L 6 + b.toInt64).toInt32
      rw [Int64.toInt32_add, Int32.toInt32_toInt64]
  · exact .inr ⟨d, hd, rfl, rfl, by rw [u3, dt1]; rfl⟩
end P3
