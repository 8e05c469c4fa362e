/-! sheet and lose: a row is left behind, and forgotten -/
set_option maxRecDepth 100000
/-- a heap that tells less -/
def jsub (h' h : jH) : Prop := ∀ n o, h' n = some o → h n = some o ∧ jclo h' o
def alikeS {α : Type} (fx fm : jH → Option (α × jH)) : Prop := ∀ (c : Nat) (hx hm : jH), c < 64 → Rst c hx hm → ∃ (r : α) (hx' hm' hy : jH), fx hx = some (r, hx') ∧ fm hm = some (r, hm') ∧ jsub hy hx' ∧ Rst (c + 1) hy hm'
theorem Rst_clo {c : Nat} {hx hm : jH} (h : Rst c hx hm) : jsub hx hx := by
  obtain ⟨np, nd, nb, ns, nj, no, dp, bd, jp, ld, rw, rk, T, A, F, L, GF, GA, rfl, rfl, hR⟩ := h
  exact fun n o ho => ⟨ho, lay_clo hR n o ho⟩
theorem alike.S {α : Type} {fx fm : jH → Option (α × jH)} (h : alike fx fm) : alikeS fx fm := by
  intro c hx hm hc hR
  obtain ⟨r, hx', hm', h1, h2, h3⟩ := h c hx hm hc hR
  exact ⟨r, hx', hm', hx', h1, h2, Rst_clo h3, h3⟩
theorem alikeS_mk {α : Type} {fx fm : jH → Option (α × jH)} (h : ∀ (c np nd nb ns nj : Nat) (no dp bd jp : Nat → Nat) (ld : Option Nat) (rw : Nat → Option Nat) (rk : Nat → Nat × Nat) (T A : Nat → Nat → Int32) (F : Nat → Int32) (L : Nat → Int64) (GF : Nat → Int32) (GA : Nat → Nat → Int32), c < 64 → Rel c np nd nb ns nj no dp bd jp ld rw rk T A F L → ∃ (r : α) (hx' hm' hy : jH), fx (lay (kX np nd nb no rk) T (rX np nd nb no dp bd ld rw)) = some (r, hx') ∧ fm (layM F A L GF GA) = some (r, hm') ∧ jsub hy hx' ∧ Rst (c + 1) hy hm') : alikeS fx fm := by
  intro c hx hm hc hr
  obtain ⟨np, nd, nb, ns, nj, no, dp, bd, jp, ld, rw, rk, T, A, F, L, GF, GA, rfl, rfl, hR⟩ := hr
  exact h c np nd nb ns nj no dp bd jp ld rw rk T A F L GF GA hc hR
theorem sub_same {α : Type} {n : Nat} {a b : Option (α × jH)} (h : ∃ (r : α) (hx' hm' : jH), a = some (r, hx') ∧ b = some (r, hm') ∧ Rst n hx' hm') : ∃ (r : α) (hx' hm' hy : jH), a = some (r, hx') ∧ b = some (r, hm') ∧ jsub hy hx' ∧ Rst n hy hm' := by
  obtain ⟨r, hx', hm', h1, h2, h3⟩ := h
  exact ⟨r, hx', hm', hx', h1, h2, Rst_clo h3, h3⟩
theorem jnew_lay0 {K : Nat → Nat × Nat} {T : Nat → Nat → Int32} {R : Nat → Nat → Option Nat} {a : Nat} (k : Nat × Nat) (f : Nat → Int32) (r : Nat → Option Nat) {o : jO} (e : lay K T R a = none) (h8 : 8 ≤ a) (ho : cel k f r = some o) : jnew (lay K T R) a o = some (lay (va_up K a k) (va_up T a f) (va_up R a r)) := by
  unfold jnew
  rw [e]
  show (if 8 ≤ a then some (jset (lay K T R) a o) else none) = _
  rw [if_pos h8, lx_set K T R a k f r ho]
theorem fit_0 (f : Nat) : fitf f 0 := by
  unfold fitf
  split
  · decide
  · decide
  · trivial
section SH
variable {c c' np nd nb na ns nj : Nat} {no dp bd jp : Nat → Nat} {ld : Option Nat} {rw : Nat → Option Nat} {rk : Nat → Nat × Nat} {T T' A A' : Nat → Nat → Int32} {F F' GF : Nat → Int32} {L : Nat → Int64} {GA : Nat → Nat → Int32}
theorem rfix_rw {rw' : Nat → Option Nat} {n k : Nat} (h : ∀ t, t < 4 → n = 32 + t → k = 1 → rw' t = rw t) : rfix np nd nb ld rw' n k = rfix np nd nb ld rw n k := by
  unfold rfix
  split <;> first | rfl | skip
  · by_cases e : k = 1
    · rw [if_pos e, if_pos e]; exact h 0 (by decide) rfl e
    · rw [if_neg e, if_neg e]
  · by_cases e : k = 1
    · rw [if_pos e, if_pos e]; exact h 1 (by decide) rfl e
    · rw [if_neg e, if_neg e]
  · by_cases e : k = 1
    · rw [if_pos e, if_pos e]; exact h 2 (by decide) rfl e
    · rw [if_neg e, if_neg e]
  · by_cases e : k = 1
    · rw [if_pos e, if_pos e]; exact h 3 (by decide) rfl e
    · rw [if_neg e, if_neg e]
theorem rX_rw {s : Nat} (hs : s < 4) (x : Option Nat) : ru (rX np nd nb no dp bd ld rw) (32 + s) 1 x = rX np nd nb no dp bd ld (va_up rw s x) := by
  funext n k
  by_cases a0 : n = 32 + s ∧ k = 1
  · obtain ⟨rfl, rfl⟩ := a0
    rw [ru_at]
    have : s = 0 ∨ s = 1 ∨ s = 2 ∨ s = 3 := by omega
    rcases this with rfl | rfl | rfl | rfl
    · exact (vu_at rw 0 x).symm
    · exact (vu_at rw 1 x).symm
    · exact (vu_at rw 2 x).symm
    · exact (vu_at rw 3 x).symm
  · rw [ru_ne _ _ a0]
    unfold rX
    by_cases c1 : n < 64
    · rw [if_pos c1, if_pos c1]
      refine (rfix_rw fun t ht e1 e2 => ?_).symm
      exact vu_ne rw x (by omega)
    · rw [if_neg c1, if_neg c1]
theorem rX_row {r : Nat} (h2 : 40 ≤ r) (h3 : r ≤ 44) : va_up (rX np nd nb no dp bd ld rw) r (fun _ => none) = rX np nd nb no dp bd ld rw := by
  funext n
  by_cases e : n = r
  · subst e
    rw [vu_at]
    have : n = 40 ∨ n = 41 ∨ n = 42 ∨ n = 43 ∨ n = 44 := by omega
    rcases this with rfl | rfl | rfl | rfl | rfl <;> rfl
  · exact vu_ne _ _ e
theorem kfix_rk {rk' : Nat → Nat × Nat} {n : Nat} (h : rk' n = rk n) : kfix rk' n = kfix rk n := by
  unfold kfix
  split <;> first | rfl | exact h
theorem kX_rk {rk' : Nat → Nat × Nat} {n : Nat} (h : rk' n = rk n) : kX np nd nb no rk' n = kX np nd nb no rk n := by
  unfold kX
  by_cases c1 : n < 64
  · rw [if_pos c1, if_pos c1, kfix_rk h]
  · rw [if_neg c1, if_neg c1]
theorem kX_newrow {r : Nat} (h2 : 40 ≤ r) (h3 : r ≤ 44) (x : Nat × Nat) : va_up (kX np nd nb no rk) r x = kX np nd nb no (va_up rk r x) := by
  funext n
  by_cases e : n = r
  · subst e
    rw [vu_at, kX_row h2 h3, vu_at]
  · rw [vu_ne _ _ e]
    exact (kX_rk (vu_ne rk x e)).symm
theorem row_none {r : Nat} (h2 : 40 ≤ r) (h3 : r ≤ 44) (h : (rk r).1 = 0) : (lay (kX np nd nb no rk) T (rX np nd nb no dp bd ld rw)) r = none := by
  unfold lay
  rw [kX_row h2 h3]
  unfold cel
  rw [h]
theorem row_used (hS : RS rw rk T A) {r : Nat} (h2 : 40 ≤ r) (h3 : r ≤ 44) (h : (lay (kX np nd nb no rk) T (rX np nd nb no dp bd ld rw)) r ≠ none) : ∃ s, s < 4 ∧ rw s = some r := by
  rcases Classical.em (∃ s, s < 4 ∧ rw s = some r) with g | g
  · exact g
  · exact absurd (row_none h2 h3 (hS.2.2 r h2 h3 (fun s hs e => g ⟨s, hs, e⟩))) h
theorem isn {o : Option jO} (h : ¬ o.isNone = true) : o ≠ none := fun e => h (by rw [e]; rfl)
theorem jrow_free (hS : RS rw rk T A) : ∃ r, jrow (lay (kX np nd nb no rk) T (rX np nd nb no dp bd ld rw)) = r ∧ 40 ≤ r ∧ r ≤ 44 ∧ (lay (kX np nd nb no rk) T (rX np nd nb no dp bd ld rw)) r = none := by
  unfold jrow
  by_cases h0 : ((lay (kX np nd nb no rk) T (rX np nd nb no dp bd ld rw)) 40).isNone = true
  · rw [if_pos h0]; exact ⟨40, rfl, by decide, by decide, Option.isNone_iff_eq_none.mp h0⟩
  rw [if_neg h0]
  by_cases h1 : ((lay (kX np nd nb no rk) T (rX np nd nb no dp bd ld rw)) 41).isNone = true
  · rw [if_pos h1]; exact ⟨41, rfl, by decide, by decide, Option.isNone_iff_eq_none.mp h1⟩
  rw [if_neg h1]
  by_cases h2 : ((lay (kX np nd nb no rk) T (rX np nd nb no dp bd ld rw)) 42).isNone = true
  · rw [if_pos h2]; exact ⟨42, rfl, by decide, by decide, Option.isNone_iff_eq_none.mp h2⟩
  rw [if_neg h2]
  by_cases h3 : ((lay (kX np nd nb no rk) T (rX np nd nb no dp bd ld rw)) 43).isNone = true
  · rw [if_pos h3]; exact ⟨43, rfl, by decide, by decide, Option.isNone_iff_eq_none.mp h3⟩
  rw [if_neg h3]
  refine ⟨44, rfl, by decide, by decide, ?_⟩
  rcases Classical.em ((lay (kX np nd nb no rk) T (rX np nd nb no dp bd ld rw)) 44 = none) with g | g
  · exact g
  exfalso
  obtain ⟨s0, a0, b0⟩ := row_used hS (r := 40) (by decide) (by decide) (isn h0)
  obtain ⟨s1, a1, b1⟩ := row_used hS (r := 41) (by decide) (by decide) (isn h1)
  obtain ⟨s2, a2, b2⟩ := row_used hS (r := 42) (by decide) (by decide) (isn h2)
  obtain ⟨s3, a3, b3⟩ := row_used hS (r := 43) (by decide) (by decide) (isn h3)
  obtain ⟨s4, a4, b4⟩ := row_used hS (r := 44) (by decide) (by decide) g
  have ne : ∀ {u v x y : Nat}, rw u = some x → rw v = some y → x ≠ y → u ≠ v := fun h1 h2 h3 e => h3 (by rw [e, h2] at h1; exact (Option.some.inj h1).symm)
  have c1 := ne b0 b1 (by decide)
  have c2 := ne b0 b2 (by decide)
  have c3 := ne b0 b3 (by decide)
  have c4 := ne b0 b4 (by decide)
  have c5 := ne b1 b2 (by decide)
  have c6 := ne b1 b3 (by decide)
  have c7 := ne b1 b4 (by decide)
  have c8 := ne b2 b3 (by decide)
  have c9 := ne b2 b4 (by decide)
  have c10 := ne b3 b4 (by decide)
  omega
theorem RS_new {rw' : Nat → Option Nat} {rk' : Nat → Nat × Nat} {s r' g z : Nat} (hs : s < 4) (hr : 40 ≤ r') (hr2 : r' ≤ 44) (hg : g < 3) (hz : z ≤ 200) (h : RS rw rk T A) (hfree : ∀ t, t < 4 → rw t ≠ some r')
    (hrw1 : rw' s = some r') (hrw2 : ∀ t, t ≠ s → rw' t = rw t) (hrk1 : rk' r' = (kof g, z)) (hrk2 : ∀ r, r ≠ r' → rw s ≠ some r → rk' r = rk r) (hrk3 : ∀ r, r ≠ r' → rw s = some r → (rk' r).1 = 0)
    (hT1 : ∀ i, i < z → T' r' i = 0) (hT2 : T' (32 + s) 0 = Int32.ofNat g) (hT3 : ∀ n j, n ≠ r' → n ≠ 32 + s → T' n j = T n j)
    (hA1 : A' 31 s = Int32.ofNat g) (hA2 : A' 32 s = Int32.ofNat z) (hA3 : ∀ i, i < z → A' 33 (200 * s + i) = 0) (hA4 : ∀ t, t ≠ s → A' 31 t = A 31 t ∧ A' 32 t = A 32 t ∧ ∀ i, i < 200 → A' 33 (200 * t + i) = A 33 (200 * t + i)) : RS rw' rk' T' A' := by
  obtain ⟨a1, a2, a3⟩ := h
  refine ⟨fun t ht => ?_, fun t u r ht hu e1 e2 => ?_, fun r h1 h2 hn => ?_⟩
  · by_cases hts : t = s
    · subst hts
      exact .inr ⟨r', g, z, hrw1, hr, hr2, hg, hA1, hT2, hrk1, hz, hA2, fun i hi => ⟨by rw [hT1 i hi, hA3 i hi], by rw [hA3 i hi]; exact fit_0 g⟩⟩
    · obtain ⟨w1, w2, w3⟩ := hA4 t hts
      rcases a1 t ht with ⟨e1, e2⟩ | ⟨r, f, z', e1, e2, e3, e4, e5, e6, e7, e8, e9, e10⟩
      · exact .inl ⟨by rw [hrw2 t hts]; exact e1, by rw [w1]; exact e2⟩
      · have n1 : r ≠ r' := fun e => hfree t ht (by rw [e1, e])
        have n2 : rw s ≠ some r := fun e => hts (a2 t s r ht hs e1 e)
        refine .inr ⟨r, f, z', by rw [hrw2 t hts]; exact e1, e2, e3, e4, by rw [w1]; exact e5, by rw [hT3 _ _ (by omega) (by omega)]; exact e6, by rw [hrk2 r n1 n2]; exact e7, e8, by rw [w2]; exact e9, fun i hi => ?_⟩
        rw [hT3 r i n1 (by omega), w3 i (by omega)]
        exact e10 i hi
  · by_cases hts : t = s
    · by_cases hus : u = s
      · rw [hts, hus]
      · exfalso
        rw [hts, hrw1] at e1
        rw [hrw2 u hus] at e2
        exact hfree u hu (by rw [e2, e1])
    · by_cases hus : u = s
      · exfalso
        rw [hus, hrw1] at e2
        rw [hrw2 t hts] at e1
        exact hfree t ht (by rw [e1, e2])
      · rw [hrw2 t hts] at e1
        rw [hrw2 u hus] at e2
        exact a2 t u r ht hu e1 e2
  · have n1 : r ≠ r' := fun e => hn s hs (by rw [hrw1, e])
    rcases Classical.em (rw s = some r) with n2 | n2
    · exact hrk3 r n1 n2
    · rw [hrk2 r n1 n2]
      refine a3 r h1 h2 (fun t ht e => ?_)
      by_cases hts : t = s
      · exact n2 (by rw [← hts]; exact e)
      · exact hn t ht (by rw [hrw2 t hts]; exact e)
theorem RS_lose {rw' : Nat → Option Nat} {rk' : Nat → Nat × Nat} {s r : Nat} (hs : s < 4) (h : RS rw rk T A) (h1 : rw s = some r) (hrw1 : rw' s = none) (hrw2 : ∀ t, t ≠ s → rw' t = rw t) (hrk1 : (rk' r).1 = 0) (hrk2 : ∀ q, q ≠ r → rk' q = rk q) (hA1 : A' 31 s = -1) (hA2 : ∀ t, t ≠ s → A' 31 t = A 31 t) (hA3 : ∀ j, A' 32 j = A 32 j ∧ A' 33 j = A 33 j) : RS rw' rk' T A' := by
  obtain ⟨a1, a2, a3⟩ := h
  refine ⟨fun t ht => ?_, fun t u q ht hu e1 e2 => ?_, fun q h1' h2' hn => ?_⟩
  · by_cases hts : t = s
    · subst hts
      exact .inl ⟨hrw1, hA1⟩
    · rcases a1 t ht with ⟨e1, e2⟩ | ⟨q, f, z', e1, e2, e3, e4, e5, e6, e7, e8, e9, e10⟩
      · exact .inl ⟨by rw [hrw2 t hts]; exact e1, by rw [hA2 t hts]; exact e2⟩
      · have n2 : q ≠ r := fun e => hts (a2 t s r ht hs (by rw [e1, e]) h1)
        refine .inr ⟨q, f, z', by rw [hrw2 t hts]; exact e1, e2, e3, e4, by rw [hA2 t hts]; exact e5, e6, by rw [hrk2 q n2]; exact e7, e8, by rw [(hA3 t).1]; exact e9, fun i hi => ?_⟩
        rw [(hA3 _).2]
        exact e10 i hi
  · by_cases hts : t = s
    · rw [hts, hrw1] at e1; cases e1
    · by_cases hus : u = s
      · rw [hus, hrw1] at e2; cases e2
      · rw [hrw2 t hts] at e1
        rw [hrw2 u hus] at e2
        exact a2 t u q ht hu e1 e2
  · by_cases hq : q = r
    · rw [hq]; exact hrk1
    · rw [hrk2 q hq]
      refine a3 q h1' h2' (fun t ht e => ?_)
      by_cases hts : t = s
      · rw [hts, h1] at e
        exact hq (Option.some.inj e).symm
      · exact hn t ht (by rw [hrw2 t hts]; exact e)
/-- the zeros of a new sheet -/
def zf (A : Nat → Nat → Int32) (a b : Nat) : Nat → Nat → Int32 := fun n j => if n = 33 ∧ a ≤ j ∧ j < b then 0 else A n j
theorem zf_nil (a : Nat) : zf A a a = A := by
  funext n j
  unfold zf
  rw [if_neg (by omega)]
theorem zf_step {a b : Nat} (h : a < b) : zf (tu A 33 a 0) (a + 1) b = zf A a b := by
  funext n j
  unfold zf tu
  by_cases h1 : n = 33 ∧ a ≤ j ∧ j < b
  · rw [if_pos h1]
    by_cases h2 : n = 33 ∧ a + 1 ≤ j ∧ j < b
    · rw [if_pos h2]
    · rw [if_neg h2, if_pos (by omega)]
  · rw [if_neg h1, if_neg (by omega), if_neg (by omega)]
theorem sheet_L {s z : Nat} (hs : s < 4) (hz : z ≤ 200) : ∀ (m k N : Nat) (A : Nat → Nat → Int32), k + m = z → m < N → f_X5_sheet_L56 N 8 (Int32.ofNat s) (Int32.ofNat z) (Int32.ofNat k) (layM F A L GF GA) = some (Int32.ofNat z, layM F (zf A (200 * s + k) (200 * s + z)) L GF GA)
  | m, k, 0, _, _, h => absurd h (Nat.not_lt_zero m)
  | 0, k, N + 1, A, e, _ => by
    have hk : k = z := by omega
    subst hk
    unfold f_X5_sheet_L56
    rw [if_pos (Int32.le_refl _), zf_nil]
  | m + 1, k, N + 1, A, e, h => by
    have hk : ¬ z ≤ k := by omega
    have hI := sheet_L hs hz m (k + 1) N (tu A 33 (200 * s + k) 0) (by omega) (by omega)
    unfold f_X5_sheet_L56
    simp -implicitDefEqProofs (maxSteps := 2000000) (disch := omega) only [lm_is, lm_g0, lm_g1, lm_g2, lm_g3, lm_g4, lm_g5, lm_g6, lm_g7, lm_g8, lm_g9, lm_g10, lm_g11, lm_g12, lm_g13, lm_g14, lm_g15, lm_g16, lm_g17, lm_g18, lm_g19, lm_g20, lm_g21, lm_g22, lm_g23, lm_g24, lm_g25, lm_g26, lm_g27, lm_g28, lm_g29, lm_g30, lm_g31, lm_g32, lm_g33, lm_g34, lm_g35, lm_g36, lm_g37, lm_g38, lm_g39, lm_g40, lm_g41, lm_g42, lm_g43, lm_g44, lm_g45, lm_g46, lm_g47, lm_g48, lm_g49, lm_g50, lm_g51, lm_p1, lm_p6, lm_p12, lm_p13, lm_p22, lm_p23, lm_p29, lm_p30, lm_p31, lm_p32, lm_p33, lm_p34, lm_p35, lm_p37, lm_p41, lm_p44, lm_p45, lm_p51, y_is, y_g0, y_g1, y_p1, y_g2, y_g3, y_p3, y_g4, y_p4, y_g5, y_g6, y_g7, y_g8, y_g9, y_g10, y_p10, y_g12, y_p12, y_g13, y_g14, y_p14, y_g15, y_g16, y_p16, y_g17, y_g18, y_p18, y_g19, y_p19, y_g20, y_g21, y_g22, y_p22, y_g23, y_p23, y_g24, y_p24, y_g25, y_p25, y_g26, y_g27, y_p27, y_g11, y_r11, y12_is, y12_g0, y12_p0, y12_g1, y12_g2, y12_p2, y12_g3, y13_is, y13_g0, y13_p0, y13_g1, y13_g2, y13_p2, y13_g3, y14_is, y14_g0, y14_p0, y14_g1, y14_g2, y14_p2, y14_g3, y1_i, y1_i0, y1_i1, y1_i2, y1_i3, y1_i4, y1_i5, y11_i, y11_i0, y11_i1, y11_i2, y11_i3, y11_i4, y11_i5, y11_s, y11_s0, y11_s1, y11_s2, y11_s3, y11_s4, y11_s5, y16_i, y16_i0, y16_i1, y16_i2, y16_s, y16_s0, y16_s1, y16_s2, y17_i, y17_i0, y17_i1, y17_i2, y17_i3, y17_i4, y17_i5, y17_s, y17_s0, y17_s1, y17_s2, y17_s3, y17_s4, y17_s5, y19_i, y19_i0, y19_i1, y19_i2, y19_i3, y19_i4, y19_i5, y19_i6, y19_s, y19_s0, y19_s1, y19_s2, y19_s3, y19_s4, y19_s5, y19_s6, y20_i, y20_i0, y20_i1, y20_i2, y20_i3, y20_i4, y20_i5, y20_i6, y20_s, y20_s0, y20_s1, y20_s2, y20_s3, y20_s4, y20_s5, y20_s6, y9_a, y10_a, y15_a, y18_a, y21_a, yp_is, yp_g0, yp_p0, yp_g1, yp_p1, yp_g2, yp_p2, yp_g3, yp_p3, yp_g4, yl_is, yl_g0, yl_p0, yl_g2, yl_p2, yl_e, yl_e0, ye_a, yo_is, yo_g0, yo_p0, yo_g1, yo_p1, yd_is, yd_g0, yd_g1, yd_p1, yd_g2, yd_p2, yd_g3, yd_p3, yd_g4, yd_p4, yd_g5, yd_p5, yd_g6, yd_p6, yb_is, yb_g0, yb_g1, yb_p1, yb_g2, yb_p2, yb_g3, yb_p3, yb_g4, yb_p4, yb_g5, yb_p5, yb_g6, yb_p6, yb_g7, yb_p7, ys_is, ys_g0, ys_p0, ys_r, ys_a, yj_i, yj_i0, yj_s0, yj_i1, yj_s1, yj_i2, yj_s2, lm_n1, lm_sn1, lm_n1_0, lm_sn1_0, lm_n1_1, lm_sn1_1, lm_n1_2, lm_sn1_2, lm_n1_3, lm_sn1_3, lm_n1_4, lm_sn1_4, lm_n1_5, lm_sn1_5, lm_n2, lm_sn2, lm_n3, lm_sn3, lm_n4, lm_sn4, lm_n5, lm_sn5, lm_n6, lm_sn6, lm_n7, lm_sn7, lm_n8, lm_sn8, lm_n9, lm_sn9, lm_n10, lm_sn10, lm_n11, lm_sn11, lm_n12, lm_sn12, lm_n13, lm_sn13, lm_n14, lm_sn14, lm_n15, lm_sn15, lm_n16, lm_sn16, lm_n17, lm_sn17, lm_n18, lm_sn18, lm_n19, lm_n19_0, lm_sn19_0, lm_n19_1, lm_sn19_1, lm_n19_2, lm_sn19_2, lm_n19_3, lm_sn19_3, lm_n19_4, lm_sn19_4, lm_n19_5, lm_sn19_5, lm_n19_6, lm_sn19_6, lm_n20, lm_sn20, lm_n21, lm_sn21, lm_n22, lm_sn22, lm_n23, lm_sn23, lm_n23_0, lm_sn23_0, lm_n23_1, lm_sn23_1, lm_n23_2, lm_sn23_2, lm_n24, lm_sn24, lm_n24_0, lm_sn24_0, lm_n24_1, lm_sn24_1, lm_n24_2, lm_sn24_2, lm_n24_3, lm_sn24_3, lm_n24_4, lm_sn24_4, lm_n24_5, lm_sn24_5, lm_n25, lm_sn25, lm_n25_0, lm_sn25_0, lm_n25_1, lm_sn25_1, lm_n25_2, lm_sn25_2, lm_n25_3, lm_sn25_3, lm_n25_4, lm_sn25_4, lm_n25_5, lm_sn25_5, lm_n25_6, lm_sn25_6, lm_n26, lm_sn26, lm_n26_0, lm_sn26_0, lm_n26_1, lm_sn26_1, lm_n26_2, lm_sn26_2, lm_n26_3, lm_sn26_3, lm_n26_4, lm_sn26_4, lm_n26_5, lm_sn26_5, lm_n26_6, lm_sn26_6, lm_n27, lm_sn27, lm_n27_0, lm_sn27_0, lm_n27_1, lm_sn27_1, lm_n27_2, lm_sn27_2, lm_n27_3, lm_sn27_3, lm_n27_4, lm_sn27_4, lm_n27_5, lm_sn27_5, lm_n27_6, lm_sn27_6, lm_n28, lm_sn28, lm_n28_0, lm_sn28_0, lm_n28_1, lm_sn28_1, lm_n28_2, lm_sn28_2, lm_n28_3, lm_sn28_3, lm_n28_4, lm_sn28_4, lm_n28_5, lm_sn28_5, lm_n28_6, lm_sn28_6, lm_n29, lm_sn29, lm_n29_0, lm_sn29_0, lm_n29_1, lm_sn29_1, lm_n29_2, lm_sn29_2, lm_n29_3, lm_sn29_3, lm_n29_4, lm_sn29_4, lm_n29_5, lm_sn29_5, lm_n29_6, lm_sn29_6, lm_n30, lm_sn30, lm_n31, lm_sn31, lm_n31_0, lm_sn31_0, lm_n31_1, lm_sn31_1, lm_n31_2, lm_sn31_2, lm_n31_3, lm_sn31_3, lm_n32, lm_sn32, lm_n32_0, lm_sn32_0, lm_n32_1, lm_sn32_1, lm_n32_2, lm_sn32_2, lm_n32_3, lm_sn32_3, lm_n33, lm_sn33, lm_n34, lm_sn34, tu_at, tu_ne, tu_nk, vu_at, vu_ne, jb_some, Option.bind_some, Option.bind_none, one0, if_true, if_false, on_le, hk, on200, on1]
    rw [hI, show 200 * s + (k + 1) = 200 * s + k + 1 by omega, zf_step (by omega)]
theorem rowOf4 {r g z : Nat} (h2 : 40 ≤ r) (h3 : r ≤ 44) (hg : g < 3) (hz : z ≤ 200) (hr : jrow (lay (kX np nd nb no rk) T (rX np nd nb no dp bd ld rw)) = r) (hn : (lay (kX np nd nb no rk) T (rX np nd nb no dp bd ld rw)) r = none) : f_X0_rowOf (Int32.ofNat g) (Int32.ofNat z) (lay (kX np nd nb no rk) T (rX np nd nb no dp bd ld rw)) = some (r, lay (kX np nd nb no (va_up rk r (kof g, z))) (va_up T r (fun _ => 0)) (rX np nd nb no dp bd ld rw)) := by
  have e0 : ¬ (Int32.ofNat z) < 0 := by rw [Int32.lt_iff_toInt_lt, oi (by omega), k32_0]; omega
  have e2 : (Int32.ofNat z).toNatClampNeg = z := on (by omega)
  have e1 : ¬ ¬ (¬ (Int32.ofNat z) < 0 ∧ (Int32.ofNat z).toNatClampNeg ≤ 200) := fun h => h ⟨e0, by rw [e2]; exact hz⟩
  have key : ∀ {o : jO}, cel (kof g, z) (fun _ => 0) (fun _ => none) = some o → jnew (lay (kX np nd nb no rk) T (rX np nd nb no dp bd ld rw)) r o = some (lay (kX np nd nb no (va_up rk r (kof g, z))) (va_up T r (fun _ => 0)) (rX np nd nb no dp bd ld rw)) := fun ho => by
    rw [jnew_lay0 (kof g, z) (fun _ => 0) (fun _ => none) hn (by omega) ho, kX_newrow h2 h3, rX_row h2 h3]
  unfold f_X0_rowOf
  have : g = 0 ∨ g = 1 ∨ g = 2 := by omega
  rcases this with rfl | rfl | rfl
  · rw [if_pos (by decide), if_neg e1, e2, hr, key rfl]
    rfl
  · rw [if_neg (by decide), if_pos (by decide), if_neg e1, e2, hr, key rfl]
    rfl
  · rw [if_neg (by decide), if_neg (by decide), if_neg e1, e2, hr, key rfl]
    rfl
end SH
theorem law_lose (p : Int32) : alikeS (f_X0_lose 8 p) (f_X5_lose 8 p) := by
  refine alikeS_mk fun c np nd nb ns nj no dp bd jp ld rw rk T A F L GF GA hc hR => ?_
  obtain ⟨hP, hD, hB, hA, hL, hT, hK, hJ, hO, hS⟩ := id hR
  obtain ⟨o1, o2, o3, o4⟩ := id hO
  unfold f_X0_lose f_X5_lose
  simp only [shX, shM, jb_some]
  by_cases hp : 0 ≤ p.toInt ∧ p.toInt ≤ 3
  · simp only [if_pos hp, one0, if_false, in0, in5, jb_some, Int32.toInt_toInt64, k32_0, k64_0, k32_1, k64_1, k32_2, k64_2, k32_3, k64_3, k32_4, k64_4, k32_5, k64_5, k32_6, k64_6, k32_7, k64_7, k32_8, k64_8, k32_12, k64_12, k32_20, k64_20, k32_50, k64_50, k32_60, k64_60, k32_80, k64_80, k32_100, k64_100, k32_200, k64_200, k32_500, k64_500, k32_1000, k64_1000, k32_1200, k64_1200, k32_5000, k64_5000, k32_9000, k64_9000, k32_9999, k64_9999, k32_20000, k64_20000, k32_200000, k64_200000, k32_1000000, k64_1000000]
    obtain ⟨s, hs, rfl⟩ := in_nat (n := 4) (p := p) (by omega)
    rcases hS.1 s hs with ⟨e1, e2⟩ | ⟨r, f, z, e1, e2, e3, e4, e5, e6, e7, e8, e9, e10⟩
    · unfold f_X0_meets f_X5_met
      simp -implicitDefEqProofs (maxSteps := 2000000) (disch := omega) only [lm_is, lm_g0, lm_g1, lm_g2, lm_g3, lm_g4, lm_g5, lm_g6, lm_g7, lm_g8, lm_g9, lm_g10, lm_g11, lm_g12, lm_g13, lm_g14, lm_g15, lm_g16, lm_g17, lm_g18, lm_g19, lm_g20, lm_g21, lm_g22, lm_g23, lm_g24, lm_g25, lm_g26, lm_g27, lm_g28, lm_g29, lm_g30, lm_g31, lm_g32, lm_g33, lm_g34, lm_g35, lm_g36, lm_g37, lm_g38, lm_g39, lm_g40, lm_g41, lm_g42, lm_g43, lm_g44, lm_g45, lm_g46, lm_g47, lm_g48, lm_g49, lm_g50, lm_g51, lm_p1, lm_p6, lm_p12, lm_p13, lm_p22, lm_p23, lm_p29, lm_p30, lm_p31, lm_p32, lm_p33, lm_p34, lm_p35, lm_p37, lm_p41, lm_p44, lm_p45, lm_p51, y_is, y_g0, y_g1, y_p1, y_g2, y_g3, y_p3, y_g4, y_p4, y_g5, y_g6, y_g7, y_g8, y_g9, y_g10, y_p10, y_g12, y_p12, y_g13, y_g14, y_p14, y_g15, y_g16, y_p16, y_g17, y_g18, y_p18, y_g19, y_p19, y_g20, y_g21, y_g22, y_p22, y_g23, y_p23, y_g24, y_p24, y_g25, y_p25, y_g26, y_g27, y_p27, y_g11, y_r11, y12_is, y12_g0, y12_p0, y12_g1, y12_g2, y12_p2, y12_g3, y13_is, y13_g0, y13_p0, y13_g1, y13_g2, y13_p2, y13_g3, y14_is, y14_g0, y14_p0, y14_g1, y14_g2, y14_p2, y14_g3, y1_i, y1_i0, y1_i1, y1_i2, y1_i3, y1_i4, y1_i5, y11_i, y11_i0, y11_i1, y11_i2, y11_i3, y11_i4, y11_i5, y11_s, y11_s0, y11_s1, y11_s2, y11_s3, y11_s4, y11_s5, y16_i, y16_i0, y16_i1, y16_i2, y16_s, y16_s0, y16_s1, y16_s2, y17_i, y17_i0, y17_i1, y17_i2, y17_i3, y17_i4, y17_i5, y17_s, y17_s0, y17_s1, y17_s2, y17_s3, y17_s4, y17_s5, y19_i, y19_i0, y19_i1, y19_i2, y19_i3, y19_i4, y19_i5, y19_i6, y19_s, y19_s0, y19_s1, y19_s2, y19_s3, y19_s4, y19_s5, y19_s6, y20_i, y20_i0, y20_i1, y20_i2, y20_i3, y20_i4, y20_i5, y20_i6, y20_s, y20_s0, y20_s1, y20_s2, y20_s3, y20_s4, y20_s5, y20_s6, y9_a, y10_a, y15_a, y18_a, y21_a, yp_is, yp_g0, yp_p0, yp_g1, yp_p1, yp_g2, yp_p2, yp_g3, yp_p3, yp_g4, yl_is, yl_g0, yl_p0, yl_g2, yl_p2, yl_e, yl_e0, ye_a, yo_is, yo_g0, yo_p0, yo_g1, yo_p1, yd_is, yd_g0, yd_g1, yd_p1, yd_g2, yd_p2, yd_g3, yd_p3, yd_g4, yd_p4, yd_g5, yd_p5, yd_g6, yd_p6, yb_is, yb_g0, yb_g1, yb_p1, yb_g2, yb_p2, yb_g3, yb_p3, yb_g4, yb_p4, yb_g5, yb_p5, yb_g6, yb_p6, yb_g7, yb_p7, ys_is, ys_g0, ys_p0, ys_r, ys_a, yj_i, yj_i0, yj_s0, yj_i1, yj_s1, yj_i2, yj_s2, lm_n1, lm_sn1, lm_n1_0, lm_sn1_0, lm_n1_1, lm_sn1_1, lm_n1_2, lm_sn1_2, lm_n1_3, lm_sn1_3, lm_n1_4, lm_sn1_4, lm_n1_5, lm_sn1_5, lm_n2, lm_sn2, lm_n3, lm_sn3, lm_n4, lm_sn4, lm_n5, lm_sn5, lm_n6, lm_sn6, lm_n7, lm_sn7, lm_n8, lm_sn8, lm_n9, lm_sn9, lm_n10, lm_sn10, lm_n11, lm_sn11, lm_n12, lm_sn12, lm_n13, lm_sn13, lm_n14, lm_sn14, lm_n15, lm_sn15, lm_n16, lm_sn16, lm_n17, lm_sn17, lm_n18, lm_sn18, lm_n19, lm_n19_0, lm_sn19_0, lm_n19_1, lm_sn19_1, lm_n19_2, lm_sn19_2, lm_n19_3, lm_sn19_3, lm_n19_4, lm_sn19_4, lm_n19_5, lm_sn19_5, lm_n19_6, lm_sn19_6, lm_n20, lm_sn20, lm_n21, lm_sn21, lm_n22, lm_sn22, lm_n23, lm_sn23, lm_n23_0, lm_sn23_0, lm_n23_1, lm_sn23_1, lm_n23_2, lm_sn23_2, lm_n24, lm_sn24, lm_n24_0, lm_sn24_0, lm_n24_1, lm_sn24_1, lm_n24_2, lm_sn24_2, lm_n24_3, lm_sn24_3, lm_n24_4, lm_sn24_4, lm_n24_5, lm_sn24_5, lm_n25, lm_sn25, lm_n25_0, lm_sn25_0, lm_n25_1, lm_sn25_1, lm_n25_2, lm_sn25_2, lm_n25_3, lm_sn25_3, lm_n25_4, lm_sn25_4, lm_n25_5, lm_sn25_5, lm_n25_6, lm_sn25_6, lm_n26, lm_sn26, lm_n26_0, lm_sn26_0, lm_n26_1, lm_sn26_1, lm_n26_2, lm_sn26_2, lm_n26_3, lm_sn26_3, lm_n26_4, lm_sn26_4, lm_n26_5, lm_sn26_5, lm_n26_6, lm_sn26_6, lm_n27, lm_sn27, lm_n27_0, lm_sn27_0, lm_n27_1, lm_sn27_1, lm_n27_2, lm_sn27_2, lm_n27_3, lm_sn27_3, lm_n27_4, lm_sn27_4, lm_n27_5, lm_sn27_5, lm_n27_6, lm_sn27_6, lm_n28, lm_sn28, lm_n28_0, lm_sn28_0, lm_n28_1, lm_sn28_1, lm_n28_2, lm_sn28_2, lm_n28_3, lm_sn28_3, lm_n28_4, lm_sn28_4, lm_n28_5, lm_sn28_5, lm_n28_6, lm_sn28_6, lm_n29, lm_sn29, lm_n29_0, lm_sn29_0, lm_n29_1, lm_sn29_1, lm_n29_2, lm_sn29_2, lm_n29_3, lm_sn29_3, lm_n29_4, lm_sn29_4, lm_n29_5, lm_sn29_5, lm_n29_6, lm_sn29_6, lm_n30, lm_sn30, lm_n31, lm_sn31, lm_n31_0, lm_sn31_0, lm_n31_1, lm_sn31_1, lm_n31_2, lm_sn31_2, lm_n31_3, lm_sn31_3, lm_n32, lm_sn32, lm_n32_0, lm_sn32_0, lm_n32_1, lm_sn32_1, lm_n32_2, lm_sn32_2, lm_n32_3, lm_sn32_3, lm_n33, lm_sn33, lm_n34, lm_sn34, tu_at, tu_ne, tu_nk, vu_at, vu_ne, jb_some, Option.bind_some, Option.bind_none, one0, if_true, if_false, e1, e2, mneg]
      refine sub_same ⟨_, _, _, rfl, rfl, Rst_mk (ns := ns) (nj := nj) (jp := jp) ⟨RP_congr (by intro n j h; first | rfl | (unfold tu; (repeat rw [if_neg (by omega)]); done) | (simp only [tu, va_up]; repeat rw [if_neg (by omega)])) (by intro n j h; first | rfl | (unfold tu; (repeat rw [if_neg (by omega)]); done) | (simp only [tu, va_up]; repeat rw [if_neg (by omega)])) (by first | rfl | (unfold va_up; repeat rw [if_neg (by omega)])) hP, RD_congr (Nat.le_succ c) (by intro n j h; first | rfl | (unfold tu; (repeat rw [if_neg (by omega)]); done) | (simp only [tu, va_up]; repeat rw [if_neg (by omega)])) (by intro n j h; first | rfl | (unfold tu; (repeat rw [if_neg (by omega)]); done) | (simp only [tu, va_up]; repeat rw [if_neg (by omega)])) (by intro k h; first | rfl | (unfold va_up; repeat rw [if_neg (by omega)])) hD, RB_congr (Nat.le_succ c) (by intro n j h; first | rfl | (unfold tu; (repeat rw [if_neg (by omega)]); done) | (simp only [tu, va_up]; repeat rw [if_neg (by omega)])) (by intro n j h; first | rfl | (unfold tu; (repeat rw [if_neg (by omega)]); done) | (simp only [tu, va_up]; repeat rw [if_neg (by omega)])) (by intro k h; first | rfl | (unfold va_up; repeat rw [if_neg (by omega)])) hB, RA_congr (by intro n j h; first | rfl | (unfold tu; (repeat rw [if_neg (by omega)]); done) | (simp only [tu, va_up]; repeat rw [if_neg (by omega)])) (by intro n j h; first | rfl | (unfold tu; (repeat rw [if_neg (by omega)]); done) | (simp only [tu, va_up]; repeat rw [if_neg (by omega)])) hA, RL_congr (by intro n j h; first | rfl | (unfold tu; (repeat rw [if_neg (by omega)]); done) | (simp only [tu, va_up]; repeat rw [if_neg (by omega)])) (by intro n j h; first | rfl | (unfold tu; (repeat rw [if_neg (by omega)]); done) | (simp only [tu, va_up]; repeat rw [if_neg (by omega)])) hL, RT_congr (by first | rfl | (unfold tu; repeat rw [if_neg (by omega)])) (by intro k h; first | rfl | (unfold va_up; repeat rw [if_neg (by omega)])) hT, RK_congr (by intro n j h; first | rfl | (unfold tu; (repeat rw [if_neg (by omega)]); done) | (simp only [tu, va_up]; repeat rw [if_neg (by omega)])) (by intro n j h; first | rfl | (unfold tu; (repeat rw [if_neg (by omega)]); done) | (simp only [tu, va_up]; repeat rw [if_neg (by omega)])) (by first | rfl | (unfold va_up; repeat rw [if_neg (by omega)])) hK, RJ_congr (by intro n j h; first | rfl | (unfold tu; (repeat rw [if_neg (by omega)]); done) | (simp only [tu, va_up]; repeat rw [if_neg (by omega)])) (by intro n j h; first | rfl | (unfold tu; (repeat rw [if_neg (by omega)]); done) | (simp only [tu, va_up]; repeat rw [if_neg (by omega)])) (by intro k h; first | rfl | (unfold va_up; repeat rw [if_neg (by omega)])) hJ, ?_, RS_congr (by intro n j h; first | rfl | (unfold tu; (repeat rw [if_neg (by omega)]); done) | (simp only [tu, va_up]; repeat rw [if_neg (by omega)])) (by intro n j h; first | rfl | (unfold tu; (repeat rw [if_neg (by omega)]); done) | (simp only [tu, va_up]; repeat rw [if_neg (by omega)])) hS⟩⟩
      exact ⟨o1, o2, o3, rfl⟩
    · have hsz := size4 (np := np) (nd := nd) (nb := nb) (no := no) (dp := dp) (bd := bd) (ld := ld) (rk := rk) hs e1 e2 e3 e4 e6 e7
      simp -implicitDefEqProofs (maxSteps := 2000000) (disch := omega) only [lm_is, lm_g0, lm_g1, lm_g2, lm_g3, lm_g4, lm_g5, lm_g6, lm_g7, lm_g8, lm_g9, lm_g10, lm_g11, lm_g12, lm_g13, lm_g14, lm_g15, lm_g16, lm_g17, lm_g18, lm_g19, lm_g20, lm_g21, lm_g22, lm_g23, lm_g24, lm_g25, lm_g26, lm_g27, lm_g28, lm_g29, lm_g30, lm_g31, lm_g32, lm_g33, lm_g34, lm_g35, lm_g36, lm_g37, lm_g38, lm_g39, lm_g40, lm_g41, lm_g42, lm_g43, lm_g44, lm_g45, lm_g46, lm_g47, lm_g48, lm_g49, lm_g50, lm_g51, lm_p1, lm_p6, lm_p12, lm_p13, lm_p22, lm_p23, lm_p29, lm_p30, lm_p31, lm_p32, lm_p33, lm_p34, lm_p35, lm_p37, lm_p41, lm_p44, lm_p45, lm_p51, y_is, y_g0, y_g1, y_p1, y_g2, y_g3, y_p3, y_g4, y_p4, y_g5, y_g6, y_g7, y_g8, y_g9, y_g10, y_p10, y_g12, y_p12, y_g13, y_g14, y_p14, y_g15, y_g16, y_p16, y_g17, y_g18, y_p18, y_g19, y_p19, y_g20, y_g21, y_g22, y_p22, y_g23, y_p23, y_g24, y_p24, y_g25, y_p25, y_g26, y_g27, y_p27, y_g11, y_r11, y12_is, y12_g0, y12_p0, y12_g1, y12_g2, y12_p2, y12_g3, y13_is, y13_g0, y13_p0, y13_g1, y13_g2, y13_p2, y13_g3, y14_is, y14_g0, y14_p0, y14_g1, y14_g2, y14_p2, y14_g3, y1_i, y1_i0, y1_i1, y1_i2, y1_i3, y1_i4, y1_i5, y11_i, y11_i0, y11_i1, y11_i2, y11_i3, y11_i4, y11_i5, y11_s, y11_s0, y11_s1, y11_s2, y11_s3, y11_s4, y11_s5, y16_i, y16_i0, y16_i1, y16_i2, y16_s, y16_s0, y16_s1, y16_s2, y17_i, y17_i0, y17_i1, y17_i2, y17_i3, y17_i4, y17_i5, y17_s, y17_s0, y17_s1, y17_s2, y17_s3, y17_s4, y17_s5, y19_i, y19_i0, y19_i1, y19_i2, y19_i3, y19_i4, y19_i5, y19_i6, y19_s, y19_s0, y19_s1, y19_s2, y19_s3, y19_s4, y19_s5, y19_s6, y20_i, y20_i0, y20_i1, y20_i2, y20_i3, y20_i4, y20_i5, y20_i6, y20_s, y20_s0, y20_s1, y20_s2, y20_s3, y20_s4, y20_s5, y20_s6, y9_a, y10_a, y15_a, y18_a, y21_a, yp_is, yp_g0, yp_p0, yp_g1, yp_p1, yp_g2, yp_p2, yp_g3, yp_p3, yp_g4, yl_is, yl_g0, yl_p0, yl_g2, yl_p2, yl_e, yl_e0, ye_a, yo_is, yo_g0, yo_p0, yo_g1, yo_p1, yd_is, yd_g0, yd_g1, yd_p1, yd_g2, yd_p2, yd_g3, yd_p3, yd_g4, yd_p4, yd_g5, yd_p5, yd_g6, yd_p6, yb_is, yb_g0, yb_g1, yb_p1, yb_g2, yb_p2, yb_g3, yb_p3, yb_g4, yb_p4, yb_g5, yb_p5, yb_g6, yb_p6, yb_g7, yb_p7, ys_is, ys_g0, ys_p0, ys_r, ys_a, yj_i, yj_i0, yj_s0, yj_i1, yj_s1, yj_i2, yj_s2, lm_n1, lm_sn1, lm_n1_0, lm_sn1_0, lm_n1_1, lm_sn1_1, lm_n1_2, lm_sn1_2, lm_n1_3, lm_sn1_3, lm_n1_4, lm_sn1_4, lm_n1_5, lm_sn1_5, lm_n2, lm_sn2, lm_n3, lm_sn3, lm_n4, lm_sn4, lm_n5, lm_sn5, lm_n6, lm_sn6, lm_n7, lm_sn7, lm_n8, lm_sn8, lm_n9, lm_sn9, lm_n10, lm_sn10, lm_n11, lm_sn11, lm_n12, lm_sn12, lm_n13, lm_sn13, lm_n14, lm_sn14, lm_n15, lm_sn15, lm_n16, lm_sn16, lm_n17, lm_sn17, lm_n18, lm_sn18, lm_n19, lm_n19_0, lm_sn19_0, lm_n19_1, lm_sn19_1, lm_n19_2, lm_sn19_2, lm_n19_3, lm_sn19_3, lm_n19_4, lm_sn19_4, lm_n19_5, lm_sn19_5, lm_n19_6, lm_sn19_6, lm_n20, lm_sn20, lm_n21, lm_sn21, lm_n22, lm_sn22, lm_n23, lm_sn23, lm_n23_0, lm_sn23_0, lm_n23_1, lm_sn23_1, lm_n23_2, lm_sn23_2, lm_n24, lm_sn24, lm_n24_0, lm_sn24_0, lm_n24_1, lm_sn24_1, lm_n24_2, lm_sn24_2, lm_n24_3, lm_sn24_3, lm_n24_4, lm_sn24_4, lm_n24_5, lm_sn24_5, lm_n25, lm_sn25, lm_n25_0, lm_sn25_0, lm_n25_1, lm_sn25_1, lm_n25_2, lm_sn25_2, lm_n25_3, lm_sn25_3, lm_n25_4, lm_sn25_4, lm_n25_5, lm_sn25_5, lm_n25_6, lm_sn25_6, lm_n26, lm_sn26, lm_n26_0, lm_sn26_0, lm_n26_1, lm_sn26_1, lm_n26_2, lm_sn26_2, lm_n26_3, lm_sn26_3, lm_n26_4, lm_sn26_4, lm_n26_5, lm_sn26_5, lm_n26_6, lm_sn26_6, lm_n27, lm_sn27, lm_n27_0, lm_sn27_0, lm_n27_1, lm_sn27_1, lm_n27_2, lm_sn27_2, lm_n27_3, lm_sn27_3, lm_n27_4, lm_sn27_4, lm_n27_5, lm_sn27_5, lm_n27_6, lm_sn27_6, lm_n28, lm_sn28, lm_n28_0, lm_sn28_0, lm_n28_1, lm_sn28_1, lm_n28_2, lm_sn28_2, lm_n28_3, lm_sn28_3, lm_n28_4, lm_sn28_4, lm_n28_5, lm_sn28_5, lm_n28_6, lm_sn28_6, lm_n29, lm_sn29, lm_n29_0, lm_sn29_0, lm_n29_1, lm_sn29_1, lm_n29_2, lm_sn29_2, lm_n29_3, lm_sn29_3, lm_n29_4, lm_sn29_4, lm_n29_5, lm_sn29_5, lm_n29_6, lm_sn29_6, lm_n30, lm_sn30, lm_n31, lm_sn31, lm_n31_0, lm_sn31_0, lm_n31_1, lm_sn31_1, lm_n31_2, lm_sn31_2, lm_n31_3, lm_sn31_3, lm_n32, lm_sn32, lm_n32_0, lm_sn32_0, lm_n32_1, lm_sn32_1, lm_n32_2, lm_sn32_2, lm_n32_3, lm_sn32_3, lm_n33, lm_sn33, lm_n34, lm_sn34, tu_at, tu_ne, tu_nk, vu_at, vu_ne, jb_some, Option.bind_some, Option.bind_none, one0, if_true, if_false, e1, e5, e9, on_g0, Nat.zero_le, hsz, lx_n3_1 (show (kX np nd nb no rk (32 + s)).1 = 4 by rw [kX_sheet hs]) (show 8 ≤ 32 + s by omega), rX_rw hs]
      have hN : Rel (c + 1) np nd nb ns nj no dp bd jp ld (va_up rw s none) (va_up rk r (0, 0)) T (tu A 31 s (-1)) F L := ⟨RP_congr (by intro n j h; first | rfl | (unfold tu; (repeat rw [if_neg (by omega)]); done) | (simp only [tu, va_up]; repeat rw [if_neg (by omega)])) (by intro n j h; first | rfl | (unfold tu; (repeat rw [if_neg (by omega)]); done) | (simp only [tu, va_up]; repeat rw [if_neg (by omega)])) (by first | rfl | (unfold va_up; repeat rw [if_neg (by omega)])) hP, RD_congr (Nat.le_succ c) (by intro n j h; first | rfl | (unfold tu; (repeat rw [if_neg (by omega)]); done) | (simp only [tu, va_up]; repeat rw [if_neg (by omega)])) (by intro n j h; first | rfl | (unfold tu; (repeat rw [if_neg (by omega)]); done) | (simp only [tu, va_up]; repeat rw [if_neg (by omega)])) (by intro k h; first | rfl | (unfold va_up; repeat rw [if_neg (by omega)])) hD, RB_congr (Nat.le_succ c) (by intro n j h; first | rfl | (unfold tu; (repeat rw [if_neg (by omega)]); done) | (simp only [tu, va_up]; repeat rw [if_neg (by omega)])) (by intro n j h; first | rfl | (unfold tu; (repeat rw [if_neg (by omega)]); done) | (simp only [tu, va_up]; repeat rw [if_neg (by omega)])) (by intro k h; first | rfl | (unfold va_up; repeat rw [if_neg (by omega)])) hB, RA_congr (by intro n j h; first | rfl | (unfold tu; (repeat rw [if_neg (by omega)]); done) | (simp only [tu, va_up]; repeat rw [if_neg (by omega)])) (by intro n j h; first | rfl | (unfold tu; (repeat rw [if_neg (by omega)]); done) | (simp only [tu, va_up]; repeat rw [if_neg (by omega)])) hA, RL_congr (by intro n j h; first | rfl | (unfold tu; (repeat rw [if_neg (by omega)]); done) | (simp only [tu, va_up]; repeat rw [if_neg (by omega)])) (by intro n j h; first | rfl | (unfold tu; (repeat rw [if_neg (by omega)]); done) | (simp only [tu, va_up]; repeat rw [if_neg (by omega)])) hL, RT_congr (by first | rfl | (unfold tu; repeat rw [if_neg (by omega)])) (by intro k h; first | rfl | (unfold va_up; repeat rw [if_neg (by omega)])) hT, RK_congr (by intro n j h; first | rfl | (unfold tu; (repeat rw [if_neg (by omega)]); done) | (simp only [tu, va_up]; repeat rw [if_neg (by omega)])) (by intro n j h; first | rfl | (unfold tu; (repeat rw [if_neg (by omega)]); done) | (simp only [tu, va_up]; repeat rw [if_neg (by omega)])) (by first | rfl | (unfold va_up; repeat rw [if_neg (by omega)])) hK, RJ_congr (by intro n j h; first | rfl | (unfold tu; (repeat rw [if_neg (by omega)]); done) | (simp only [tu, va_up]; repeat rw [if_neg (by omega)])) (by intro n j h; first | rfl | (unfold tu; (repeat rw [if_neg (by omega)]); done) | (simp only [tu, va_up]; repeat rw [if_neg (by omega)])) (by intro k h; first | rfl | (unfold va_up; repeat rw [if_neg (by omega)])) hJ, RO_congr (by intro n j h; first | rfl | (unfold tu; (repeat rw [if_neg (by omega)]); done) | (simp only [tu, va_up]; repeat rw [if_neg (by omega)])) (by intro k h; first | rfl | (unfold va_up; repeat rw [if_neg (by omega)])) hO, ?_⟩
      · refine ⟨_, _, _, lay (kX np nd nb no (va_up rk r (0, 0))) T (rX np nd nb no dp bd ld (va_up rw s none)), rfl, rfl, fun n o ho => ⟨?_, lay_clo hN n o ho⟩, Rst_mk hN⟩
        have hnr : n ≠ r := by
          intro e
          rw [e, row_none e2 e3 (by rw [vu_at])] at ho
          cases ho
        unfold lay at ho ⊢
        rw [kX_rk (vu_ne rk (0, 0) hnr)] at ho
        exact ho
      · refine RS_lose hs hS e1 (vu_at rw s none) (fun t ht => vu_ne rw none ht) (by rw [vu_at]) (fun q hq => vu_ne rk _ hq) ?_ (fun t ht => ?_) (fun j => ⟨?_, ?_⟩)
        · simp (disch := omega) only [tu_ne, tu_nk, tu_at, vu_ne, vu_at]
        · simp (disch := omega) only [tu_ne, tu_nk, tu_at, vu_ne, vu_at]
        · simp (disch := omega) only [tu_ne, tu_nk, tu_at, vu_ne, vu_at]
        · simp (disch := omega) only [tu_ne, tu_nk, tu_at, vu_ne, vu_at]
  · simp only [if_neg hp, if_true]
    exact sub_same ⟨_, _, _, rfl, rfl, Rst_mk (Rel_succ hR)⟩
theorem law_sheet (p w n : Int32) : alikeS (f_X0_sheet 8 p w n) (f_X5_sheet 8 p w n) := by
  refine alikeS_mk fun c np nd nb ns nj no dp bd jp ld rw rk T A F L GF GA hc hR => ?_
  obtain ⟨hP, hD, hB, hA, hL, hT, hK, hJ, hO, hS⟩ := id hR
  obtain ⟨o1, o2, o3, o4⟩ := id hO
  unfold f_X0_sheet f_X5_sheet
  simp only [shX, shM, jb_some]
  by_cases hp : 0 ≤ p.toInt ∧ p.toInt ≤ 3
  · simp only [if_pos hp, one0, if_false, in0, in5, jb_some, Int32.toInt_toInt64, k32_0, k64_0, k32_1, k64_1, k32_2, k64_2, k32_3, k64_3, k32_4, k64_4, k32_5, k64_5, k32_6, k64_6, k32_7, k64_7, k32_8, k64_8, k32_12, k64_12, k32_20, k64_20, k32_50, k64_50, k32_60, k64_60, k32_80, k64_80, k32_100, k64_100, k32_200, k64_200, k32_500, k64_500, k32_1000, k64_1000, k32_1200, k64_1200, k32_5000, k64_5000, k32_9000, k64_9000, k32_9999, k64_9999, k32_20000, k64_20000, k32_200000, k64_200000, k32_1000000, k64_1000000]
    by_cases hw : 0 ≤ w.toInt ∧ w.toInt ≤ 2
    · simp only [if_pos hw, one0, if_false]
      obtain ⟨s, hs, rfl⟩ := in_nat (n := 4) (p := p) (by omega)
      obtain ⟨g, hg, rfl⟩ := in_nat (n := 3) (p := w) (by omega)
      by_cases hn : n ≤ 200
      · have hn' := Int32.le_iff_toInt_le.mp hn
        rw [k32_200] at hn'
        simp only [if_pos hn]
        by_cases h0 : n < 0
        · have h0' : ¬ 0 ≤ n := by
            rw [Int32.le_iff_toInt_le]
            rw [Int32.lt_iff_toInt_lt] at h0
            omega
          unfold f_X0_meets f_X5_met
          simp -implicitDefEqProofs (maxSteps := 2000000) (disch := omega) only [lm_is, lm_g0, lm_g1, lm_g2, lm_g3, lm_g4, lm_g5, lm_g6, lm_g7, lm_g8, lm_g9, lm_g10, lm_g11, lm_g12, lm_g13, lm_g14, lm_g15, lm_g16, lm_g17, lm_g18, lm_g19, lm_g20, lm_g21, lm_g22, lm_g23, lm_g24, lm_g25, lm_g26, lm_g27, lm_g28, lm_g29, lm_g30, lm_g31, lm_g32, lm_g33, lm_g34, lm_g35, lm_g36, lm_g37, lm_g38, lm_g39, lm_g40, lm_g41, lm_g42, lm_g43, lm_g44, lm_g45, lm_g46, lm_g47, lm_g48, lm_g49, lm_g50, lm_g51, lm_p1, lm_p6, lm_p12, lm_p13, lm_p22, lm_p23, lm_p29, lm_p30, lm_p31, lm_p32, lm_p33, lm_p34, lm_p35, lm_p37, lm_p41, lm_p44, lm_p45, lm_p51, y_is, y_g0, y_g1, y_p1, y_g2, y_g3, y_p3, y_g4, y_p4, y_g5, y_g6, y_g7, y_g8, y_g9, y_g10, y_p10, y_g12, y_p12, y_g13, y_g14, y_p14, y_g15, y_g16, y_p16, y_g17, y_g18, y_p18, y_g19, y_p19, y_g20, y_g21, y_g22, y_p22, y_g23, y_p23, y_g24, y_p24, y_g25, y_p25, y_g26, y_g27, y_p27, y_g11, y_r11, y12_is, y12_g0, y12_p0, y12_g1, y12_g2, y12_p2, y12_g3, y13_is, y13_g0, y13_p0, y13_g1, y13_g2, y13_p2, y13_g3, y14_is, y14_g0, y14_p0, y14_g1, y14_g2, y14_p2, y14_g3, y1_i, y1_i0, y1_i1, y1_i2, y1_i3, y1_i4, y1_i5, y11_i, y11_i0, y11_i1, y11_i2, y11_i3, y11_i4, y11_i5, y11_s, y11_s0, y11_s1, y11_s2, y11_s3, y11_s4, y11_s5, y16_i, y16_i0, y16_i1, y16_i2, y16_s, y16_s0, y16_s1, y16_s2, y17_i, y17_i0, y17_i1, y17_i2, y17_i3, y17_i4, y17_i5, y17_s, y17_s0, y17_s1, y17_s2, y17_s3, y17_s4, y17_s5, y19_i, y19_i0, y19_i1, y19_i2, y19_i3, y19_i4, y19_i5, y19_i6, y19_s, y19_s0, y19_s1, y19_s2, y19_s3, y19_s4, y19_s5, y19_s6, y20_i, y20_i0, y20_i1, y20_i2, y20_i3, y20_i4, y20_i5, y20_i6, y20_s, y20_s0, y20_s1, y20_s2, y20_s3, y20_s4, y20_s5, y20_s6, y9_a, y10_a, y15_a, y18_a, y21_a, yp_is, yp_g0, yp_p0, yp_g1, yp_p1, yp_g2, yp_p2, yp_g3, yp_p3, yp_g4, yl_is, yl_g0, yl_p0, yl_g2, yl_p2, yl_e, yl_e0, ye_a, yo_is, yo_g0, yo_p0, yo_g1, yo_p1, yd_is, yd_g0, yd_g1, yd_p1, yd_g2, yd_p2, yd_g3, yd_p3, yd_g4, yd_p4, yd_g5, yd_p5, yd_g6, yd_p6, yb_is, yb_g0, yb_g1, yb_p1, yb_g2, yb_p2, yb_g3, yb_p3, yb_g4, yb_p4, yb_g5, yb_p5, yb_g6, yb_p6, yb_g7, yb_p7, ys_is, ys_g0, ys_p0, ys_r, ys_a, yj_i, yj_i0, yj_s0, yj_i1, yj_s1, yj_i2, yj_s2, lm_n1, lm_sn1, lm_n1_0, lm_sn1_0, lm_n1_1, lm_sn1_1, lm_n1_2, lm_sn1_2, lm_n1_3, lm_sn1_3, lm_n1_4, lm_sn1_4, lm_n1_5, lm_sn1_5, lm_n2, lm_sn2, lm_n3, lm_sn3, lm_n4, lm_sn4, lm_n5, lm_sn5, lm_n6, lm_sn6, lm_n7, lm_sn7, lm_n8, lm_sn8, lm_n9, lm_sn9, lm_n10, lm_sn10, lm_n11, lm_sn11, lm_n12, lm_sn12, lm_n13, lm_sn13, lm_n14, lm_sn14, lm_n15, lm_sn15, lm_n16, lm_sn16, lm_n17, lm_sn17, lm_n18, lm_sn18, lm_n19, lm_n19_0, lm_sn19_0, lm_n19_1, lm_sn19_1, lm_n19_2, lm_sn19_2, lm_n19_3, lm_sn19_3, lm_n19_4, lm_sn19_4, lm_n19_5, lm_sn19_5, lm_n19_6, lm_sn19_6, lm_n20, lm_sn20, lm_n21, lm_sn21, lm_n22, lm_sn22, lm_n23, lm_sn23, lm_n23_0, lm_sn23_0, lm_n23_1, lm_sn23_1, lm_n23_2, lm_sn23_2, lm_n24, lm_sn24, lm_n24_0, lm_sn24_0, lm_n24_1, lm_sn24_1, lm_n24_2, lm_sn24_2, lm_n24_3, lm_sn24_3, lm_n24_4, lm_sn24_4, lm_n24_5, lm_sn24_5, lm_n25, lm_sn25, lm_n25_0, lm_sn25_0, lm_n25_1, lm_sn25_1, lm_n25_2, lm_sn25_2, lm_n25_3, lm_sn25_3, lm_n25_4, lm_sn25_4, lm_n25_5, lm_sn25_5, lm_n25_6, lm_sn25_6, lm_n26, lm_sn26, lm_n26_0, lm_sn26_0, lm_n26_1, lm_sn26_1, lm_n26_2, lm_sn26_2, lm_n26_3, lm_sn26_3, lm_n26_4, lm_sn26_4, lm_n26_5, lm_sn26_5, lm_n26_6, lm_sn26_6, lm_n27, lm_sn27, lm_n27_0, lm_sn27_0, lm_n27_1, lm_sn27_1, lm_n27_2, lm_sn27_2, lm_n27_3, lm_sn27_3, lm_n27_4, lm_sn27_4, lm_n27_5, lm_sn27_5, lm_n27_6, lm_sn27_6, lm_n28, lm_sn28, lm_n28_0, lm_sn28_0, lm_n28_1, lm_sn28_1, lm_n28_2, lm_sn28_2, lm_n28_3, lm_sn28_3, lm_n28_4, lm_sn28_4, lm_n28_5, lm_sn28_5, lm_n28_6, lm_sn28_6, lm_n29, lm_sn29, lm_n29_0, lm_sn29_0, lm_n29_1, lm_sn29_1, lm_n29_2, lm_sn29_2, lm_n29_3, lm_sn29_3, lm_n29_4, lm_sn29_4, lm_n29_5, lm_sn29_5, lm_n29_6, lm_sn29_6, lm_n30, lm_sn30, lm_n31, lm_sn31, lm_n31_0, lm_sn31_0, lm_n31_1, lm_sn31_1, lm_n31_2, lm_sn31_2, lm_n31_3, lm_sn31_3, lm_n32, lm_sn32, lm_n32_0, lm_sn32_0, lm_n32_1, lm_sn32_1, lm_n32_2, lm_sn32_2, lm_n32_3, lm_sn32_3, lm_n33, lm_sn33, lm_n34, lm_sn34, tu_at, tu_ne, tu_nk, vu_at, vu_ne, jb_some, Option.bind_some, Option.bind_none, one0, if_true, if_false, if_pos h0, if_neg h0']
          refine sub_same ⟨_, _, _, rfl, rfl, Rst_mk (ns := ns) (nj := nj) (jp := jp) ⟨RP_congr (by intro n j h; first | rfl | (unfold tu; (repeat rw [if_neg (by omega)]); done) | (simp only [tu, va_up]; repeat rw [if_neg (by omega)])) (by intro n j h; first | rfl | (unfold tu; (repeat rw [if_neg (by omega)]); done) | (simp only [tu, va_up]; repeat rw [if_neg (by omega)])) (by first | rfl | (unfold va_up; repeat rw [if_neg (by omega)])) hP, RD_congr (Nat.le_succ c) (by intro n j h; first | rfl | (unfold tu; (repeat rw [if_neg (by omega)]); done) | (simp only [tu, va_up]; repeat rw [if_neg (by omega)])) (by intro n j h; first | rfl | (unfold tu; (repeat rw [if_neg (by omega)]); done) | (simp only [tu, va_up]; repeat rw [if_neg (by omega)])) (by intro k h; first | rfl | (unfold va_up; repeat rw [if_neg (by omega)])) hD, RB_congr (Nat.le_succ c) (by intro n j h; first | rfl | (unfold tu; (repeat rw [if_neg (by omega)]); done) | (simp only [tu, va_up]; repeat rw [if_neg (by omega)])) (by intro n j h; first | rfl | (unfold tu; (repeat rw [if_neg (by omega)]); done) | (simp only [tu, va_up]; repeat rw [if_neg (by omega)])) (by intro k h; first | rfl | (unfold va_up; repeat rw [if_neg (by omega)])) hB, RA_congr (by intro n j h; first | rfl | (unfold tu; (repeat rw [if_neg (by omega)]); done) | (simp only [tu, va_up]; repeat rw [if_neg (by omega)])) (by intro n j h; first | rfl | (unfold tu; (repeat rw [if_neg (by omega)]); done) | (simp only [tu, va_up]; repeat rw [if_neg (by omega)])) hA, RL_congr (by intro n j h; first | rfl | (unfold tu; (repeat rw [if_neg (by omega)]); done) | (simp only [tu, va_up]; repeat rw [if_neg (by omega)])) (by intro n j h; first | rfl | (unfold tu; (repeat rw [if_neg (by omega)]); done) | (simp only [tu, va_up]; repeat rw [if_neg (by omega)])) hL, RT_congr (by first | rfl | (unfold tu; repeat rw [if_neg (by omega)])) (by intro k h; first | rfl | (unfold va_up; repeat rw [if_neg (by omega)])) hT, RK_congr (by intro n j h; first | rfl | (unfold tu; (repeat rw [if_neg (by omega)]); done) | (simp only [tu, va_up]; repeat rw [if_neg (by omega)])) (by intro n j h; first | rfl | (unfold tu; (repeat rw [if_neg (by omega)]); done) | (simp only [tu, va_up]; repeat rw [if_neg (by omega)])) (by first | rfl | (unfold va_up; repeat rw [if_neg (by omega)])) hK, RJ_congr (by intro n j h; first | rfl | (unfold tu; (repeat rw [if_neg (by omega)]); done) | (simp only [tu, va_up]; repeat rw [if_neg (by omega)])) (by intro n j h; first | rfl | (unfold tu; (repeat rw [if_neg (by omega)]); done) | (simp only [tu, va_up]; repeat rw [if_neg (by omega)])) (by intro k h; first | rfl | (unfold va_up; repeat rw [if_neg (by omega)])) hJ, ?_, RS_congr (by intro n j h; first | rfl | (unfold tu; (repeat rw [if_neg (by omega)]); done) | (simp only [tu, va_up]; repeat rw [if_neg (by omega)])) (by intro n j h; first | rfl | (unfold tu; (repeat rw [if_neg (by omega)]); done) | (simp only [tu, va_up]; repeat rw [if_neg (by omega)])) hS⟩⟩
          exact ⟨o1, o2, o3, rfl⟩
        · have h0' : 0 ≤ n := by
            rw [Int32.le_iff_toInt_le]
            rw [Int32.lt_iff_toInt_lt] at h0
            omega
          simp only [if_neg h0, if_pos h0']
          rw [Int32.le_iff_toInt_le, k32_0] at h0'
          obtain ⟨z, hz, rfl⟩ := in_nat (n := 201) (p := n) (by omega)
          obtain ⟨r, hr, r1, r2, r3⟩ := jrow_free (np := np) (nd := nd) (nb := nb) (no := no) (dp := dp) (bd := bd) (ld := ld) hS
          have hro := rowOf4 r1 r2 hg (show z ≤ 200 by omega) hr r3
          have hfree : ∀ t, t < 4 → rw t ≠ some r := by
            intro t ht e
            rcases hS.1 t ht with ⟨e1, e2⟩ | ⟨q, f, z', e1, e2, e3, e4, e5, e6, e7, _⟩
            · rw [e1] at e; cases e
            · rw [e1] at e
              cases e
              rw [row_at e2 e3 e4 e7] at r3
              cases r3
          have hML := fun A => sheet_L (F := F) (L := L) (GF := GF) (GA := GA) hs (show z ≤ 200 by omega) z 0 300 A (by omega) (by omega)
          have hML : ∀ A, f_X5_sheet_L56 300 8 (Int32.ofNat s) (Int32.ofNat z) 0 (layM F A L GF GA) = some (Int32.ofNat z, layM F (zf A (200 * s + 0) (200 * s + z)) L GF GA) := hML
          have hk4 : (kX np nd nb no (va_up rk r (kof g, z)) (32 + s)).1 = 4 := by rw [kX_sheet hs]
          simp -implicitDefEqProofs (maxSteps := 2000000) (disch := omega) only [lm_is, lm_g0, lm_g1, lm_g2, lm_g3, lm_g4, lm_g5, lm_g6, lm_g7, lm_g8, lm_g9, lm_g10, lm_g11, lm_g12, lm_g13, lm_g14, lm_g15, lm_g16, lm_g17, lm_g18, lm_g19, lm_g20, lm_g21, lm_g22, lm_g23, lm_g24, lm_g25, lm_g26, lm_g27, lm_g28, lm_g29, lm_g30, lm_g31, lm_g32, lm_g33, lm_g34, lm_g35, lm_g36, lm_g37, lm_g38, lm_g39, lm_g40, lm_g41, lm_g42, lm_g43, lm_g44, lm_g45, lm_g46, lm_g47, lm_g48, lm_g49, lm_g50, lm_g51, lm_p1, lm_p6, lm_p12, lm_p13, lm_p22, lm_p23, lm_p29, lm_p30, lm_p31, lm_p32, lm_p33, lm_p34, lm_p35, lm_p37, lm_p41, lm_p44, lm_p45, lm_p51, y_is, y_g0, y_g1, y_p1, y_g2, y_g3, y_p3, y_g4, y_p4, y_g5, y_g6, y_g7, y_g8, y_g9, y_g10, y_p10, y_g12, y_p12, y_g13, y_g14, y_p14, y_g15, y_g16, y_p16, y_g17, y_g18, y_p18, y_g19, y_p19, y_g20, y_g21, y_g22, y_p22, y_g23, y_p23, y_g24, y_p24, y_g25, y_p25, y_g26, y_g27, y_p27, y_g11, y_r11, y12_is, y12_g0, y12_p0, y12_g1, y12_g2, y12_p2, y12_g3, y13_is, y13_g0, y13_p0, y13_g1, y13_g2, y13_p2, y13_g3, y14_is, y14_g0, y14_p0, y14_g1, y14_g2, y14_p2, y14_g3, y1_i, y1_i0, y1_i1, y1_i2, y1_i3, y1_i4, y1_i5, y11_i, y11_i0, y11_i1, y11_i2, y11_i3, y11_i4, y11_i5, y11_s, y11_s0, y11_s1, y11_s2, y11_s3, y11_s4, y11_s5, y16_i, y16_i0, y16_i1, y16_i2, y16_s, y16_s0, y16_s1, y16_s2, y17_i, y17_i0, y17_i1, y17_i2, y17_i3, y17_i4, y17_i5, y17_s, y17_s0, y17_s1, y17_s2, y17_s3, y17_s4, y17_s5, y19_i, y19_i0, y19_i1, y19_i2, y19_i3, y19_i4, y19_i5, y19_i6, y19_s, y19_s0, y19_s1, y19_s2, y19_s3, y19_s4, y19_s5, y19_s6, y20_i, y20_i0, y20_i1, y20_i2, y20_i3, y20_i4, y20_i5, y20_i6, y20_s, y20_s0, y20_s1, y20_s2, y20_s3, y20_s4, y20_s5, y20_s6, y9_a, y10_a, y15_a, y18_a, y21_a, yp_is, yp_g0, yp_p0, yp_g1, yp_p1, yp_g2, yp_p2, yp_g3, yp_p3, yp_g4, yl_is, yl_g0, yl_p0, yl_g2, yl_p2, yl_e, yl_e0, ye_a, yo_is, yo_g0, yo_p0, yo_g1, yo_p1, yd_is, yd_g0, yd_g1, yd_p1, yd_g2, yd_p2, yd_g3, yd_p3, yd_g4, yd_p4, yd_g5, yd_p5, yd_g6, yd_p6, yb_is, yb_g0, yb_g1, yb_p1, yb_g2, yb_p2, yb_g3, yb_p3, yb_g4, yb_p4, yb_g5, yb_p5, yb_g6, yb_p6, yb_g7, yb_p7, ys_is, ys_g0, ys_p0, ys_r, ys_a, yj_i, yj_i0, yj_s0, yj_i1, yj_s1, yj_i2, yj_s2, lm_n1, lm_sn1, lm_n1_0, lm_sn1_0, lm_n1_1, lm_sn1_1, lm_n1_2, lm_sn1_2, lm_n1_3, lm_sn1_3, lm_n1_4, lm_sn1_4, lm_n1_5, lm_sn1_5, lm_n2, lm_sn2, lm_n3, lm_sn3, lm_n4, lm_sn4, lm_n5, lm_sn5, lm_n6, lm_sn6, lm_n7, lm_sn7, lm_n8, lm_sn8, lm_n9, lm_sn9, lm_n10, lm_sn10, lm_n11, lm_sn11, lm_n12, lm_sn12, lm_n13, lm_sn13, lm_n14, lm_sn14, lm_n15, lm_sn15, lm_n16, lm_sn16, lm_n17, lm_sn17, lm_n18, lm_sn18, lm_n19, lm_n19_0, lm_sn19_0, lm_n19_1, lm_sn19_1, lm_n19_2, lm_sn19_2, lm_n19_3, lm_sn19_3, lm_n19_4, lm_sn19_4, lm_n19_5, lm_sn19_5, lm_n19_6, lm_sn19_6, lm_n20, lm_sn20, lm_n21, lm_sn21, lm_n22, lm_sn22, lm_n23, lm_sn23, lm_n23_0, lm_sn23_0, lm_n23_1, lm_sn23_1, lm_n23_2, lm_sn23_2, lm_n24, lm_sn24, lm_n24_0, lm_sn24_0, lm_n24_1, lm_sn24_1, lm_n24_2, lm_sn24_2, lm_n24_3, lm_sn24_3, lm_n24_4, lm_sn24_4, lm_n24_5, lm_sn24_5, lm_n25, lm_sn25, lm_n25_0, lm_sn25_0, lm_n25_1, lm_sn25_1, lm_n25_2, lm_sn25_2, lm_n25_3, lm_sn25_3, lm_n25_4, lm_sn25_4, lm_n25_5, lm_sn25_5, lm_n25_6, lm_sn25_6, lm_n26, lm_sn26, lm_n26_0, lm_sn26_0, lm_n26_1, lm_sn26_1, lm_n26_2, lm_sn26_2, lm_n26_3, lm_sn26_3, lm_n26_4, lm_sn26_4, lm_n26_5, lm_sn26_5, lm_n26_6, lm_sn26_6, lm_n27, lm_sn27, lm_n27_0, lm_sn27_0, lm_n27_1, lm_sn27_1, lm_n27_2, lm_sn27_2, lm_n27_3, lm_sn27_3, lm_n27_4, lm_sn27_4, lm_n27_5, lm_sn27_5, lm_n27_6, lm_sn27_6, lm_n28, lm_sn28, lm_n28_0, lm_sn28_0, lm_n28_1, lm_sn28_1, lm_n28_2, lm_sn28_2, lm_n28_3, lm_sn28_3, lm_n28_4, lm_sn28_4, lm_n28_5, lm_sn28_5, lm_n28_6, lm_sn28_6, lm_n29, lm_sn29, lm_n29_0, lm_sn29_0, lm_n29_1, lm_sn29_1, lm_n29_2, lm_sn29_2, lm_n29_3, lm_sn29_3, lm_n29_4, lm_sn29_4, lm_n29_5, lm_sn29_5, lm_n29_6, lm_sn29_6, lm_n30, lm_sn30, lm_n31, lm_sn31, lm_n31_0, lm_sn31_0, lm_n31_1, lm_sn31_1, lm_n31_2, lm_sn31_2, lm_n31_3, lm_sn31_3, lm_n32, lm_sn32, lm_n32_0, lm_sn32_0, lm_n32_1, lm_sn32_1, lm_n32_2, lm_sn32_2, lm_n32_3, lm_sn32_3, lm_n33, lm_sn33, lm_n34, lm_sn34, tu_at, tu_ne, tu_nk, vu_at, vu_ne, jb_some, Option.bind_some, Option.bind_none, one0, if_true, if_false, hro, lx_p3_1 hk4 (show 8 ≤ 32 + s by omega), rX_rw hs, hML]
          let rk' : Nat → Nat × Nat := fun q => if rw s = some q then (0, 0) else va_up rk r (kof g, z) q
          have hrk' : ∀ q, rw s ≠ some q → rk' q = va_up rk r (kof g, z) q := fun q hq => if_neg hq
          have hN : Rel (c + 1) np nd nb ns nj no dp bd jp ld (va_up rw s (some r)) rk' (tu (va_up T r (fun _ => 0)) (32 + s) 0 (Int32.ofNat g)) (zf (tu (tu A 31 s (Int32.ofNat g)) 32 s (Int32.ofNat z)) (200 * s + 0) (200 * s + z)) F L := by
            have fT : ∀ n j, n ≠ r → n ≠ 32 + s → tu (va_up T r (fun _ => 0)) (32 + s) 0 (Int32.ofNat g) n j = T n j := fun n j h1 h2 => by
              rw [tu_ne _ _ _ h2, vu_ne _ _ h1]
            have fA : ∀ n j, n ≠ 31 → n ≠ 32 → n ≠ 33 → zf (tu (tu A 31 s (Int32.ofNat g)) 32 s (Int32.ofNat z)) (200 * s + 0) (200 * s + z) n j = A n j := fun n j h1 h2 h3 => by
              unfold zf
              rw [if_neg (by omega), tu_ne _ _ _ h2, tu_ne _ _ _ h1]
            refine ⟨RP_congr (fun n j h => fT n j (by omega) (by omega)) (fun n j h => fA n j (by omega) (by omega) (by omega)) rfl hP, RD_congr (Nat.le_succ c) (fun n j h => fT n j (by omega) (by omega)) (fun n j h => fA n j (by omega) (by omega) (by omega)) (fun _ _ => rfl) hD, RB_congr (Nat.le_succ c) (fun n j h => fT n j (by omega) (by omega)) (fun n j h => fA n j (by omega) (by omega) (by omega)) (fun _ _ => rfl) hB, RA_congr (fun n j h => fT n j (by omega) (by omega)) (fun n j h => fA n j (by omega) (by omega) (by omega)) hA, RL_congr (fun n j h => fT n j (by omega) (by omega)) (fun n j h => fA n j (by omega) (by omega) (by omega)) hL, RT_congr (fT 8 12 (by omega) (by omega)) (fun _ _ => rfl) hT, RK_congr (fun n j h => fT n j (by omega) (by omega)) (fun n j h => fA n j (by omega) (by omega) (by omega)) rfl hK, RJ_congr (fun n j h => fT n j (by omega) (by omega)) (fun n j h => fA n j (by omega) (by omega) (by omega)) (fun _ _ => rfl) hJ, RO_congr (fun n j h => fT n j (by omega) (by omega)) (fun _ _ => rfl) hO, ?_⟩
            refine RS_new hs r1 r2 hg (show z ≤ 200 by omega) hS hfree (vu_at rw s _) (fun t ht => vu_ne rw _ ht) ?_ (fun q h1 h2 => ?_) (fun q h1 h2 => ?_) (fun i hi => ?_) ?_ fT ?_ ?_ (fun i hi => ?_) (fun t ht => ⟨?_, ?_, fun i hi => ?_⟩)
            · rw [hrk' r (hfree s hs), vu_at]
            · rw [hrk' q h2, vu_ne _ _ h1]
            · show (if rw s = some q then ((0 : Nat), (0 : Nat)) else va_up rk r (kof g, z) q).1 = 0
              rw [if_pos h2]
            · rw [tu_ne _ _ _ (by omega), vu_at]
            · rw [tu_at]
            · unfold zf
              rw [if_neg (by omega), tu_ne _ _ _ (by omega), tu_at]
            · unfold zf
              rw [if_neg (by omega), tu_at]
            · unfold zf
              rw [if_pos (by omega)]
            · unfold zf
              rw [if_neg (by omega), tu_ne _ _ _ (by omega), tu_nk _ _ _ ht]
            · unfold zf
              rw [if_neg (by omega), tu_nk _ _ _ ht, tu_ne _ _ _ (by omega)]
            · unfold zf
              rw [if_neg (by omega), tu_ne _ _ _ (by omega), tu_ne _ _ _ (by omega)]
          refine ⟨_, _, _, lay (kX np nd nb no rk') (tu (va_up T r (fun _ => 0)) (32 + s) 0 (Int32.ofNat g)) (rX np nd nb no dp bd ld (va_up rw s (some r))), rfl, rfl, fun n o ho => ⟨?_, lay_clo hN n o ho⟩, Rst_mk hN⟩
          have hnr : rw s ≠ some n := by
            intro e
            rcases hS.1 s hs with ⟨e1, e2⟩ | ⟨q, f, z', e1, e2, e3, _⟩
            · rw [e1] at e; cases e
            · rw [e1] at e
              cases e
              rw [row_none e2 e3 (show (rk' _).1 = 0 by show (if rw s = some q then ((0 : Nat), (0 : Nat)) else va_up rk r (kof g, z) q).1 = 0; rw [if_pos e1])] at ho
              cases ho
          unfold lay at ho ⊢
          rw [kX_rk (hrk' n hnr)] at ho
          exact ho
      · simp only [if_neg hn]
        exact sub_same ⟨_, _, _, rfl, rfl, Rst_mk (Rel_succ hR)⟩
    · simp only [if_neg hw, if_true]
      exact sub_same ⟨_, _, _, rfl, rfl, Rst_mk (Rel_succ hR)⟩
  · simp only [if_neg hp, if_true]
    exact sub_same ⟨_, _, _, rfl, rfl, Rst_mk (Rel_succ hR)⟩
