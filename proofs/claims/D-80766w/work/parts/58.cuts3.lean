/-! patterns, 3: numbers -/
set_option maxRecDepth 100000
theorem mulb {a b : Int} {x y : Int} (h1 : 0 ≤ a) (h2 : a ≤ x) (h3 : 0 ≤ b) (h4 : b ≤ y) : 0 ≤ a * b ∧ a * b ≤ x * y := ⟨Int.mul_nonneg h1 h3, Int.mul_le_mul h2 h4 h3 (by omega)⟩
section CN
variable {c c' np nd nb na ns nj : Nat} {no dp bd jp : Nat → Nat} {ld : Option Nat} {rw : Nat → Option Nat} {rk : Nat → Nat × Nat} {T T' A A' : Nat → Nat → Int32} {F F' GF : Nat → Int32} {L : Nat → Int64} {GA : Nat → Nat → Int32}
theorem len_bd {p : Nat} (h : PT no p T A) (k : Nat) : 0 ≤ (lenP A no p k).toInt ∧ (lenP A no p k).toInt ≤ 9000 := by
  unfold lenP
  split
  · rename_i hk
    obtain ⟨_, _, a1, a2, _⟩ := h.2.2.2.1 k hk
    omega
  · rw [k32_0]; omega
theorem mst_bd {p : Nat} (h : PT no p T A) (k : Nat) : 0 ≤ (mstP A no p k).toInt ∧ (mstP A no p k).toInt ≤ 60 := by
  unfold mstP
  split
  · rename_i hk
    obtain ⟨_, _, _, _, a1, a2⟩ := h.2.2.2.1 k hk
    split
    · rename_i h2
      rw [Int32.le_iff_toInt_le, k32_60] at h2
      omega
    · rw [k32_60]; omega
  · rw [k32_0]; omega
theorem wid_bd {p : Nat} (h : PT no p T A) (k : Nat) : (lenP A no p k + A 1 4).toInt = (lenP A no p k).toInt + (A 1 4).toInt ∧ 0 ≤ (lenP A no p k + A 1 4).toInt ∧ (lenP A no p k + A 1 4).toInt ≤ 9020 := by
  have h1 := len_bd h k
  obtain ⟨_, _, _, _, _, h2, h3⟩ := h
  have := add32 (a := lenP A no p k) (b := A 1 4) (by omega) (by omega)
  omega
theorem left_eq {p : Nat} (h : PT no p T A) (k : Nat) {left : Int32} (hl : -1000000 ≤ left.toInt ∧ left.toInt ≤ 1000000) {b : Nat} (hb : b ≤ 60) : (left - Int32.ofNat b * (lenP A no p k + A 1 4)).toInt = left.toInt - (b : Int) * (lenP A no p k + A 1 4).toInt ∧ 0 ≤ (b : Int) * (lenP A no p k + A 1 4).toInt ∧ (b : Int) * (lenP A no p k + A 1 4).toInt ≤ 541200 := by
  have h1 := wid_bd h k
  have h2 := mulb (a := (b : Int)) (x := 60) (b := (lenP A no p k + A 1 4).toInt) (y := 9020) (by omega) (by omega) h1.2.1 h1.2.2
  have e1 := oi (j := b) (by omega)
  have e2 := mul32 (a := Int32.ofNat b) (b := lenP A no p k + A 1 4) (by rw [e1]; omega) (by rw [e1]; omega)
  rw [e1] at e2
  have e3 := sub32 (a := left) (b := Int32.ofNat b * (lenP A no p k + A 1 4)) (by rw [e2]; omega) (by rw [e2]; omega)
  rw [e3, e2]
  omega
theorem mos_spec {p : Nat} (h : PT no p T A) (k : Nat) {left : Int32} (hl : 0 ≤ left.toInt ∧ left.toInt ≤ 300000) : (0 ≤ (mosP A no p k left).toInt ∧ (mosP A no p k left).toInt ≤ (mstP A no p k).toInt) ∧ ∀ b : Nat, b ≤ 60 → ((b : Int) ≤ (mosP A no p k left).toInt → 0 ≤ (left - Int32.ofNat b * (lenP A no p k + A 1 4)).toInt) ∧ ((mosP A no p k left).toInt < b → (b : Int) ≤ (mstP A no p k).toInt → (left - Int32.ofNat b * (lenP A no p k + A 1 4)).toInt < 0) := by
  have hm := mst_bd h k
  by_cases hk : k < no p
  · have h1 := wid_bd h k
    have e0 : lenP A no p k = A 21 (3 * p + k) := by unfold lenP; rw [if_pos hk]
    obtain ⟨_, _, a1, a2, _⟩ := h.2.2.2.1 k hk
    have hk4 := h.2.2.2.2.2
    have e1 : mosP A no p k left = jmin (mstP A no p k) (left / (lenP A no p k + A 1 4)) := by
      rw [e0]
      unfold mosP
      rw [if_pos hk]
    generalize hw : lenP A no p k + A 1 4 = w at *
    have hw1 : 100 ≤ w.toInt := by rw [e0] at h1; omega
    have q1 : 0 ≤ left.toInt / w.toInt := Int.ediv_nonneg hl.1 (by omega)
    have q2 : left.toInt / w.toInt ≤ left.toInt := Int.ediv_le_self _ hl.1
    have q3 : left.toInt / w.toInt * w.toInt ≤ left.toInt := Int.ediv_mul_le _ (by omega)
    have q4 : left.toInt < (left.toInt / w.toInt + 1) * w.toInt := Int.lt_ediv_add_one_mul_self _ (by omega)
    have e2 : (left / w).toInt = left.toInt / w.toInt := by
      rw [Int32.toInt_div, Int.tdiv_eq_ediv_of_nonneg hl.1, bm (by omega) (by omega)]
    have e3 : (mosP A no p k left).toInt = if left.toInt / w.toInt < (mstP A no p k).toInt then left.toInt / w.toInt else (mstP A no p k).toInt := by
      rw [e1]
      unfold jmin
      by_cases hx : left / w < mstP A no p k
      · rw [if_pos hx, if_pos (by rw [Int32.lt_iff_toInt_lt, e2] at hx; exact hx), e2]
      · rw [if_neg hx, if_neg (by rw [Int32.lt_iff_toInt_lt, e2] at hx; exact hx)]
    refine ⟨by rw [e3]; split <;> omega, fun b hb => ?_⟩
    have hz := left_eq h k (left := left) (by omega) hb
    rw [hw] at hz
    rw [hz.1, e3]
    constructor
    · intro h5
      have : (b : Int) ≤ left.toInt / w.toInt := by split at h5 <;> omega
      have := Int.mul_le_mul_of_nonneg_right this (show 0 ≤ w.toInt by omega)
      omega
    · intro h5 h6
      have : left.toInt / w.toInt + 1 ≤ (b : Int) := by split at h5 <;> omega
      have := Int.mul_le_mul_of_nonneg_right this (show 0 ≤ w.toInt by omega)
      omega
  · have e1 : mosP A no p k left = 0 := by unfold mosP; rw [if_neg hk]
    have e2 : mstP A no p k = 0 := by unfold mstP; rw [if_neg hk]
    rw [e1, e2, k32_0]
    refine ⟨by omega, fun b hb => ⟨fun h5 => ?_, fun h5 h6 => absurd h6 (by omega)⟩⟩
    have hz := left_eq h k (left := left) (by omega) hb
    have : b = 0 := by omega
    subst this
    rw [hz.1]
    omega
theorem neg_lt {x : Int32} : (x < 0) = (x.toInt < 0) := by rw [Int32.lt_iff_toInt_lt, k32_0]
theorem inn_join {p : Nat} (h : PT no p T A) (a : Int32) {left : Int32} (hl : 0 ≤ left.toInt ∧ left.toInt ≤ 300000) (st : jSt) : innM A no p a left (lenP A no p 1 + A 1 4) ((mstP A no p 1).toNatClampNeg + 1) st = innX A no p a left (lenP A no p 1 + A 1 4) ((mosP A no p 1 left).toNatClampNeg + 1) st := by
  obtain ⟨⟨s1, s2⟩, s3⟩ := mos_spec h 1 hl
  have hm := mst_bd h 1
  have n1 := niN s1
  have n2 := niN hm.1
  obtain ⟨k, hk⟩ : ∃ k, (mstP A no p 1).toNatClampNeg + 1 = (mosP A no p 1 left).toNatClampNeg + 1 + k := ⟨(mstP A no p 1).toNatClampNeg - (mosP A no p 1 left).toNatClampNeg, by omega⟩
  rw [hk, innM_skip k st (fun b h1 h2 => by rw [neg_lt]; exact (s3 b (by omega)).2 (by omega) (by omega))]
  exact innM_innX _ st (fun b hb => by rw [neg_lt]; have := (s3 b (by omega)).1 (by omega); omega)
theorem out_join {p : Nat} (h : PT no p T A) {all : Int32} (hl : 0 ≤ all.toInt ∧ all.toInt ≤ 300000) (st : jSt) : outM A no p all (lenP A no p 0 + A 1 4) (lenP A no p 1 + A 1 4) (mstP A no p 1).toNatClampNeg ((mstP A no p 0).toNatClampNeg + 1) st = outX A no p all (lenP A no p 0 + A 1 4) (lenP A no p 1 + A 1 4) ((mosP A no p 0 all).toNatClampNeg + 1) st := by
  obtain ⟨⟨s1, s2⟩, s3⟩ := mos_spec h 0 hl
  have hm := mst_bd h 0
  have hm1 := mst_bd h 1
  have n1 := niN s1
  have n2 := niN hm.1
  have n3 := niN hm1.1
  obtain ⟨k, hk⟩ : ∃ k, (mstP A no p 0).toNatClampNeg + 1 = (mosP A no p 0 all).toNatClampNeg + 1 + k := ⟨(mstP A no p 0).toNatClampNeg - (mosP A no p 0 all).toNatClampNeg, by omega⟩
  rw [hk, outM_skip k st (fun a b h1 h2 h3 => ?_)]
  · refine outM_outX _ st (fun a ha st => inn_join h _ ⟨(s3 a (by omega)).1 (by omega), ?_⟩ st)
    have := left_eq h 0 (left := all) (by omega) (b := a) (by omega)
    omega
  · have g1 := (s3 a (by omega)).2 (by omega) (by omega)
    have g2 := left_eq h 0 (left := all) (by omega) (b := a) (by omega)
    have g3 := left_eq h 1 (left := all - Int32.ofNat a * (lenP A no p 0 + A 1 4)) (by omega) (b := b) (by omega)
    rw [neg_lt]
    omega
/-- a pattern that was found -/
def Inv (A : Nat → Nat → Int32) (no : Nat → Nat) (p : Nat) (st : jSt) : Prop := 0 ≤ st.1.toInt ∧ (0 ≤ st.2.2.1.toInt ∧ st.2.2.1.toInt ≤ (mstP A no p 0).toInt) ∧ (0 ≤ st.2.2.2.1.toInt ∧ st.2.2.2.1.toInt ≤ (mstP A no p 1).toInt) ∧ (0 ≤ st.2.2.2.2.toInt ∧ st.2.2.2.2.toInt ≤ (mstP A no p 2).toInt)
theorem sum_pos {p : Nat} (h : PT no p T A) {a b c : Int32} (ha : 0 ≤ a.toInt ∧ a.toInt ≤ (mstP A no p 0).toInt) (hb : 0 ≤ b.toInt ∧ b.toInt ≤ (mstP A no p 1).toInt) (hc : 0 ≤ c.toInt ∧ c.toInt ≤ (mstP A no p 2).toInt) : 0 ≤ (((a * lenP A no p 0) + (b * lenP A no p 1)) + (c * lenP A no p 2)).toInt := by
  have l0 := len_bd h 0
  have l1 := len_bd h 1
  have l2 := len_bd h 2
  have k0 := mst_bd h 0
  have k1 := mst_bd h 1
  have k2 := mst_bd h 2
  have p0 := mulb (a := a.toInt) (x := 60) (b := (lenP A no p 0).toInt) (y := 9000) ha.1 (by omega) l0.1 l0.2
  have p1 := mulb (a := b.toInt) (x := 60) (b := (lenP A no p 1).toInt) (y := 9000) hb.1 (by omega) l1.1 l1.2
  have p2 := mulb (a := c.toInt) (x := 60) (b := (lenP A no p 2).toInt) (y := 9000) hc.1 (by omega) l2.1 l2.2
  have e0 := mul32 (a := a) (b := lenP A no p 0) (by omega) (by omega)
  have e1 := mul32 (a := b) (b := lenP A no p 1) (by omega) (by omega)
  have e2 := mul32 (a := c) (b := lenP A no p 2) (by omega) (by omega)
  have e3 := add32 (a := a * lenP A no p 0) (b := b * lenP A no p 1) (by omega) (by omega)
  have e4 := add32 (a := a * lenP A no p 0 + b * lenP A no p 1) (b := c * lenP A no p 2) (by omega) (by omega)
  omega
theorem upd_inv {p : Nat} (h : PT no p T A) {a b c : Int32} (ha : 0 ≤ a.toInt ∧ a.toInt ≤ (mstP A no p 0).toInt) (hb : 0 ≤ b.toInt ∧ b.toInt ≤ (mstP A no p 1).toInt) (hc : 0 ≤ c.toInt ∧ c.toInt ≤ (mstP A no p 2).toInt) {st : jSt} (hs : Inv A no p st) : Inv A no p (upd1 A no p a b c st) := by
  have := sum_pos h ha hb hc
  unfold upd1
  split
  · exact ⟨this, ha, hb, hc⟩
  · split
    · split
      · exact hs
      · exact ⟨this, ha, hb, hc⟩
    · exact hs
theorem upd_new {p : Nat} (h : PT no p T A) {a b c : Int32} (ha : 0 ≤ a.toInt ∧ a.toInt ≤ (mstP A no p 0).toInt) (hb : 0 ≤ b.toInt ∧ b.toInt ≤ (mstP A no p 1).toInt) (hc : 0 ≤ c.toInt ∧ c.toInt ≤ (mstP A no p 2).toInt) {st : jSt} (hs : st.1 = -1) : upd1 A no p a b c st = (((a * lenP A no p 0) + (b * lenP A no p 1)) + (c * lenP A no p 2), (a + b) + c, a, b, c) ∧ Inv A no p (((a * lenP A no p 0) + (b * lenP A no p 1)) + (c * lenP A no p 2), (a + b) + c, a, b, c) := by
  have := sum_pos h ha hb hc
  refine ⟨?_, this, ha, hb, hc⟩
  unfold upd1
  rw [if_pos]
  rw [hs, Int32.lt_iff_toInt_lt, m1i]
  omega
theorem inn_inv {p : Nat} (h : PT no p T A) {a : Int32} (ha : 0 ≤ a.toInt ∧ a.toInt ≤ (mstP A no p 0).toInt) {left : Int32} (hl : 0 ≤ left.toInt ∧ left.toInt ≤ 300000) : ∀ (m : Nat) (st : jSt), m ≤ (mosP A no p 1 left).toNatClampNeg + 1 → Inv A no p st → Inv A no p (innX A no p a left (lenP A no p 1 + A 1 4) m st)
  | 0, _, _, hs => hs
  | m + 1, st, hm, hs => by
    obtain ⟨⟨s1, s2⟩, s3⟩ := mos_spec h 1 hl
    have hk := mst_bd h 1
    have n1 := niN s1
    have e1 := oi (j := m) (by omega)
    have e2 := (s3 m (by omega)).1 (by omega)
    have e3 := left_eq h 1 (left := left) (by omega) (b := m) (by omega)
    rw [innX]
    exact inn_inv h ha hl m _ (by omega) (upd_inv h ha (by omega) (mos_spec h 2 (by omega)).1 hs)
theorem out_inv {p : Nat} (h : PT no p T A) {all : Int32} (hl : 0 ≤ all.toInt ∧ all.toInt ≤ 300000) : ∀ (m : Nat) (st : jSt), m ≤ (mosP A no p 0 all).toNatClampNeg + 1 → Inv A no p st → Inv A no p (outX A no p all (lenP A no p 0 + A 1 4) (lenP A no p 1 + A 1 4) m st)
  | 0, _, _, hs => hs
  | m + 1, st, hm, hs => by
    obtain ⟨⟨s1, s2⟩, s3⟩ := mos_spec h 0 hl
    have hk := mst_bd h 0
    have n1 := niN s1
    have e1 := oi (j := m) (by omega)
    have e2 := (s3 m (by omega)).1 (by omega)
    have e3 := left_eq h 0 (left := all) (by omega) (b := m) (by omega)
    rw [outX]
    exact out_inv h hl m _ (by omega) (inn_inv h (by omega) (by omega) _ _ (Nat.le_refl _) hs)
theorem out_new {p : Nat} (h : PT no p T A) {all : Int32} (hl : 0 ≤ all.toInt ∧ all.toInt ≤ 300000) : ∃ st' : jSt, Inv A no p st' ∧ ∀ st : jSt, st.1 = -1 → outX A no p all (lenP A no p 0 + A 1 4) (lenP A no p 1 + A 1 4) ((mosP A no p 0 all).toNatClampNeg + 1) st = st' := by
  obtain ⟨⟨s1, s2⟩, s3⟩ := mos_spec h 0 hl
  have hk := mst_bd h 0
  have n1 := niN s1
  generalize hm : (mosP A no p 0 all).toNatClampNeg = m at *
  have e1 := oi (j := m) (by omega)
  have e2 := (s3 m (by omega)).1 (by omega)
  have e3 := left_eq h 0 (left := all) (by omega) (b := m) (by omega)
  have hl1 : 0 ≤ (all - Int32.ofNat m * (lenP A no p 0 + A 1 4)).toInt ∧ (all - Int32.ofNat m * (lenP A no p 0 + A 1 4)).toInt ≤ 300000 := by omega
  obtain ⟨⟨t1, t2⟩, t3⟩ := mos_spec h 1 hl1
  have hk1 := mst_bd h 1
  have n2 := niN t1
  generalize hq : (mosP A no p 1 (all - Int32.ofNat m * (lenP A no p 0 + A 1 4))).toNatClampNeg = q at *
  have f1 := oi (j := q) (by omega)
  have f2 := (t3 q (by omega)).1 (by omega)
  have f3 := left_eq h 1 (left := all - Int32.ofNat m * (lenP A no p 0 + A 1 4)) (by omega) (b := q) (by omega)
  have hc := (mos_spec h 2 (left := all - Int32.ofNat m * (lenP A no p 0 + A 1 4) - Int32.ofNat q * (lenP A no p 1 + A 1 4)) (by omega)).1
  have hu := fun st hs => upd_new h (a := Int32.ofNat m) (b := Int32.ofNat q) (by omega) (by omega) hc (st := st) hs
  refine ⟨outX A no p all (lenP A no p 0 + A 1 4) (lenP A no p 1 + A 1 4) m (innX A no p (Int32.ofNat m) (all - Int32.ofNat m * (lenP A no p 0 + A 1 4)) (lenP A no p 1 + A 1 4) q (upd1 A no p (Int32.ofNat m) (Int32.ofNat q) (mosP A no p 2 (all - Int32.ofNat m * (lenP A no p 0 + A 1 4) - Int32.ofNat q * (lenP A no p 1 + A 1 4))) (-1, 0, 0, 0, 0))), ?_, fun st hs => ?_⟩
  · rw [(hu (-1, 0, 0, 0, 0) rfl).1]
    exact out_inv h hl m _ (by omega) (inn_inv h (by omega) hl1 q _ (by omega) (hu (-1, 0, 0, 0, 0) rfl).2)
  · rw [outX, hq, innX, (hu st hs).1, (hu (-1, 0, 0, 0, 0) rfl).1]
end CN
section CE
variable {c c' np nd nb na ns nj : Nat} {no dp bd jp : Nat → Nat} {ld : Option Nat} {rw : Nat → Option Nat} {rk : Nat → Nat × Nat} {T T' A A' : Nat → Nat → Int32} {F F' GF : Nat → Int32} {L : Nat → Int64} {GA : Nat → Nat → Int32}
theorem cuts_eq {p : Nat} (h : PT no p T A) (hp : p < np) (h8 : np ≤ 8) {u : Int32} (hu : 0 ≤ u.toInt ∧ u.toInt ≤ 200000) : ∃ st : jSt, Inv A no p st ∧ f_X0_cuts 8 (64 + 16 * p) u (lay (kX np nd nb no rk) T (rX np nd na no dp bd ld rw)) = some (lay (kX np nd nb no rk) (cT T st) (rX np nd na no dp bd ld rw)) ∧ f_X5_findPattern 8 (Int32.ofNat p) u (layM F A L GF GA) = some (layM F A L (va_up GF 29 st.1) (gT GA st)) := by
  obtain ⟨h1, h2, h3, h4, h5, h6, h7⟩ := id h
  have ea := add32 (a := u) (b := A 1 4) (by omega) (by omega)
  have hl : 0 ≤ (u + A 1 4).toInt ∧ (u + A 1 4).toInt ≤ 300000 := by omega
  obtain ⟨st', hi, hn⟩ := out_new h hl
  obtain ⟨⟨s1, s2⟩, s3⟩ := mos_spec h 0 hl
  have hk := mst_bd h 0
  have hk1 := mst_bd h 1
  have n1 := niN s1
  have n2 := niN hk.1
  refine ⟨st', hi, ?_, ?_⟩
  · have hc := PT_cT h (by omega) (-1, 0, T 16 0, T 16 1, T 16 2)
    have l0 : f_X0_lengthOf (64 + 16 * p) 0 (lay (kX np nd nb no rk) (cT T (-1, 0, T 16 0, T 16 1, T 16 2)) (rX np nd na no dp bd ld rw)) = _ := len_eq hc hp h8 (k := 0) (by decide)
    have l1 : f_X0_lengthOf (64 + 16 * p) 1 (lay (kX np nd nb no rk) (cT T (-1, 0, T 16 0, T 16 1, T 16 2)) (rX np nd na no dp bd ld rw)) = _ := len_eq hc hp h8 (k := 1) (by decide)
    have m0 : ∀ x, f_X0_most 8 (64 + 16 * p) 0 x (lay (kX np nd nb no rk) (cT T (-1, 0, T 16 0, T 16 1, T 16 2)) (rX np nd na no dp bd ld rw)) = _ := fun x => most_eq hc hp h8 (k := 0) (by decide) x
    have e4 : cT T (-1, 0, T 16 0, T 16 1, T 16 2) 11 4 = A 1 4 := hc.2.2.2.2.1
    unfold f_X0_cuts
    simp -implicitDefEqProofs (maxSteps := 2000000) (disch := omega) only [lm_is, lm_g0, lm_g1, lm_g2, lm_g3, lm_g4, lm_g5, lm_g6, lm_g7, lm_g8, lm_g9, lm_g10, lm_g11, lm_g12, lm_g13, lm_g14, lm_g15, lm_g16, lm_g17, lm_g18, lm_g19, lm_g20, lm_g21, lm_g22, lm_g23, lm_g24, lm_g25, lm_g26, lm_g27, lm_g28, lm_g29, lm_g30, lm_g31, lm_g32, lm_g33, lm_g34, lm_g35, lm_g36, lm_g37, lm_g38, lm_g39, lm_g40, lm_g41, lm_g42, lm_g43, lm_g44, lm_g45, lm_g46, lm_g47, lm_g48, lm_g49, lm_g50, lm_g51, lm_p1, lm_p6, lm_p12, lm_p13, lm_p22, lm_p23, lm_p29, lm_p30, lm_p31, lm_p32, lm_p33, lm_p34, lm_p35, lm_p37, lm_p41, lm_p44, lm_p45, lm_p51, y_is, y_g0, y_g1, y_p1, y_g2, y_g3, y_p3, y_g4, y_p4, y_g5, y_g6, y_g7, y_g8, y_g9, y_g10, y_p10, y_g12, y_p12, y_g13, y_g14, y_p14, y_g15, y_g16, y_p16, y_g17, y_g18, y_p18, y_g19, y_p19, y_g20, y_g21, y_g22, y_p22, y_g23, y_p23, y_g24, y_p24, y_g25, y_p25, y_g26, y_g27, y_p27, y_g11, y_r11, y12_is, y12_g0, y12_p0, y12_g1, y12_g2, y12_p2, y12_g3, y13_is, y13_g0, y13_p0, y13_g1, y13_g2, y13_p2, y13_g3, y14_is, y14_g0, y14_p0, y14_g1, y14_g2, y14_p2, y14_g3, y1_i, y1_i0, y1_i1, y1_i2, y1_i3, y1_i4, y1_i5, y11_i, y11_i0, y11_i1, y11_i2, y11_i3, y11_i4, y11_i5, y11_s, y11_s0, y11_s1, y11_s2, y11_s3, y11_s4, y11_s5, y16_i, y16_i0, y16_i1, y16_i2, y16_s, y16_s0, y16_s1, y16_s2, y17_i, y17_i0, y17_i1, y17_i2, y17_i3, y17_i4, y17_i5, y17_s, y17_s0, y17_s1, y17_s2, y17_s3, y17_s4, y17_s5, y19_i, y19_i0, y19_i1, y19_i2, y19_i3, y19_i4, y19_i5, y19_i6, y19_s, y19_s0, y19_s1, y19_s2, y19_s3, y19_s4, y19_s5, y19_s6, y20_i, y20_i0, y20_i1, y20_i2, y20_i3, y20_i4, y20_i5, y20_i6, y20_s, y20_s0, y20_s1, y20_s2, y20_s3, y20_s4, y20_s5, y20_s6, y9_a, y10_a, y15_a, y18_a, y21_a, yp_is, yp_g0, yp_p0, yp_g1, yp_p1, yp_g2, yp_p2, yp_g3, yp_p3, yp_g4, yl_is, yl_g0, yl_p0, yl_g2, yl_p2, yl_e, yl_e0, ye_a, yo_is, yo_g0, yo_p0, yo_g1, yo_p1, yd_is, yd_g0, yd_g1, yd_p1, yd_g2, yd_p2, yd_g3, yd_p3, yd_g4, yd_p4, yd_g5, yd_p5, yd_g6, yd_p6, yb_is, yb_g0, yb_g1, yb_p1, yb_g2, yb_p2, yb_g3, yb_p3, yb_g4, yb_p4, yb_g5, yb_p5, yb_g6, yb_p6, yb_g7, yb_p7, ys_is, ys_g0, ys_p0, ys_r, ys_a, yj_i, yj_i0, yj_s0, yj_i1, yj_s1, yj_i2, yj_s2, lm_n1, lm_sn1, lm_n1_0, lm_sn1_0, lm_n1_1, lm_sn1_1, lm_n1_2, lm_sn1_2, lm_n1_3, lm_sn1_3, lm_n1_4, lm_sn1_4, lm_n1_5, lm_sn1_5, lm_n2, lm_sn2, lm_n3, lm_sn3, lm_n4, lm_sn4, lm_n5, lm_sn5, lm_n6, lm_sn6, lm_n7, lm_sn7, lm_n8, lm_sn8, lm_n9, lm_sn9, lm_n10, lm_sn10, lm_n11, lm_sn11, lm_n12, lm_sn12, lm_n13, lm_sn13, lm_n14, lm_sn14, lm_n15, lm_sn15, lm_n16, lm_sn16, lm_n17, lm_sn17, lm_n18, lm_sn18, lm_n19, lm_n19_0, lm_sn19_0, lm_n19_1, lm_sn19_1, lm_n19_2, lm_sn19_2, lm_n19_3, lm_sn19_3, lm_n19_4, lm_sn19_4, lm_n19_5, lm_sn19_5, lm_n19_6, lm_sn19_6, lm_n20, lm_sn20, lm_n21, lm_sn21, lm_n22, lm_sn22, lm_n23, lm_sn23, lm_n23_0, lm_sn23_0, lm_n23_1, lm_sn23_1, lm_n23_2, lm_sn23_2, lm_n24, lm_sn24, lm_n24_0, lm_sn24_0, lm_n24_1, lm_sn24_1, lm_n24_2, lm_sn24_2, lm_n24_3, lm_sn24_3, lm_n24_4, lm_sn24_4, lm_n24_5, lm_sn24_5, lm_n25, lm_sn25, lm_n25_0, lm_sn25_0, lm_n25_1, lm_sn25_1, lm_n25_2, lm_sn25_2, lm_n25_3, lm_sn25_3, lm_n25_4, lm_sn25_4, lm_n25_5, lm_sn25_5, lm_n25_6, lm_sn25_6, lm_n26, lm_sn26, lm_n26_0, lm_sn26_0, lm_n26_1, lm_sn26_1, lm_n26_2, lm_sn26_2, lm_n26_3, lm_sn26_3, lm_n26_4, lm_sn26_4, lm_n26_5, lm_sn26_5, lm_n26_6, lm_sn26_6, lm_n27, lm_sn27, lm_n27_0, lm_sn27_0, lm_n27_1, lm_sn27_1, lm_n27_2, lm_sn27_2, lm_n27_3, lm_sn27_3, lm_n27_4, lm_sn27_4, lm_n27_5, lm_sn27_5, lm_n27_6, lm_sn27_6, lm_n28, lm_sn28, lm_n28_0, lm_sn28_0, lm_n28_1, lm_sn28_1, lm_n28_2, lm_sn28_2, lm_n28_3, lm_sn28_3, lm_n28_4, lm_sn28_4, lm_n28_5, lm_sn28_5, lm_n28_6, lm_sn28_6, lm_n29, lm_sn29, lm_n29_0, lm_sn29_0, lm_n29_1, lm_sn29_1, lm_n29_2, lm_sn29_2, lm_n29_3, lm_sn29_3, lm_n29_4, lm_sn29_4, lm_n29_5, lm_sn29_5, lm_n29_6, lm_sn29_6, lm_n30, lm_sn30, lm_n31, lm_sn31, lm_n31_0, lm_sn31_0, lm_n31_1, lm_sn31_1, lm_n31_2, lm_sn31_2, lm_n31_3, lm_sn31_3, lm_n32, lm_sn32, lm_n32_0, lm_sn32_0, lm_n32_1, lm_sn32_1, lm_n32_2, lm_sn32_2, lm_n32_3, lm_sn32_3, lm_n33, lm_sn33, lm_n34, lm_sn34, tu_at, tu_ne, tu_nk, vu_at, vu_ne, jb_some, Option.bind_some, Option.bind_none, one0, if_true, if_false, cT_0 T (-1) 0, l0, l1, m0, h5, e4]
    have e := cutX_54 (nd := nd) (nb := nb) (na := na) (dp := dp) (bd := bd) (ld := ld) (rw := rw) (rk := rk) h hp h8 (u + A 1 4) (lenP A no p 0 + A 1 4) (lenP A no p 1 + A 1 4) ((mosP A no p 0 (u + A 1 4)).toNatClampNeg + 1) 300 (-1, 0, T 16 0, T 16 1, T 16 2) (by omega) (by omega) (fun a ha => by
      have g1 := (s3 a (by omega)).1 (by omega)
      have g2 := left_eq h 0 (left := u + A 1 4) (by omega) (b := a) (by omega)
      have g3 := (mos_spec h 1 (left := u + A 1 4 - Int32.ofNat a * (lenP A no p 0 + A 1 4)) (by omega)).1
      omega)
    rw [ofn_self s1 (by omega), hn _ rfl] at e
    exact e
  · have m0 : f_X5_most 8 (Int32.ofNat p) 0 (layM F A L (va_up GF 29 (-1)) GA) = _ := mostM_eq h (by omega) (k := 0) (by decide)
    unfold f_X5_findPattern
    simp -implicitDefEqProofs (maxSteps := 2000000) (disch := omega) only [lm_is, lm_g0, lm_g1, lm_g2, lm_g3, lm_g4, lm_g5, lm_g6, lm_g7, lm_g8, lm_g9, lm_g10, lm_g11, lm_g12, lm_g13, lm_g14, lm_g15, lm_g16, lm_g17, lm_g18, lm_g19, lm_g20, lm_g21, lm_g22, lm_g23, lm_g24, lm_g25, lm_g26, lm_g27, lm_g28, lm_g29, lm_g30, lm_g31, lm_g32, lm_g33, lm_g34, lm_g35, lm_g36, lm_g37, lm_g38, lm_g39, lm_g40, lm_g41, lm_g42, lm_g43, lm_g44, lm_g45, lm_g46, lm_g47, lm_g48, lm_g49, lm_g50, lm_g51, lm_p1, lm_p6, lm_p12, lm_p13, lm_p22, lm_p23, lm_p29, lm_p30, lm_p31, lm_p32, lm_p33, lm_p34, lm_p35, lm_p37, lm_p41, lm_p44, lm_p45, lm_p51, y_is, y_g0, y_g1, y_p1, y_g2, y_g3, y_p3, y_g4, y_p4, y_g5, y_g6, y_g7, y_g8, y_g9, y_g10, y_p10, y_g12, y_p12, y_g13, y_g14, y_p14, y_g15, y_g16, y_p16, y_g17, y_g18, y_p18, y_g19, y_p19, y_g20, y_g21, y_g22, y_p22, y_g23, y_p23, y_g24, y_p24, y_g25, y_p25, y_g26, y_g27, y_p27, y_g11, y_r11, y12_is, y12_g0, y12_p0, y12_g1, y12_g2, y12_p2, y12_g3, y13_is, y13_g0, y13_p0, y13_g1, y13_g2, y13_p2, y13_g3, y14_is, y14_g0, y14_p0, y14_g1, y14_g2, y14_p2, y14_g3, y1_i, y1_i0, y1_i1, y1_i2, y1_i3, y1_i4, y1_i5, y11_i, y11_i0, y11_i1, y11_i2, y11_i3, y11_i4, y11_i5, y11_s, y11_s0, y11_s1, y11_s2, y11_s3, y11_s4, y11_s5, y16_i, y16_i0, y16_i1, y16_i2, y16_s, y16_s0, y16_s1, y16_s2, y17_i, y17_i0, y17_i1, y17_i2, y17_i3, y17_i4, y17_i5, y17_s, y17_s0, y17_s1, y17_s2, y17_s3, y17_s4, y17_s5, y19_i, y19_i0, y19_i1, y19_i2, y19_i3, y19_i4, y19_i5, y19_i6, y19_s, y19_s0, y19_s1, y19_s2, y19_s3, y19_s4, y19_s5, y19_s6, y20_i, y20_i0, y20_i1, y20_i2, y20_i3, y20_i4, y20_i5, y20_i6, y20_s, y20_s0, y20_s1, y20_s2, y20_s3, y20_s4, y20_s5, y20_s6, y9_a, y10_a, y15_a, y18_a, y21_a, yp_is, yp_g0, yp_p0, yp_g1, yp_p1, yp_g2, yp_p2, yp_g3, yp_p3, yp_g4, yl_is, yl_g0, yl_p0, yl_g2, yl_p2, yl_e, yl_e0, ye_a, yo_is, yo_g0, yo_p0, yo_g1, yo_p1, yd_is, yd_g0, yd_g1, yd_p1, yd_g2, yd_p2, yd_g3, yd_p3, yd_g4, yd_p4, yd_g5, yd_p5, yd_g6, yd_p6, yb_is, yb_g0, yb_g1, yb_p1, yb_g2, yb_p2, yb_g3, yb_p3, yb_g4, yb_p4, yb_g5, yb_p5, yb_g6, yb_p6, yb_g7, yb_p7, ys_is, ys_g0, ys_p0, ys_r, ys_a, yj_i, yj_i0, yj_s0, yj_i1, yj_s1, yj_i2, yj_s2, lm_n1, lm_sn1, lm_n1_0, lm_sn1_0, lm_n1_1, lm_sn1_1, lm_n1_2, lm_sn1_2, lm_n1_3, lm_sn1_3, lm_n1_4, lm_sn1_4, lm_n1_5, lm_sn1_5, lm_n2, lm_sn2, lm_n3, lm_sn3, lm_n4, lm_sn4, lm_n5, lm_sn5, lm_n6, lm_sn6, lm_n7, lm_sn7, lm_n8, lm_sn8, lm_n9, lm_sn9, lm_n10, lm_sn10, lm_n11, lm_sn11, lm_n12, lm_sn12, lm_n13, lm_sn13, lm_n14, lm_sn14, lm_n15, lm_sn15, lm_n16, lm_sn16, lm_n17, lm_sn17, lm_n18, lm_sn18, lm_n19, lm_n19_0, lm_sn19_0, lm_n19_1, lm_sn19_1, lm_n19_2, lm_sn19_2, lm_n19_3, lm_sn19_3, lm_n19_4, lm_sn19_4, lm_n19_5, lm_sn19_5, lm_n19_6, lm_sn19_6, lm_n20, lm_sn20, lm_n21, lm_sn21, lm_n22, lm_sn22, lm_n23, lm_sn23, lm_n23_0, lm_sn23_0, lm_n23_1, lm_sn23_1, lm_n23_2, lm_sn23_2, lm_n24, lm_sn24, lm_n24_0, lm_sn24_0, lm_n24_1, lm_sn24_1, lm_n24_2, lm_sn24_2, lm_n24_3, lm_sn24_3, lm_n24_4, lm_sn24_4, lm_n24_5, lm_sn24_5, lm_n25, lm_sn25, lm_n25_0, lm_sn25_0, lm_n25_1, lm_sn25_1, lm_n25_2, lm_sn25_2, lm_n25_3, lm_sn25_3, lm_n25_4, lm_sn25_4, lm_n25_5, lm_sn25_5, lm_n25_6, lm_sn25_6, lm_n26, lm_sn26, lm_n26_0, lm_sn26_0, lm_n26_1, lm_sn26_1, lm_n26_2, lm_sn26_2, lm_n26_3, lm_sn26_3, lm_n26_4, lm_sn26_4, lm_n26_5, lm_sn26_5, lm_n26_6, lm_sn26_6, lm_n27, lm_sn27, lm_n27_0, lm_sn27_0, lm_n27_1, lm_sn27_1, lm_n27_2, lm_sn27_2, lm_n27_3, lm_sn27_3, lm_n27_4, lm_sn27_4, lm_n27_5, lm_sn27_5, lm_n27_6, lm_sn27_6, lm_n28, lm_sn28, lm_n28_0, lm_sn28_0, lm_n28_1, lm_sn28_1, lm_n28_2, lm_sn28_2, lm_n28_3, lm_sn28_3, lm_n28_4, lm_sn28_4, lm_n28_5, lm_sn28_5, lm_n28_6, lm_sn28_6, lm_n29, lm_sn29, lm_n29_0, lm_sn29_0, lm_n29_1, lm_sn29_1, lm_n29_2, lm_sn29_2, lm_n29_3, lm_sn29_3, lm_n29_4, lm_sn29_4, lm_n29_5, lm_sn29_5, lm_n29_6, lm_sn29_6, lm_n30, lm_sn30, lm_n31, lm_sn31, lm_n31_0, lm_sn31_0, lm_n31_1, lm_sn31_1, lm_n31_2, lm_sn31_2, lm_n31_3, lm_sn31_3, lm_n32, lm_sn32, lm_n32_0, lm_sn32_0, lm_n32_1, lm_sn32_1, lm_n32_2, lm_sn32_2, lm_n32_3, lm_sn32_3, lm_n33, lm_sn33, lm_n34, lm_sn34, tu_at, tu_ne, tu_nk, vu_at, vu_ne, jb_some, Option.bind_some, Option.bind_none, one0, if_true, if_false, m0]
    have e := cutM_25 (F := F) (L := L) (GF := GF) (GA := GA) h (by omega) hk1 (u + A 1 4) ((mstP A no p 0).toNatClampNeg + 1) 300 (-1, 0, GA 23 0, GA 23 1, GA 23 2) (by omega) (by omega)
    rw [out_join h hl, ofn_self hk.1 (by omega), hn _ rfl, ← gT_0] at e
    exact e
end CE
theorem law_pattern (p u w : Int32) : alike (f_X0_pattern 8 p u w) (f_X5_pattern 8 p u w) := by
  refine alike_mk fun c np nd nb ns nj no dp bd jp ld rw rk T A F L GF GA hc hR => ?_
  obtain ⟨hP, hD, hB, hA, hL, hT, hK, hJ, hO, hS⟩ := id hR
  obtain ⟨p8, pF, pT, pp⟩ := id hP
  unfold f_X0_pattern f_X5_pattern
  simp only [y_is, lm_is, Option.bind_some, isP0 pT p8, isP5 pF p8, in0, in5, jb_some, Int32.toInt_toInt64, k32_0, k64_0, k32_1, k64_1, k32_2, k64_2, k32_3, k64_3, k32_4, k64_4, k32_5, k64_5, k32_6, k64_6, k32_7, k64_7, k32_8, k64_8, k32_12, k64_12, k32_20, k64_20, k32_50, k64_50, k32_60, k64_60, k32_80, k64_80, k32_100, k64_100, k32_200, k64_200, k32_500, k64_500, k32_1000, k64_1000, k32_1200, k64_1200, k32_5000, k64_5000, k32_9000, k64_9000, k32_9999, k64_9999, k32_20000, k64_20000, k32_200000, k64_200000, k32_1000000, k64_1000000]
  by_cases hp : 0 ≤ p.toInt ∧ p.toInt < np
  · obtain ⟨d, hd, rfl⟩ := in_nat hp
    by_cases hu : 0 ≤ u.toInt ∧ u.toInt ≤ 200000
    · by_cases hw : 0 ≤ w.toInt ∧ w.toInt ≤ 3
      · obtain ⟨k, hk, rfl⟩ := in_nat (n := 4) (p := w) (by omega)
        obtain ⟨st, i1, c1, c2⟩ := cuts_eq (nd := nd) (nb := nb) (na := nb) (dp := dp) (bd := bd) (ld := ld) (rw := rw) (rk := rk) (F := F) (L := L) (GF := GF) (GA := GA) (PT_of hP hL hd) hd p8 hu
        have hS' : Rst (c + 1) (lay (kX np nd nb no rk) (cT T st) (rX np nd nb no dp bd ld rw)) (layM F A L (va_up GF 29 st.1) (gT GA st)) := by
          unfold cT
          exact Rst_mk (ns := ns) (nj := nj) (jp := jp) ⟨RP_congr (by intro n j h; first | rfl | (unfold tu; (repeat rw [if_neg (by omega)]); done) | (simp only [tu, va_up]; repeat rw [if_neg (by omega)])) (by intro n j h; first | rfl | (unfold tu; (repeat rw [if_neg (by omega)]); done) | (simp only [tu, va_up]; repeat rw [if_neg (by omega)])) (by first | rfl | (unfold va_up; repeat rw [if_neg (by omega)])) hP, RD_congr (Nat.le_succ c) (by intro n j h; first | rfl | (unfold tu; (repeat rw [if_neg (by omega)]); done) | (simp only [tu, va_up]; repeat rw [if_neg (by omega)])) (by intro n j h; first | rfl | (unfold tu; (repeat rw [if_neg (by omega)]); done) | (simp only [tu, va_up]; repeat rw [if_neg (by omega)])) (by intro k h; first | rfl | (unfold va_up; repeat rw [if_neg (by omega)])) hD, RB_congr (Nat.le_succ c) (by intro n j h; first | rfl | (unfold tu; (repeat rw [if_neg (by omega)]); done) | (simp only [tu, va_up]; repeat rw [if_neg (by omega)])) (by intro n j h; first | rfl | (unfold tu; (repeat rw [if_neg (by omega)]); done) | (simp only [tu, va_up]; repeat rw [if_neg (by omega)])) (by intro k h; first | rfl | (unfold va_up; repeat rw [if_neg (by omega)])) hB, RA_congr (by intro n j h; first | rfl | (unfold tu; (repeat rw [if_neg (by omega)]); done) | (simp only [tu, va_up]; repeat rw [if_neg (by omega)])) (by intro n j h; first | rfl | (unfold tu; (repeat rw [if_neg (by omega)]); done) | (simp only [tu, va_up]; repeat rw [if_neg (by omega)])) hA, RL_congr (by intro n j h; first | rfl | (unfold tu; (repeat rw [if_neg (by omega)]); done) | (simp only [tu, va_up]; repeat rw [if_neg (by omega)])) (by intro n j h; first | rfl | (unfold tu; (repeat rw [if_neg (by omega)]); done) | (simp only [tu, va_up]; repeat rw [if_neg (by omega)])) hL, RT_congr (by first | rfl | (unfold tu; repeat rw [if_neg (by omega)])) (by intro k h; first | rfl | (unfold va_up; repeat rw [if_neg (by omega)])) hT, RK_congr (by intro n j h; first | rfl | (unfold tu; (repeat rw [if_neg (by omega)]); done) | (simp only [tu, va_up]; repeat rw [if_neg (by omega)])) (by intro n j h; first | rfl | (unfold tu; (repeat rw [if_neg (by omega)]); done) | (simp only [tu, va_up]; repeat rw [if_neg (by omega)])) (by first | rfl | (unfold va_up; repeat rw [if_neg (by omega)])) hK, RJ_congr (by intro n j h; first | rfl | (unfold tu; (repeat rw [if_neg (by omega)]); done) | (simp only [tu, va_up]; repeat rw [if_neg (by omega)])) (by intro n j h; first | rfl | (unfold tu; (repeat rw [if_neg (by omega)]); done) | (simp only [tu, va_up]; repeat rw [if_neg (by omega)])) (by intro k h; first | rfl | (unfold va_up; repeat rw [if_neg (by omega)])) hJ, RO_congr (by intro n j h; first | rfl | (unfold tu; (repeat rw [if_neg (by omega)]); done) | (simp only [tu, va_up]; repeat rw [if_neg (by omega)])) (by intro k h; first | rfl | (unfold va_up; repeat rw [if_neg (by omega)])) hO, RS_congr (by intro n j h; first | rfl | (unfold tu; (repeat rw [if_neg (by omega)]); done) | (simp only [tu, va_up]; repeat rw [if_neg (by omega)])) (by intro n j h; first | rfl | (unfold tu; (repeat rw [if_neg (by omega)]); done) | (simp only [tu, va_up]; repeat rw [if_neg (by omega)])) hS⟩
        simp -implicitDefEqProofs (maxSteps := 2000000) (disch := omega) only [lm_is, lm_g0, lm_g1, lm_g2, lm_g3, lm_g4, lm_g5, lm_g6, lm_g7, lm_g8, lm_g9, lm_g10, lm_g11, lm_g12, lm_g13, lm_g14, lm_g15, lm_g16, lm_g17, lm_g18, lm_g19, lm_g20, lm_g21, lm_g22, lm_g23, lm_g24, lm_g25, lm_g26, lm_g27, lm_g28, lm_g29, lm_g30, lm_g31, lm_g32, lm_g33, lm_g34, lm_g35, lm_g36, lm_g37, lm_g38, lm_g39, lm_g40, lm_g41, lm_g42, lm_g43, lm_g44, lm_g45, lm_g46, lm_g47, lm_g48, lm_g49, lm_g50, lm_g51, lm_p1, lm_p6, lm_p12, lm_p13, lm_p22, lm_p23, lm_p29, lm_p30, lm_p31, lm_p32, lm_p33, lm_p34, lm_p35, lm_p37, lm_p41, lm_p44, lm_p45, lm_p51, y_is, y_g0, y_g1, y_p1, y_g2, y_g3, y_p3, y_g4, y_p4, y_g5, y_g6, y_g7, y_g8, y_g9, y_g10, y_p10, y_g12, y_p12, y_g13, y_g14, y_p14, y_g15, y_g16, y_p16, y_g17, y_g18, y_p18, y_g19, y_p19, y_g20, y_g21, y_g22, y_p22, y_g23, y_p23, y_g24, y_p24, y_g25, y_p25, y_g26, y_g27, y_p27, y_g11, y_r11, y12_is, y12_g0, y12_p0, y12_g1, y12_g2, y12_p2, y12_g3, y13_is, y13_g0, y13_p0, y13_g1, y13_g2, y13_p2, y13_g3, y14_is, y14_g0, y14_p0, y14_g1, y14_g2, y14_p2, y14_g3, y1_i, y1_i0, y1_i1, y1_i2, y1_i3, y1_i4, y1_i5, y11_i, y11_i0, y11_i1, y11_i2, y11_i3, y11_i4, y11_i5, y11_s, y11_s0, y11_s1, y11_s2, y11_s3, y11_s4, y11_s5, y16_i, y16_i0, y16_i1, y16_i2, y16_s, y16_s0, y16_s1, y16_s2, y17_i, y17_i0, y17_i1, y17_i2, y17_i3, y17_i4, y17_i5, y17_s, y17_s0, y17_s1, y17_s2, y17_s3, y17_s4, y17_s5, y19_i, y19_i0, y19_i1, y19_i2, y19_i3, y19_i4, y19_i5, y19_i6, y19_s, y19_s0, y19_s1, y19_s2, y19_s3, y19_s4, y19_s5, y19_s6, y20_i, y20_i0, y20_i1, y20_i2, y20_i3, y20_i4, y20_i5, y20_i6, y20_s, y20_s0, y20_s1, y20_s2, y20_s3, y20_s4, y20_s5, y20_s6, y9_a, y10_a, y15_a, y18_a, y21_a, yp_is, yp_g0, yp_p0, yp_g1, yp_p1, yp_g2, yp_p2, yp_g3, yp_p3, yp_g4, yl_is, yl_g0, yl_p0, yl_g2, yl_p2, yl_e, yl_e0, ye_a, yo_is, yo_g0, yo_p0, yo_g1, yo_p1, yd_is, yd_g0, yd_g1, yd_p1, yd_g2, yd_p2, yd_g3, yd_p3, yd_g4, yd_p4, yd_g5, yd_p5, yd_g6, yd_p6, yb_is, yb_g0, yb_g1, yb_p1, yb_g2, yb_p2, yb_g3, yb_p3, yb_g4, yb_p4, yb_g5, yb_p5, yb_g6, yb_p6, yb_g7, yb_p7, ys_is, ys_g0, ys_p0, ys_r, ys_a, yj_i, yj_i0, yj_s0, yj_i1, yj_s1, yj_i2, yj_s2, lm_n1, lm_sn1, lm_n1_0, lm_sn1_0, lm_n1_1, lm_sn1_1, lm_n1_2, lm_sn1_2, lm_n1_3, lm_sn1_3, lm_n1_4, lm_sn1_4, lm_n1_5, lm_sn1_5, lm_n2, lm_sn2, lm_n3, lm_sn3, lm_n4, lm_sn4, lm_n5, lm_sn5, lm_n6, lm_sn6, lm_n7, lm_sn7, lm_n8, lm_sn8, lm_n9, lm_sn9, lm_n10, lm_sn10, lm_n11, lm_sn11, lm_n12, lm_sn12, lm_n13, lm_sn13, lm_n14, lm_sn14, lm_n15, lm_sn15, lm_n16, lm_sn16, lm_n17, lm_sn17, lm_n18, lm_sn18, lm_n19, lm_n19_0, lm_sn19_0, lm_n19_1, lm_sn19_1, lm_n19_2, lm_sn19_2, lm_n19_3, lm_sn19_3, lm_n19_4, lm_sn19_4, lm_n19_5, lm_sn19_5, lm_n19_6, lm_sn19_6, lm_n20, lm_sn20, lm_n21, lm_sn21, lm_n22, lm_sn22, lm_n23, lm_sn23, lm_n23_0, lm_sn23_0, lm_n23_1, lm_sn23_1, lm_n23_2, lm_sn23_2, lm_n24, lm_sn24, lm_n24_0, lm_sn24_0, lm_n24_1, lm_sn24_1, lm_n24_2, lm_sn24_2, lm_n24_3, lm_sn24_3, lm_n24_4, lm_sn24_4, lm_n24_5, lm_sn24_5, lm_n25, lm_sn25, lm_n25_0, lm_sn25_0, lm_n25_1, lm_sn25_1, lm_n25_2, lm_sn25_2, lm_n25_3, lm_sn25_3, lm_n25_4, lm_sn25_4, lm_n25_5, lm_sn25_5, lm_n25_6, lm_sn25_6, lm_n26, lm_sn26, lm_n26_0, lm_sn26_0, lm_n26_1, lm_sn26_1, lm_n26_2, lm_sn26_2, lm_n26_3, lm_sn26_3, lm_n26_4, lm_sn26_4, lm_n26_5, lm_sn26_5, lm_n26_6, lm_sn26_6, lm_n27, lm_sn27, lm_n27_0, lm_sn27_0, lm_n27_1, lm_sn27_1, lm_n27_2, lm_sn27_2, lm_n27_3, lm_sn27_3, lm_n27_4, lm_sn27_4, lm_n27_5, lm_sn27_5, lm_n27_6, lm_sn27_6, lm_n28, lm_sn28, lm_n28_0, lm_sn28_0, lm_n28_1, lm_sn28_1, lm_n28_2, lm_sn28_2, lm_n28_3, lm_sn28_3, lm_n28_4, lm_sn28_4, lm_n28_5, lm_sn28_5, lm_n28_6, lm_sn28_6, lm_n29, lm_sn29, lm_n29_0, lm_sn29_0, lm_n29_1, lm_sn29_1, lm_n29_2, lm_sn29_2, lm_n29_3, lm_sn29_3, lm_n29_4, lm_sn29_4, lm_n29_5, lm_sn29_5, lm_n29_6, lm_sn29_6, lm_n30, lm_sn30, lm_n31, lm_sn31, lm_n31_0, lm_sn31_0, lm_n31_1, lm_sn31_1, lm_n31_2, lm_sn31_2, lm_n31_3, lm_sn31_3, lm_n32, lm_sn32, lm_n32_0, lm_sn32_0, lm_n32_1, lm_sn32_1, lm_n32_2, lm_sn32_2, lm_n32_3, lm_sn32_3, lm_n33, lm_sn33, lm_n34, lm_sn34, tu_at, tu_ne, tu_nk, vu_at, vu_ne, jb_some, Option.bind_some, Option.bind_none, one0, if_true, if_false, if_pos hp, if_pos hu, if_pos hw, c1, c2, on_l3]
        have : k = 0 ∨ k = 1 ∨ k = 2 ∨ k = 3 := by omega
        rcases this with rfl | rfl | rfl | rfl
        · exact ⟨st.2.2.1, _, _, rfl, rfl, hS'⟩
        · exact ⟨st.2.2.2.1, _, _, rfl, rfl, hS'⟩
        · exact ⟨st.2.2.2.2, _, _, rfl, rfl, hS'⟩
        · exact ⟨st.1, _, _, rfl, rfl, hS'⟩
      · simp only [if_pos hp, if_pos hu, if_neg hw, if_true, one0, if_false]
        exact ⟨_, _, _, rfl, rfl, Rst_mk (Rel_succ hR)⟩
    · simp only [if_pos hp, if_neg hu, if_true, one0, if_false]
      exact ⟨_, _, _, rfl, rfl, Rst_mk (Rel_succ hR)⟩
  · simp only [if_neg hp, if_true]
    exact ⟨_, _, _, rfl, rfl, Rst_mk (Rel_succ hR)⟩
