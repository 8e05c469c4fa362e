/-! jobs: the spec -/
set_option maxRecDepth 100000
def csE (al tk : Nat → Int32) (ch : Int32) : List Nat → Int32
  | [] => 0
  | j :: r => (csE al tk ch r + (match r with
    | [] => 0
    | i :: _ => if al i = al j then 0 else ch)) + tk j
def csL (al tk du : Nat → Int32) (ch : Int32) : List Nat → Int32
  | [] => 0
  | j :: r => csL al tk du ch r + jmax 0 (csE al tk ch (j :: r) - du j)
def ext (n : Nat) : Nat → List Nat → List (List Nat)
  | 0, rp => [rp]
  | m + 1, rp => ((List.range n).filter (fun j => !rp.contains j)).flatMap (fun j => ext n m (j :: rp))
abbrev jBt : Type := Int32 × Int32 × List Nat
def stepB (al tk du : Nat → Int32) (ch : Int32) (B : jBt) (q : List Nat) : jBt := if csL al tk du ch q < B.1 ∨ (csL al tk du ch q = B.1 ∧ csE al tk ch q < B.2.1) then (csL al tk du ch q, csE al tk ch q, q) else B
/-- a row of an array, the latest first -/
def Tr (T : Nat → Nat → Int32) (a : Nat) : List Nat → Prop
  | [] => True
  | j :: r => T a r.length = Int32.ofNat j ∧ Tr T a r
theorem Tr_to {T T' : Nat → Nat → Int32} {a a' : Nat} : ∀ (q : List Nat), (∀ k, k < q.length → T' a' k = T a k) → Tr T a q → Tr T' a' q
  | [], _, _ => trivial
  | j :: r, h, ⟨h1, h2⟩ => ⟨by rw [h r.length (by simp)]; exact h1, Tr_to r (fun k hk => h k (by simp only [List.length_cons]; omega)) h2⟩
theorem Tr_get {T T' : Nat → Nat → Int32} {a a' : Nat} : ∀ (q : List Nat), Tr T a q → Tr T' a' q → ∀ k, k < q.length → T a k = T' a' k
  | [], _, _, k, h => absurd h (Nat.not_lt_zero k)
  | j :: r, ⟨h1, h2⟩, ⟨h3, h4⟩, k, hk => by
    by_cases e : k = r.length
    · rw [e, h1, h3]
    · exact Tr_get r h2 h4 k (by simp only [List.length_cons] at hk; omega)
theorem Tr_app {T : Nat → Nat → Int32} {a : Nat} : ∀ (p s : List Nat), Tr T a (p ++ s) → Tr T a s
  | [], _, h => h
  | _ :: p, s, h => Tr_app p s h.2
/-- all jobs are there -/
def wf (n : Nat) (q : List Nat) : Prop := ∀ j, j ∈ q → j < n
theorem ext_wf {n : Nat} : ∀ (m : Nat) (rp : List Nat), wf n rp → ∀ q, q ∈ ext n m rp → wf n q ∧ q.length = m + rp.length
  | 0, rp, h, q, hq => by
    simp only [ext, List.mem_singleton] at hq
    subst hq
    exact ⟨h, by omega⟩
  | m + 1, rp, h, q, hq => by
    simp only [ext, List.mem_flatMap, List.mem_filter, List.mem_range] at hq
    obtain ⟨j, ⟨hj, _⟩, hq⟩ := hq
    have := ext_wf m (j :: rp) (fun i hi => by
      rcases List.mem_cons.mp hi with rfl | hi
      · exact hj
      · exact h i hi) q hq
    refine ⟨this.1, ?_⟩
    rw [this.2]
    simp only [List.length_cons]
    omega
section CS
variable {al tk du : Nat → Int32} {ch : Int32} {n : Nat}
theorem jmax_t (x : Int32) : (jmax 0 x).toInt = if 0 < x.toInt then x.toInt else 0 := by
  unfold jmax
  by_cases h : (0 : Int32) < x
  · rw [if_pos h, if_pos (by rw [Int32.lt_iff_toInt_lt, k32_0] at h; exact h)]
  · rw [if_neg h, if_neg (by rw [Int32.lt_iff_toInt_lt, k32_0] at h; exact h), k32_0]
theorem cs_bd (ht : ∀ j, j < n → 1 ≤ (tk j).toInt ∧ (tk j).toInt ≤ 50) (hd : ∀ j, j < n → 0 ≤ (du j).toInt ∧ (du j).toInt ≤ 1000) (hc : 0 ≤ ch.toInt ∧ ch.toInt ≤ 20) : ∀ q : List Nat, wf n q → q.length ≤ 100 → (0 ≤ (csE al tk ch q).toInt ∧ (csE al tk ch q).toInt ≤ 70 * (q.length : Int)) ∧ (0 ≤ (csL al tk du ch q).toInt ∧ (csL al tk du ch q).toInt ≤ 7000 * (q.length : Int))
  | [], _, _ => by
    simp only [csE, csL, k32_0, List.length_nil]
    omega
  | j :: r, hw, hl => by
    simp only [List.length_cons] at hl ⊢
    obtain ⟨⟨a1, a2⟩, b1, b2⟩ := cs_bd ht hd hc r (fun i hi => hw i (List.mem_cons_of_mem _ hi)) (by omega)
    have t1 := ht j (hw j (List.mem_cons_self ..))
    have d1 := hd j (hw j (List.mem_cons_self ..))
    have hx : ∃ x : Int32, 0 ≤ x.toInt ∧ x.toInt ≤ 20 ∧ csE al tk ch (j :: r) = csE al tk ch r + x + tk j := by
      refine ⟨_, ?_, ?_, rfl⟩
      · split
        · rw [k32_0]; omega
        · split
          · rw [k32_0]; omega
          · omega
      · split
        · rw [k32_0]; omega
        · split
          · rw [k32_0]; omega
          · omega
    obtain ⟨x, x1, x2, x3⟩ := hx
    have e1 := add32 (a := csE al tk ch r) (b := x) (by omega) (by omega)
    have e2 := add32 (a := csE al tk ch r + x) (b := tk j) (by omega) (by omega)
    rw [← x3] at e2
    have e3 := sub32 (a := csE al tk ch (j :: r)) (b := du j) (by omega) (by omega)
    have e4 := jmax_t (csE al tk ch (j :: r) - du j)
    have e5 : 0 ≤ (jmax 0 (csE al tk ch (j :: r) - du j)).toInt ∧ (jmax 0 (csE al tk ch (j :: r) - du j)).toInt ≤ 7000 := by
      rw [e4]
      split <;> omega
    have e6 := add32 (a := csL al tk du ch r) (b := jmax 0 (csE al tk ch (j :: r) - du j)) (by omega) (by omega)
    have e7 : csL al tk du ch (j :: r) = csL al tk du ch r + jmax 0 (csE al tk ch (j :: r) - du j) := rfl
    rw [e7, e6]
    omega
theorem cs_mono (ht : ∀ j, j < n → 1 ≤ (tk j).toInt ∧ (tk j).toInt ≤ 50) (hd : ∀ j, j < n → 0 ≤ (du j).toInt ∧ (du j).toInt ≤ 1000) (hc : 0 ≤ ch.toInt ∧ ch.toInt ≤ 20) {j : Nat} {r : List Nat} (hw : wf n (j :: r)) (hl : r.length < 100) : (csL al tk du ch r).toInt ≤ (csL al tk du ch (j :: r)).toInt := by
  obtain ⟨_, b1, b2⟩ := cs_bd (al := al) (tk := tk) (du := du) (ch := ch) ht hd hc r (fun i hi => hw i (List.mem_cons_of_mem _ hi)) (by omega)
  obtain ⟨⟨a1, a2⟩, _⟩ := cs_bd (al := al) (tk := tk) (du := du) (ch := ch) ht hd hc (j :: r) hw (by simp only [List.length_cons]; omega)
  simp only [List.length_cons] at a2
  have d1 := hd j (hw j (List.mem_cons_self ..))
  have e3 := sub32 (a := csE al tk ch (j :: r)) (b := du j) (by omega) (by omega)
  have e4 := jmax_t (csE al tk ch (j :: r) - du j)
  have e5 : 0 ≤ (jmax 0 (csE al tk ch (j :: r) - du j)).toInt ∧ (jmax 0 (csE al tk ch (j :: r) - du j)).toInt ≤ 7000 := by
    rw [e4]
    split <;> omega
  have e6 := add32 (a := csL al tk du ch r) (b := jmax 0 (csE al tk ch (j :: r) - du j)) (by omega) (by omega)
  have e7 : csL al tk du ch (j :: r) = csL al tk du ch r + jmax 0 (csE al tk ch (j :: r) - du j) := rfl
  rw [e7, e6]
  omega
theorem ext_ge (ht : ∀ j, j < n → 1 ≤ (tk j).toInt ∧ (tk j).toInt ≤ 50) (hd : ∀ j, j < n → 0 ≤ (du j).toInt ∧ (du j).toInt ≤ 1000) (hc : 0 ≤ ch.toInt ∧ ch.toInt ≤ 20) : ∀ (m : Nat) (rp : List Nat), wf n rp → m + rp.length ≤ 100 → ∀ q, q ∈ ext n m rp → (csL al tk du ch rp).toInt ≤ (csL al tk du ch q).toInt
  | 0, rp, h, _, q, hq => by
    simp only [ext, List.mem_singleton] at hq
    subst hq
    exact Int.le_refl _
  | m + 1, rp, h, hl, q, hq => by
    simp only [ext, List.mem_flatMap, List.mem_filter, List.mem_range] at hq
    obtain ⟨j, ⟨hj, _⟩, hq⟩ := hq
    have hw : wf n (j :: rp) := fun i hi => by
      rcases List.mem_cons.mp hi with rfl | hi
      · exact hj
      · exact h i hi
    have h1 := cs_mono (al := al) (tk := tk) (du := du) (ch := ch) ht hd hc hw (by omega)
    have h2 := ext_ge ht hd hc m (j :: rp) hw (by simp only [List.length_cons]; omega) q hq
    omega
theorem fold_skip {B : jBt} : ∀ (l : List (List Nat)), (∀ q, q ∈ l → B.1.toInt < (csL al tk du ch q).toInt) → l.foldl (stepB al tk du ch) B = B
  | [], _ => rfl
  | q :: l, h => by
    have h1 := h q (List.mem_cons_self ..)
    have e : stepB al tk du ch B q = B := by
      unfold stepB
      rw [if_neg]
      rw [Int32.lt_iff_toInt_lt, ← Int32.toInt_inj]
      omega
    rw [List.foldl_cons, e]
    exact fold_skip l (fun q hq => h q (List.mem_cons_of_mem _ hq))
end CS
/-- the jobs of a row, as bits -/
def mask : List Nat → Nat
  | [] => 0
  | j :: r => mask r ||| (1 <<< j)
theorem bit_or : ∀ x, x < 128 → ∀ i, i < 7 → Int32.ofNat x ||| (1 <<< (Int32.ofNat i &&& 31)) = Int32.ofNat (x ||| (1 <<< i)) ∧ (x ||| (1 <<< i)) < 128 := by decide +kernel
theorem bit_at : ∀ x, x < 128 → ∀ i, i < 7 → (((Int32.ofNat x >>> (Int32.ofNat i &&& 31)) &&& 1) = 0 ↔ x.testBit i = false) := by decide +kernel
theorem mask_lt : ∀ q : List Nat, wf 7 q → mask q < 128
  | [], _ => by decide
  | j :: r, h => (bit_or (mask r) (mask_lt r (fun i hi => h i (List.mem_cons_of_mem _ hi))) j (h j (List.mem_cons_self ..))).2
theorem mask_at : ∀ (q : List Nat) (i : Nat), (mask q).testBit i = q.contains i
  | [], i => by simp [mask]
  | j :: r, i => by
    rw [mask, Nat.testBit_or, mask_at r i, List.contains_cons, Bool.or_comm]
    congr 1
    rw [Nat.one_shiftLeft, Nat.testBit_two_pow]
    by_cases h : i = j
    · subst h; simp
    · simp [h, Ne.symm h]
