/-! the two heaps in one -/
set_option maxRecDepth 100000
def yL : MethodName := ⟨"BilletBarsLaw", "law", "([I)Z"⟩
/-- names of the component's heap, of the model's heap -/
def ρ1 (n : Nat) : Nat := if n < 3 then n else 2 * n + 10
def ρ2 (n : Nat) : Nat := 2 * n + 11
def mg (sc : Option jO) (h1 h2 : jH) : jH := fun m =>
  if m < 3 then (h1 m).map (rnO ρ1) else if m = 3 then sc else if m < 11 then none else if m % 2 = 0 then (if m < 16 then none else (h1 ((m - 10) / 2)).map (rnO ρ1)) else (h2 ((m - 11) / 2)).map (rnO ρ2)
section MG
variable {sc : Option jO} {h1 h2 h1' h2' : jH}
theorem mg_1 (n : Nat) : mg sc h1 h2 (ρ1 n) = (h1 n).map (rnO ρ1) := by
  unfold mg ρ1
  by_cases h : n < 3
  · rw [if_pos h, if_pos h]
  · rw [if_neg h, if_neg (by omega), if_neg (by omega), if_neg (by omega), if_pos (by omega), if_neg (by omega), show (2 * n + 10 - 10) / 2 = n by omega]
theorem mg_2 (n : Nat) : mg sc h1 h2 (ρ2 n) = (h2 n).map (rnO ρ2) := by
  unfold mg ρ2
  rw [if_neg (by omega), if_neg (by omega), if_neg (by omega), if_neg (by omega), show (2 * n + 11 - 11) / 2 = n by omega]
theorem mg_3 : mg sc h1 h2 3 = sc := rfl
theorem ρ1_inj (i j : Nat) (h : ρ1 i = ρ1 j) : i = j := by
  unfold ρ1 at h
  split at h <;> split at h <;> omega
theorem ρ2_inj (i j : Nat) (h : ρ2 i = ρ2 j) : i = j := by
  unfold ρ2 at h
  omega
theorem map_ne {o : Option jO} {f : jO → jO} (h : o.map f ≠ none) : o ≠ none := fun e => h (by rw [e]; rfl)
theorem emb_1 : emb ρ1 h1 (mg sc h1 h2) := ⟨fun n o ho => by rw [mg_1, ho]; rfl, fun n hn => by rw [mg_1] at hn; exact map_ne hn⟩
theorem emb_2 : emb ρ2 h2 (mg sc h1 h2) := ⟨fun n o ho => by rw [mg_2, ho]; rfl, fun n hn => by rw [mg_2] at hn; exact map_ne hn⟩
theorem mg_r1 (m : Nat) (hm : ∀ n, ρ1 n ≠ m) : mg sc h1' h2 m = mg sc h1 h2 m := by
  unfold mg
  by_cases c1 : m < 3
  · exact absurd (by unfold ρ1; rw [if_pos c1]) (hm m)
  rw [if_neg c1, if_neg c1]
  by_cases c2 : m = 3
  · rw [if_pos c2, if_pos c2]
  rw [if_neg c2, if_neg c2]
  by_cases c3 : m < 11
  · rw [if_pos c3, if_pos c3]
  rw [if_neg c3, if_neg c3]
  by_cases c4 : m % 2 = 0
  · rw [if_pos c4, if_pos c4]
    by_cases c5 : m < 16
    · rw [if_pos c5, if_pos c5]
    · exact absurd (by unfold ρ1; rw [if_neg (by omega)]; omega) (hm ((m - 10) / 2))
  · rw [if_neg c4, if_neg c4]
theorem mg_r2 (m : Nat) (hm : ∀ n, ρ2 n ≠ m) : mg sc h1 h2' m = mg sc h1 h2 m := by
  unfold mg
  by_cases c1 : m < 3
  · rw [if_pos c1, if_pos c1]
  rw [if_neg c1, if_neg c1]
  by_cases c2 : m = 3
  · rw [if_pos c2, if_pos c2]
  rw [if_neg c2, if_neg c2]
  by_cases c3 : m < 11
  · rw [if_pos c3, if_pos c3]
  rw [if_neg c3, if_neg c3]
  by_cases c4 : m % 2 = 0
  · rw [if_pos c4, if_pos c4]
  · exact absurd (by unfold ρ2; omega) (hm ((m - 11) / 2))
variable {D : va_G} {l : Launch} {y : MethodName} {ws : List Cond} {rm : Room} {as : List Int32} {r : Option Value}
/-- names 3 to 7 are dead -/
def dd1 (h : jH) : Prop := ∀ n, 3 ≤ n → n < 8 → h n = none
def dd2 (h : jH) : Prop := ∀ n, n < 8 → h n = none
theorem ints_map (ρ : Nat → Nat) (as : List Int32) : (as.map Value.int).map (jv ρ) = as.map Value.int := by
  rw [List.map_map]
  rfl
theorem bigX (hd : dd1 h1) (hM : jM D l y ws rm h1 (.ref 8 :: as.map Value.int) r h1') (hr : r.map (jv ρ1) = r) : jM D l y ws rm (mg sc h1 h2) (.ref 26 :: as.map Value.int) r (mg sc h1' h2) := by
  have := jM.big (hB := mg sc h1 h2) (hB' := mg sc h1' h2) hM ρ1_inj (fun n hn => by unfold ρ1; rw [if_neg (by omega)]; omega) (fun n hn hl => by
    unfold ρ1
    by_cases c1 : n < 3
    · rw [if_pos c1]
    · exact absurd (hd n (by omega) hn) hl) emb_1 emb_1 mg_r1
  rw [List.map_cons, ints_map, hr] at this
  exact this
theorem bigM (hd : dd2 h2) (hM : jM D l y ws rm h2 (.ref 8 :: as.map Value.int) r h2') (hr : r.map (jv ρ2) = r) : jM D l y ws rm (mg sc h1 h2) (.ref 27 :: as.map Value.int) r (mg sc h1 h2') := by
  have := jM.big (hB := mg sc h1 h2) (hB' := mg sc h1 h2') hM ρ2_inj (fun n hn => by unfold ρ2; omega) (fun n hn hl => absurd (hd n hn) hl) emb_2 emb_2 mg_r2
  rw [List.map_cons, ints_map, hr] at this
  exact this
theorem is26 {fs : List Value} (h : h1 8 = some (.inr (0, fs))) : ∃ u, jis (mg sc h1 h2) 26 0 = some u := by
  have := mg_1 (sc := sc) (h1 := h1) (h2 := h2) 8
  rw [h] at this
  exact ⟨(), by unfold jis; rw [show (26 : Nat) = ρ1 8 from rfl, this]; rfl⟩
theorem is27 {fs : List Value} (h : h2 8 = some (.inr (9, fs))) : ∃ u, jis (mg sc h1 h2) 27 9 = some u := by
  have := mg_2 (sc := sc) (h1 := h1) (h2 := h2) 8
  rw [h] at this
  exact ⟨(), by unfold jis; rw [show (27 : Nat) = ρ2 8 from rfl, this]; rfl⟩
end MG
/-- MOST's cell -/
def cMost : jO := .inl (.int, 6, .inl mostF)
theorem Rst_1 {c : Nat} {hx hm : jH} (h : Rst c hx hm) : hx 1 = some cMost := by
  obtain ⟨np, nd, nb, ns, nj, no, dp, bd, jp, ld, rw, rk, T, A, F, L, GF, GA, rfl, rfl, hR⟩ := h
  have h1 := hR.2.2.2.2.1.1
  show some (Sum.inl (FieldType.int, 6, Sum.inl (T 1))) = _
  rw [h1]
  rfl
theorem Rst_8 {c : Nat} {hx hm : jH} (h : Rst c hx hm) : ∃ fs, hx 8 = some (.inr (0, fs)) := by
  obtain ⟨np, nd, nb, ns, nj, no, dp, bd, jp, ld, rw, rk, T, A, F, L, GF, GA, rfl, rfl, hR⟩ := h
  exact ⟨_, rfl⟩
theorem Rst_8m {c : Nat} {hx hm : jH} (h : Rst c hx hm) : ∃ fs, hm 8 = some (.inr (9, fs)) := by
  obtain ⟨np, nd, nb, ns, nj, no, dp, bd, jp, ld, rw, rk, T, A, F, L, GF, GA, rfl, rfl, hR⟩ := h
  exact ⟨_, rfl⟩
theorem Rst_d1 {c : Nat} {hx hm : jH} (h : Rst c hx hm) : dd1 hx := by
  obtain ⟨np, nd, nb, ns, nj, no, dp, bd, jp, ld, rw, rk, T, A, F, L, GF, GA, rfl, rfl, hR⟩ := h
  intro n h1 h2
  have : n = 3 ∨ n = 4 ∨ n = 5 ∨ n = 6 ∨ n = 7 := by omega
  rcases this with rfl | rfl | rfl | rfl | rfl <;> rfl
theorem Rst_d2 {c : Nat} {hx hm : jH} (h : Rst c hx hm) : dd2 hm := by
  obtain ⟨np, nd, nb, ns, nj, no, dp, bd, jp, ld, rw, rk, T, A, F, L, GF, GA, rfl, rfl, hR⟩ := h
  intro n h1
  unfold layM
  rw [if_neg (by omega), if_neg (by omega), if_neg (by omega)]
theorem Rst_s {c : Nat} {hx hm : jH} (h : Rst c hx hm) : Rst (c + 1) hx hm := by
  obtain ⟨np, nd, nb, ns, nj, no, dp, bd, jp, ld, rw, rk, T, A, F, L, GF, GA, rfl, rfl, hR⟩ := h
  exact Rst_mk (Rel_succ hR)
