/-! what a group does not look at may change -/
set_option maxRecDepth 100000
section FR
variable {c c' np nd nb ns nj : Nat} {no dp bd jp : Nat → Nat} {ld : Option Nat} {rw : Nat → Option Nat} {rk : Nat → Nat × Nat} {T T' A A' : Nat → Nat → Int32} {F F' : Nat → Int32} {L : Nat → Int64}
theorem RP_congr (hT : ∀ n j, (n = 8 ∧ j = 1) ∨ (64 ≤ n ∧ n < 192) → T' n j = T n j) (hA : ∀ n j, n = 2 ∨ n = 3 ∨ n = 4 ∨ n = 5 ∨ n = 20 ∨ n = 21 ∨ n = 22 → A' n j = A n j) (hF : F' 1 = F 1) (h : RP np no T A F) : RP np no T' A' F' := by
  obtain ⟨h8, h1, h2, h3⟩ := h
  refine ⟨h8, by rw [hF]; exact h1, by rw [hT _ _ (by omega)]; exact h2, fun p hp => ?_⟩
  obtain ⟨a, b, d, e⟩ := h3 p hp
  rw [hT (64 + 16 * p) 0 (by omega), hT (64 + 16 * p) 1 (by omega), hT (64 + 16 * p) 2 (by omega), hT (64 + 16 * p) 3 (by omega), hT (64 + 16 * p + 1) 2 (by omega), hA 2 p (by decide), hA 3 p (by decide), hA 4 p (by decide), hA 5 p (by decide), hA 20 p (by decide)]
  refine ⟨a, b, d, fun k hk => ?_⟩
  rw [hT (64 + 16 * p + 3 + k) 0 (by omega), hT (64 + 16 * p + 3 + k) 1 (by omega), hA 21 _ (by decide), hA 22 _ (by decide)]
  exact e k hk
theorem RD_congr (hc : c ≤ c') (hT : ∀ n j, (n = 8 ∧ (j = 3 ∨ j = 4)) ∨ (200 ≤ n ∧ n < 212) → T' n j = T n j) (hA : ∀ n j, n = 6 ∨ n = 7 ∨ n = 8 ∨ n = 9 ∨ n = 10 → A' n j = A n j) (hF : ∀ k, k = 6 ∨ k = 12 → F' k = F k) (h : RD c nd np dp T A F) : RD c' nd np dp T' A' F' := by
  obtain ⟨h8, h1, h2, h3, h4⟩ := h
  refine ⟨h8, by rw [hF 6 (by decide)]; exact h1, by rw [hT _ _ (by omega)]; exact h2, by rw [hT _ _ (by omega), hF 12 (by decide)]; exact ⟨h3.1, h3.2.1, by omega⟩, fun d hd => ?_⟩
  have := h4 d hd
  rw [hT (200 + d) 1 (by omega), hT (200 + d) 2 (by omega), hT (200 + d) 3 (by omega), hT (200 + d) 4 (by omega), hT (200 + d) 5 (by omega), hT (200 + d) 6 (by omega), hA 6 d (by decide), hA 7 d (by decide), hA 8 d (by decide), hA 9 d (by decide), hA 10 d (by decide)]
  exact this
theorem RD_np {np' : Nat} (hn : np ≤ np') (h : RD c nd np dp T A F) : RD c nd np' dp T A F := by
  obtain ⟨h8, h1, h2, h3, h4⟩ := h
  exact ⟨h8, h1, h2, h3, fun d hd => ⟨by have := (h4 d hd).1; omega, (h4 d hd).2⟩⟩
theorem RB_congr (hc : c ≤ c') (hT : ∀ n j, (n = 8 ∧ (j = 10 ∨ j = 25)) ∨ (1000 ≤ n ∧ n < 1200) → T' n j = T n j) (hA : ∀ n j, 11 ≤ n ∧ n ≤ 18 → A' n j = A n j) (hF : ∀ k, k = 13 ∨ k = 45 → F' k = F k) (h : RB c nb nd bd T A F) : RB c' nb nd bd T' A' F' := by
  obtain ⟨h8, h1, h2, h3, h4⟩ := h
  refine ⟨h8, by rw [hF 13 (by decide)]; exact h1, by rw [hT _ _ (by omega)]; exact h2, by rw [hT _ _ (by omega), hF 45 (by decide)]; exact ⟨h3.1, h3.2.1, by omega⟩, fun i hi => ?_⟩
  have := h4 i hi
  rw [hT (1000 + i) 1 (by omega), hT (1000 + i) 2 (by omega), hT (1000 + i) 3 (by omega), hT (1000 + i) 4 (by omega), hT (1000 + i) 5 (by omega), hT (1000 + i) 6 (by omega), hT (1000 + i) 7 (by omega), hA 11 i (by decide), hA 12 i (by decide), hA 13 i (by decide), hA 14 i (by decide), hA 15 i (by decide), hA 16 i (by decide), hA 17 i (by decide), hA 18 i (by decide), hF 45 (by decide)]
  exact this
theorem RB_nd {nd' : Nat} (hn : nd ≤ nd') (h : RB c nb nd bd T A F) : RB c nb nd' bd T A F := by
  obtain ⟨h8, h1, h2, h3, h4⟩ := h
  exact ⟨h8, h1, h2, h3, fun d hd => ⟨⟨by have := (h4 d hd).1.1; omega, (h4 d hd).1.2⟩, (h4 d hd).2⟩⟩
theorem isum_congr {n : Nat} {f g : Nat → Int32} (h : ∀ i, i < n → f i = g i) : isum n f = isum n g := by
  induction n with
  | zero => rfl
  | succ n ih =>
    unfold isum
    rw [ih (fun i hi => h i (by omega)), h n (by omega)]
theorem RA_congr (hT : ∀ n j, (n = 12 ∨ n = 13) ∨ (n = 14 ∧ j = 0) → T' n j = T n j) (hA : ∀ n j, 12 ≤ n ∧ n ≤ 15 → A' n j = A n j) (h : RA nb T A L) : RA nb T' A' L := by
  obtain ⟨h1, h2, h3, h4, h5, h6, h7, h8, h9⟩ := h
  have e : ∀ n, 12 ≤ n ∧ n ≤ 15 → A' n = A n := fun n hn => funext fun j => hA n j hn
  unfold RA
  rw [hT 12 0 (by omega), hT 13 0 (by omega), hT 14 0 (by omega), hT 12 2 (by omega), hT 13 2 (by omega), e 12 (by omega), e 13 (by omega), e 14 (by omega), e 15 (by omega)]
  exact ⟨h1, h2, h3, h4, h5, h6, h7, h8, h9⟩
theorem RL_congr (hT : ∀ n j, n = 1 ∨ n = 11 → T' n j = T n j) (hA : ∀ n j, n = 1 → A' n j = A n j) (h : RL T A) : RL T' A' := by
  obtain ⟨h1, h2⟩ := h
  refine ⟨by rw [← h1]; exact funext fun j => hT 1 j (by omega), fun k hk => ?_⟩
  rw [hT 11 k (by omega), hA 1 k rfl]
  exact h2 k hk
theorem RT_congr (hT : T' 8 12 = T 8 12) (hF : ∀ k, k = 22 ∨ k = 23 → F' k = F k) (h : RT nd ld T F) : RT nd ld T' F' := by
  unfold RT
  rw [hT, hF 22 (by decide), hF 23 (by decide)]
  exact h
theorem RT_nd {nd' : Nat} (hn : nd ≤ nd') (h : RT nd ld T F) : RT nd' ld T F := by
  rcases h with h | ⟨d, hd, h⟩
  · exact .inl h
  · exact .inr ⟨d, by omega, h⟩
theorem RK_congr (hT : ∀ n j, (n = 8 ∧ j = 16) ∨ n = 17 → T' n j = T n j) (hA : ∀ n j, n = 24 → A' n j = A n j) (hF : F' 35 = F 35) (h : RK ns T A F) : RK ns T' A' F' := by
  obtain ⟨h8, h1, h2, h3⟩ := h
  refine ⟨h8, by rw [hF]; exact h1, by rw [hT _ _ (by omega)]; exact h2, fun k hk => ?_⟩
  rw [hT 17 k (by omega), hA 24 k rfl]
  exact h3 k hk
theorem RJ_congr (hT : ∀ n j, (n = 8 ∧ (j = 18 ∨ j = 19)) ∨ (24 ≤ n ∧ n ≤ 30) → T' n j = T n j) (hA : ∀ n j, 25 ≤ n ∧ n ≤ 27 → A' n j = A n j) (hF : ∀ k, k = 37 ∨ k = 41 → F' k = F k) (h : RJ nj np jp T A F) : RJ nj np jp T' A' F' := by
  obtain ⟨h8, h1, h2, h3, h4⟩ := h
  refine ⟨h8, by rw [hF 37 (by decide)]; exact h1, by rw [hT _ _ (by omega)]; exact h2, by rw [hT _ _ (by omega), hF 41 (by decide)]; exact h3, fun j hj => ?_⟩
  rw [hT (24 + j) 0 (by omega), hT (24 + j) 1 (by omega), hT (24 + j) 2 (by omega), hA 25 j (by decide), hA 26 j (by decide), hA 27 j (by decide)]
  exact h4 j hj
theorem RJ_np {np' : Nat} (hn : np ≤ np') (h : RJ nj np jp T A F) : RJ nj np' jp T A F := by
  obtain ⟨h8, h1, h2, h3, h4⟩ := h
  exact ⟨h8, h1, h2, h3, fun d hd => ⟨⟨by have := (h4 d hd).1.1; omega, (h4 d hd).1.2⟩, (h4 d hd).2⟩⟩
theorem RO_congr (hT : ∀ n j, n = 8 ∧ (j = 24 ∨ j = 27) → T' n j = T n j) (hF : ∀ k, k = 44 ∨ k = 51 → F' k = F k) (h : RO T F) : RO T' F' := by
  unfold RO
  rw [hT 8 24 (by omega), hT 8 27 (by omega), hF 44 (by decide), hF 51 (by decide)]
  exact h
theorem RS_congr (hT : ∀ n j, (32 ≤ n ∧ n ≤ 44) → T' n j = T n j) (hA : ∀ n j, 31 ≤ n ∧ n ≤ 33 → A' n j = A n j) (h : RS rw rk T A) : RS rw rk T' A' := by
  obtain ⟨h1, h2, h3⟩ := h
  refine ⟨fun s hs => ?_, h2, h3⟩
  rcases h1 s hs with ⟨e1, e2⟩ | ⟨r, f, z, e1, e2, e3, e4, e5, e6, e7, e8, e9, e10⟩
  · exact .inl ⟨e1, by rw [hA 31 s (by decide)]; exact e2⟩
  · refine .inr ⟨r, f, z, e1, e2, e3, e4, by rw [hA 31 s (by decide)]; exact e5, by rw [hT _ _ (by omega)]; exact e6, e7, e8, by rw [hA 32 s (by decide)]; exact e9, fun i hi => ?_⟩
    rw [hT r i (by omega), hA 33 _ (by decide)]
    exact e10 i hi
end FR
