/-! the start: what the constructors leave -/
set_option maxRecDepth 100000
def cEmpty : jO := .inl (.object "java/lang/Object", 0, .inr (.inr (.inr (.inr (fun _ => none)))))
def zX : List Value := [.null, .int 0, .null, .int 0, .int 0, .null, .null, .null, .null, .null, .int 0, .null, .int 0, .null, .int 0, .null, .int 0, .null, .int 0, .int 0, .null, .null, .int 0, .int 0, .int 0, .int 0, .null, .int 0]
def zM : List Value := [.null, .int 0, .null, .null, .null, .null, .int 0, .null, .null, .null, .null, .null, .int 0, .int 0, .null, .null, .null, .null, .null, .null, .null, .null, .int 0, .int 0, .null, .null, .null, .null, .null, .int 0, .int 0, .int 0, .int 0, .int 0, .int 0, .int 0, .null, .int 0, .null, .null, .null, .int 0, .null, .null, .int 0, .int 0, .null, .null, .null, .null, .null, .int 0]
def hX0 : jH := fun n => if n = 1 then some cMost else if n = 2 then some cEmpty else if n = 8 then some (.inr (0, zX)) else none
def hM0 : jH := fun n => if n = 8 then some (.inr (9, zM)) else none
def T0 (n : Nat) : Nat → Int32 := match n with
  | 1 => mostF
  | 8 => fun k => if k = 19 then 2 else if k = 24 then 100000 else 0
  | 11 => upd (upd (upd (upd (upd (upd (fun _ => 0) 0 20) 1 500) 2 300) 3 400) 4 5) 5 5
  | 12 => fun k => if k = 2 then 1 else 0
  | 13 => fun k => if k = 2 then 2 else 0
  | _ => fun _ => 0
def n0 : Nat → Nat := fun _ => 0
def w0 : Nat → Option Nat := fun _ => none
def k0 : Nat → Nat × Nat := fun _ => (0, 0)
def hY0 : jH := lay (kX 0 0 0 n0 k0) T0 (rX 0 0 0 n0 n0 n0 none w0)
theorem ix_ok : (f_X0_init 8 hX0).isSome = true := by decide +kernel
theorem ix_1 : (f_X0_init 8 hX0).bind (fun h => h 1) = hY0 1 := rfl
theorem ix_2 : (f_X0_init 8 hX0).bind (fun h => h 2) = hY0 2 := rfl
theorem ix_8 : (f_X0_init 8 hX0).bind (fun h => h 8) = hY0 8 := rfl
theorem ix_9 : (f_X0_init 8 hX0).bind (fun h => h 9) = hY0 9 := rfl
theorem ix_10 : (f_X0_init 8 hX0).bind (fun h => h 10) = hY0 10 := rfl
theorem ix_11 : (f_X0_init 8 hX0).bind (fun h => h 11) = hY0 11 := rfl
theorem ix_12 : (f_X0_init 8 hX0).bind (fun h => h 12) = hY0 12 := rfl
theorem ix_13 : (f_X0_init 8 hX0).bind (fun h => h 13) = hY0 13 := rfl
theorem ix_14 : (f_X0_init 8 hX0).bind (fun h => h 14) = hY0 14 := rfl
theorem ix_15 : (f_X0_init 8 hX0).bind (fun h => h 15) = hY0 15 := rfl
theorem ix_16 : (f_X0_init 8 hX0).bind (fun h => h 16) = hY0 16 := rfl
theorem ix_17 : (f_X0_init 8 hX0).bind (fun h => h 17) = hY0 17 := rfl
theorem ix_18 : (f_X0_init 8 hX0).bind (fun h => h 18) = hY0 18 := rfl
theorem ix_19 : (f_X0_init 8 hX0).bind (fun h => h 19) = hY0 19 := rfl
theorem ix_20 : (f_X0_init 8 hX0).bind (fun h => h 20) = hY0 20 := rfl
theorem ix_21 : (f_X0_init 8 hX0).bind (fun h => h 21) = hY0 21 := rfl
theorem ix_24 : (f_X0_init 8 hX0).bind (fun h => h 24) = hY0 24 := rfl
theorem ix_25 : (f_X0_init 8 hX0).bind (fun h => h 25) = hY0 25 := rfl
theorem ix_26 : (f_X0_init 8 hX0).bind (fun h => h 26) = hY0 26 := rfl
theorem ix_27 : (f_X0_init 8 hX0).bind (fun h => h 27) = hY0 27 := rfl
theorem ix_28 : (f_X0_init 8 hX0).bind (fun h => h 28) = hY0 28 := rfl
theorem ix_29 : (f_X0_init 8 hX0).bind (fun h => h 29) = hY0 29 := rfl
theorem ix_30 : (f_X0_init 8 hX0).bind (fun h => h 30) = hY0 30 := rfl
theorem ix_32 : (f_X0_init 8 hX0).bind (fun h => h 32) = hY0 32 := rfl
theorem ix_33 : (f_X0_init 8 hX0).bind (fun h => h 33) = hY0 33 := rfl
theorem ix_34 : (f_X0_init 8 hX0).bind (fun h => h 34) = hY0 34 := rfl
theorem ix_35 : (f_X0_init 8 hX0).bind (fun h => h 35) = hY0 35 := rfl
theorem hY_dead {n : Nat} (h : 36 ≤ n) : hY0 n = none := by
  unfold hY0 lay
  have : kX 0 0 0 n0 k0 n = (0, 0) := by
    unfold kX
    by_cases c1 : n < 64
    · rw [if_pos c1]
      unfold kfix
      split <;> first | rfl | omega
    rw [if_neg c1]
    by_cases c2 : n < 192
    · rw [if_pos c2]
      unfold kpro
      rw [if_neg (by omega)]
    rw [if_neg c2]
    by_cases c3 : n < 200
    · rw [if_pos c3]
    rw [if_neg c3]
    by_cases c4 : n < 1000
    · rw [if_pos c4, if_neg (by omega)]
    rw [if_neg c4, if_neg (by omega)]
  rw [this]
  rfl
theorem initX : ∃ hE, f_X0_init 8 hX0 = some hE ∧ ∀ n o, hY0 n = some o → hE n = some o := by
  obtain ⟨hE, h⟩ := Option.isSome_iff_exists.mp ix_ok
  refine ⟨hE, h, fun n o ho => ?_⟩
  have key : ∀ k, (f_X0_init 8 hX0).bind (fun h => h k) = hY0 k → hE k = hY0 k := fun k hk => by
    rw [h] at hk
    exact hk
  by_cases c : 36 ≤ n
  · rw [hY_dead c] at ho
    cases ho
  · have : n = 0 ∨ n = 1 ∨ n = 2 ∨ n = 3 ∨ n = 4 ∨ n = 5 ∨ n = 6 ∨ n = 7 ∨ n = 8 ∨ n = 9 ∨ n = 10 ∨ n = 11 ∨ n = 12 ∨ n = 13 ∨ n = 14 ∨ n = 15 ∨ n = 16 ∨ n = 17 ∨ n = 18 ∨ n = 19 ∨ n = 20 ∨ n = 21 ∨ n = 22 ∨ n = 23 ∨ n = 24 ∨ n = 25 ∨ n = 26 ∨ n = 27 ∨ n = 28 ∨ n = 29 ∨ n = 30 ∨ n = 31 ∨ n = 32 ∨ n = 33 ∨ n = 34 ∨ n = 35 := by omega
    rw [← ho]
    rcases this with rfl | rfl | rfl | rfl | rfl | rfl | rfl | rfl | rfl | rfl | rfl | rfl | rfl | rfl | rfl | rfl | rfl | rfl | rfl | rfl | rfl | rfl | rfl | rfl | rfl | rfl | rfl | rfl | rfl | rfl | rfl | rfl | rfl | rfl | rfl | rfl
    · cases ho
    · exact key 1 ix_1
    · exact key 2 ix_2
    · cases ho
    · cases ho
    · cases ho
    · cases ho
    · cases ho
    · exact key 8 ix_8
    · exact key 9 ix_9
    · exact key 10 ix_10
    · exact key 11 ix_11
    · exact key 12 ix_12
    · exact key 13 ix_13
    · exact key 14 ix_14
    · exact key 15 ix_15
    · exact key 16 ix_16
    · exact key 17 ix_17
    · exact key 18 ix_18
    · exact key 19 ix_19
    · exact key 20 ix_20
    · exact key 21 ix_21
    · cases ho
    · cases ho
    · exact key 24 ix_24
    · exact key 25 ix_25
    · exact key 26 ix_26
    · exact key 27 ix_27
    · exact key 28 ix_28
    · exact key 29 ix_29
    · exact key 30 ix_30
    · cases ho
    · exact key 32 ix_32
    · exact key 33 ix_33
    · exact key 34 ix_34
    · exact key 35 ix_35
def F0m : Nat → Int32 := fun k => if k = 22 then -1 else if k = 23 then -1 else if k = 41 then 2 else if k = 44 then 100000 else 0
def A0 (n : Nat) : Nat → Int32 := match n with
  | 1 => upd (upd (upd (upd (upd (upd (fun _ => 0) 0 20) 1 500) 2 300) 3 400) 4 5) 5 5
  | 31 => upd (upd (upd (upd (fun _ => 0) 0 (-1)) 1 (-1)) 2 (-1)) 3 (-1)
  | _ => fun _ => 0
def hZ0 : jH := layM F0m A0 (fun _ => 0) (fun _ => 0) (fun _ _ => 0)
theorem im_ok : (f_X5_init 8 hM0).isSome = true := by decide +kernel
theorem im_8 : (f_X5_init 8 hM0).bind (fun h => h 8) = hZ0 8 := rfl
theorem im_9 : (f_X5_init 8 hM0).bind (fun h => h 9) = hZ0 9 := rfl
theorem im_10 : (f_X5_init 8 hM0).bind (fun h => h 10) = hZ0 10 := rfl
theorem im_11 : (f_X5_init 8 hM0).bind (fun h => h 11) = hZ0 11 := rfl
theorem im_12 : (f_X5_init 8 hM0).bind (fun h => h 12) = hZ0 12 := rfl
theorem im_13 : (f_X5_init 8 hM0).bind (fun h => h 13) = hZ0 13 := rfl
theorem im_14 : (f_X5_init 8 hM0).bind (fun h => h 14) = hZ0 14 := rfl
theorem im_15 : (f_X5_init 8 hM0).bind (fun h => h 15) = hZ0 15 := rfl
theorem im_16 : (f_X5_init 8 hM0).bind (fun h => h 16) = hZ0 16 := rfl
theorem im_17 : (f_X5_init 8 hM0).bind (fun h => h 17) = hZ0 17 := rfl
theorem im_18 : (f_X5_init 8 hM0).bind (fun h => h 18) = hZ0 18 := rfl
theorem im_19 : (f_X5_init 8 hM0).bind (fun h => h 19) = hZ0 19 := rfl
theorem im_20 : (f_X5_init 8 hM0).bind (fun h => h 20) = hZ0 20 := rfl
theorem im_21 : (f_X5_init 8 hM0).bind (fun h => h 21) = hZ0 21 := rfl
theorem im_22 : (f_X5_init 8 hM0).bind (fun h => h 22) = hZ0 22 := rfl
theorem im_23 : (f_X5_init 8 hM0).bind (fun h => h 23) = hZ0 23 := rfl
theorem im_24 : (f_X5_init 8 hM0).bind (fun h => h 24) = hZ0 24 := rfl
theorem im_25 : (f_X5_init 8 hM0).bind (fun h => h 25) = hZ0 25 := rfl
theorem im_26 : (f_X5_init 8 hM0).bind (fun h => h 26) = hZ0 26 := rfl
theorem im_27 : (f_X5_init 8 hM0).bind (fun h => h 27) = hZ0 27 := rfl
theorem im_28 : (f_X5_init 8 hM0).bind (fun h => h 28) = hZ0 28 := rfl
theorem im_29 : (f_X5_init 8 hM0).bind (fun h => h 29) = hZ0 29 := rfl
theorem im_30 : (f_X5_init 8 hM0).bind (fun h => h 30) = hZ0 30 := rfl
theorem im_31 : (f_X5_init 8 hM0).bind (fun h => h 31) = hZ0 31 := rfl
theorem im_32 : (f_X5_init 8 hM0).bind (fun h => h 32) = hZ0 32 := rfl
theorem im_33 : (f_X5_init 8 hM0).bind (fun h => h 33) = hZ0 33 := rfl
theorem im_34 : (f_X5_init 8 hM0).bind (fun h => h 34) = hZ0 34 := rfl
theorem im_35 : (f_X5_init 8 hM0).bind (fun h => h 35) = hZ0 35 := rfl
theorem im_36 : (f_X5_init 8 hM0).bind (fun h => h 36) = hZ0 36 := rfl
theorem im_37 : (f_X5_init 8 hM0).bind (fun h => h 37) = hZ0 37 := rfl
theorem im_38 : (f_X5_init 8 hM0).bind (fun h => h 38) = hZ0 38 := rfl
theorem im_39 : (f_X5_init 8 hM0).bind (fun h => h 39) = hZ0 39 := rfl
theorem im_40 : (f_X5_init 8 hM0).bind (fun h => h 40) = hZ0 40 := rfl
theorem im_41 : (f_X5_init 8 hM0).bind (fun h => h 41) = hZ0 41 := rfl
theorem im_42 : (f_X5_init 8 hM0).bind (fun h => h 42) = hZ0 42 := rfl
theorem initM : ∃ hE, f_X5_init 8 hM0 = some hE ∧ ∀ n o, hZ0 n = some o → hE n = some o := by
  obtain ⟨hE, h⟩ := Option.isSome_iff_exists.mp im_ok
  refine ⟨hE, h, fun n o ho => ?_⟩
  have key : ∀ k, (f_X5_init 8 hM0).bind (fun h => h k) = hZ0 k → hE k = hZ0 k := fun k hk => by
    rw [h] at hk
    exact hk
  by_cases c : 8 ≤ n ∧ n ≤ 42
  · have : n = 8 ∨ n = 9 ∨ n = 10 ∨ n = 11 ∨ n = 12 ∨ n = 13 ∨ n = 14 ∨ n = 15 ∨ n = 16 ∨ n = 17 ∨ n = 18 ∨ n = 19 ∨ n = 20 ∨ n = 21 ∨ n = 22 ∨ n = 23 ∨ n = 24 ∨ n = 25 ∨ n = 26 ∨ n = 27 ∨ n = 28 ∨ n = 29 ∨ n = 30 ∨ n = 31 ∨ n = 32 ∨ n = 33 ∨ n = 34 ∨ n = 35 ∨ n = 36 ∨ n = 37 ∨ n = 38 ∨ n = 39 ∨ n = 40 ∨ n = 41 ∨ n = 42 := by omega
    rw [← ho]
    rcases this with rfl | rfl | rfl | rfl | rfl | rfl | rfl | rfl | rfl | rfl | rfl | rfl | rfl | rfl | rfl | rfl | rfl | rfl | rfl | rfl | rfl | rfl | rfl | rfl | rfl | rfl | rfl | rfl | rfl | rfl | rfl | rfl | rfl | rfl | rfl
    · exact key 8 im_8
    · exact key 9 im_9
    · exact key 10 im_10
    · exact key 11 im_11
    · exact key 12 im_12
    · exact key 13 im_13
    · exact key 14 im_14
    · exact key 15 im_15
    · exact key 16 im_16
    · exact key 17 im_17
    · exact key 18 im_18
    · exact key 19 im_19
    · exact key 20 im_20
    · exact key 21 im_21
    · exact key 22 im_22
    · exact key 23 im_23
    · exact key 24 im_24
    · exact key 25 im_25
    · exact key 26 im_26
    · exact key 27 im_27
    · exact key 28 im_28
    · exact key 29 im_29
    · exact key 30 im_30
    · exact key 31 im_31
    · exact key 32 im_32
    · exact key 33 im_33
    · exact key 34 im_34
    · exact key 35 im_35
    · exact key 36 im_36
    · exact key 37 im_37
    · exact key 38 im_38
    · exact key 39 im_39
    · exact key 40 im_40
    · exact key 41 im_41
    · exact key 42 im_42
  · exfalso
    have : hZ0 n = none := by
      unfold hZ0 layM
      rw [if_neg (by omega), if_neg (by omega), if_neg (by omega)]
    rw [this] at ho
    cases ho
theorem Rst_0 : Rst 0 hY0 hZ0 := by
  refine ⟨0, 0, 0, 0, 0, n0, n0, n0, n0, none, w0, k0, T0, A0, F0m, fun _ => 0, fun _ => 0, fun _ _ => 0, rfl, rfl, ?_⟩
  refine ⟨⟨by decide, rfl, rfl, fun p hp => absurd hp (Nat.not_lt_zero _)⟩, ⟨by decide, rfl, rfl, ⟨rfl, by decide, by decide⟩, fun p hp => absurd hp (Nat.not_lt_zero _)⟩, ⟨by decide, rfl, rfl, ⟨rfl, by decide, by decide⟩, fun p hp => absurd hp (Nat.not_lt_zero _)⟩, ⟨rfl, rfl, rfl, rfl, rfl, rfl, rfl, rfl, rfl⟩, ⟨rfl, fun k hk => ?_⟩, .inl ⟨rfl, rfl⟩, ⟨by decide, rfl, rfl, fun p hp => absurd hp (Nat.not_lt_zero _)⟩, ⟨by decide, rfl, rfl, ⟨rfl, by decide, by decide⟩, fun p hp => absurd hp (Nat.not_lt_zero _)⟩, ⟨rfl, by decide, by decide, rfl⟩, ⟨fun s hs => .inl ⟨rfl, ?_⟩, fun s t r hs ht h _ => (by cases h), fun _ _ _ _ => rfl⟩⟩
  · have : k = 0 ∨ k = 1 ∨ k = 2 ∨ k = 3 ∨ k = 4 ∨ k = 5 := by omega
    rcases this with rfl | rfl | rfl | rfl | rfl | rfl <;> exact ⟨rfl, by decide, by decide⟩
  · have : s = 0 ∨ s = 1 ∨ s = 2 ∨ s = 3 := by omega
    rcases this with rfl | rfl | rfl | rfl <;> rfl
