/-! rowOf, lay, sheet, put, get, digest: walks (printed by gen/exc2.py) -/
set_option maxRecDepth 100000
def rm_T : Room := { frames := 8, cells := 3, slots := 222, locals := 10300 }
theorem jqc_inv {hp : jH} {a : Nat} {w i : Int32} {q : Nat} (h : jqc hp a w i = some q) : ∃ (ty : FieldType) (len : Nat) (f : Nat → Int32), hp a = some (.inl (ty, len, .inl f)) ∧ jt3 ty ∧ 8 ≤ a ∧ len < 2 ^ 31 ∧ ((q = 2 ∧ ty ≠ jty w) ∨ (q = 0 ∧ ty = jty w ∧ 0 ≤ i.toInt ∧ i.toInt < len) ∨ (q = 3 ∧ ty = jty w ∧ ¬ (0 ≤ i.toInt ∧ i.toInt < len))) := by
  unfold jqc at h
  split at h
  · rename_i ty len f e
    split at h
    · cases h
    · rename_i h1
      have h1 := Classical.not_not.mp h1
      refine ⟨ty, len, f, e, h1.2.1, h1.2.2, h1.1, ?_⟩
      split at h
      · rename_i h2
        cases h
        exact .inl ⟨rfl, h2⟩
      · rename_i h2
        have h2 := Classical.not_not.mp h2
        split at h
        · rename_i h3
          cases h
          exact .inr (.inl ⟨rfl, h2, h3⟩)
        · rename_i h3
          cases h
          exact .inr (.inr ⟨rfl, h2, h3⟩)
  · cases h
theorem jqc_3 {hp : jH} {a : Nat} {w i : Int32} {q : Nat} (h : jqc hp a w i = some q) (h0 : q ≠ 0) (h2 : q ≠ 2) : q = 3 := by
  obtain ⟨_, _, _, _, _, _, _, h⟩ := jqc_inv h
  rcases h with h | h | h
  · exact absurd h.1 h2
  · exact absurd h.1 h0
  · exact h.1
theorem jty_0 {w : Int32} (h : w = 0) : jty w = .byte := by unfold jty; rw [if_pos h]
theorem jty_1 {w : Int32} (h : ¬ w = 0) (h1 : w = 1) : jty w = .short := by unfold jty; rw [if_neg h, if_pos h1]
theorem jty_2 {w : Int32} (h : ¬ w = 0) (h1 : ¬ w = 1) : jty w = .int := by unfold jty; rw [if_neg h, if_neg h1]
theorem jisA_ok {hp : jH} {a : Nat} {ty : FieldType} {x : vp_A} (h8 : 8 ≤ a) (h : hp a = some (.inl (ty, x))) : ∃ u, jisA hp a ty = some u := ⟨(), by unfold jisA; rw [h]; exact if_pos ⟨rfl, h8⟩⟩
set_option maxHeartbeats 4000000 in
set_option maxRecDepth 100000 in
theorem t_X0_item_null {D : va_G} {l : Launch} {hp : jH} {p2 p3 : Int32} (hl : jNT l) : jMT D l yX0_item (ws_ yX0_item cX0_item 3 (some .int)) rm_T hp [.null, .int p2, .int p3] "java/lang/NullPointerException" hp := by
  refine jMT.of (lv0 := [some (.null), some (.int p2), some (.int p3)]) hl (by decide) (Nat.le_of_ble_eq_true rfl) rfl (fun X hDl hRm hE hX0 => ?_)
  refine J.iload_n (i := 1) dX0_item_0 rfl rfl ?_
  by_cases hc1 : p2 = (0 : Int32)
  · refine J.lookup (tgt := 28) (off := 27) dX0_item_1 (by decide) (by rw [hc1]; rfl) (by decide) ?_
    refine J.aload_nN (i := 0) dX0_item_28 rfl rfl ?_
    refine J.castN dX0_item_29 ?_
    refine J.iload_n (i := 2) dX0_item_32 rfl rfl ?_
    exact J.baldN hRm hE (Nat.le_of_ble_eq_true rfl) (Nat.le_of_ble_eq_true rfl) (Nat.le_of_ble_eq_true rfl) (Nat.le_of_ble_eq_true rfl) (Nat.le_of_ble_eq_true rfl) (Nat.le_of_ble_eq_true rfl) dX0_item_33
  by_cases hc6 : p2 = (1 : Int32)
  · refine J.lookup (tgt := 35) (off := 34) dX0_item_1 (by decide) (by rw [hc6]; rfl) (by decide) ?_
    refine J.aload_nN (i := 0) dX0_item_35 rfl rfl ?_
    refine J.castN dX0_item_36 ?_
    refine J.iload_n (i := 2) dX0_item_39 rfl rfl ?_
    exact J.saldN hRm hE (Nat.le_of_ble_eq_true rfl) (Nat.le_of_ble_eq_true rfl) (Nat.le_of_ble_eq_true rfl) (Nat.le_of_ble_eq_true rfl) (Nat.le_of_ble_eq_true rfl) (Nat.le_of_ble_eq_true rfl) dX0_item_40
  refine J.lookup (tgt := 42) (off := 41) dX0_item_1 (by decide) ((lv_osw hc1 (show (0 : Int32).toInt = 0 from rfl)).trans ((lv_osw hc6 (show (1 : Int32).toInt = 1 from rfl)).trans rfl)) (by decide) ?_
  refine J.aload_nN (i := 0) dX0_item_42 rfl rfl ?_
  refine J.castN dX0_item_43 ?_
  refine J.iload_n (i := 2) dX0_item_46 rfl rfl ?_
  exact J.ialdN hRm hE (Nat.le_of_ble_eq_true rfl) (Nat.le_of_ble_eq_true rfl) (Nat.le_of_ble_eq_true rfl) (Nat.le_of_ble_eq_true rfl) (Nat.le_of_ble_eq_true rfl) (Nat.le_of_ble_eq_true rfl) dX0_item_47
set_option maxHeartbeats 4000000 in
set_option maxRecDepth 100000 in
theorem t_X0_item_cast {D : va_G} {l : Launch} {hp : jH} {a : Nat} {p2 p3 : Int32} (hl : jNT l) (hq : jqc hp a p2 p3 = some 2) : jMT D l yX0_item (ws_ yX0_item cX0_item 3 (some .int)) rm_T hp [.ref a, .int p2, .int p3] "java/lang/ClassCastException" hp := by
  obtain ⟨ty, len, f, ha, h3, h8, hl2, hr⟩ := jqc_inv hq
  have hne : ty ≠ jty p2 := by
    rcases hr with h | h | h
    · exact h.2
    · exact absurd h.1 (by decide)
    · exact absurd h.1 (by decide)
  refine jMT.of (lv0 := [some (.ref a), some (.int p2), some (.int p3)]) hl (by decide) (Nat.le_of_ble_eq_true rfl) rfl (fun X hDl hRm hE hX0 => ?_)
  refine J.iload_n (i := 1) dX0_item_0 rfl rfl ?_
  by_cases hc1 : p2 = (0 : Int32)
  · refine J.lookup (tgt := 28) (off := 27) dX0_item_1 (by decide) (by rw [hc1]; rfl) (by decide) ?_
    refine J.aload_n (i := 0) dX0_item_28 rfl rfl ?_
    exact J.castX (t2 := .byte) hRm hE ha h8 h3 (.inl rfl) (by rw [← jty_0 hc1]; exact hne) q748 (Nat.le_of_ble_eq_true rfl) (Nat.le_of_ble_eq_true rfl) (Nat.le_of_ble_eq_true rfl) (Nat.le_of_ble_eq_true rfl) (Nat.le_of_ble_eq_true rfl) (Nat.le_of_ble_eq_true rfl) dX0_item_29
  by_cases hc6 : p2 = (1 : Int32)
  · refine J.lookup (tgt := 35) (off := 34) dX0_item_1 (by decide) (by rw [hc6]; rfl) (by decide) ?_
    refine J.aload_n (i := 0) dX0_item_35 rfl rfl ?_
    exact J.castX (t2 := .short) hRm hE ha h8 h3 (.inr (.inl rfl)) (by rw [← jty_1 hc1 hc6]; exact hne) q749 (Nat.le_of_ble_eq_true rfl) (Nat.le_of_ble_eq_true rfl) (Nat.le_of_ble_eq_true rfl) (Nat.le_of_ble_eq_true rfl) (Nat.le_of_ble_eq_true rfl) (Nat.le_of_ble_eq_true rfl) dX0_item_36
  refine J.lookup (tgt := 42) (off := 41) dX0_item_1 (by decide) ((lv_osw hc1 (show (0 : Int32).toInt = 0 from rfl)).trans ((lv_osw hc6 (show (1 : Int32).toInt = 1 from rfl)).trans rfl)) (by decide) ?_
  refine J.aload_n (i := 0) dX0_item_42 rfl rfl ?_
  exact J.castX (t2 := .int) hRm hE ha h8 h3 (.inr (.inr rfl)) (by rw [← jty_2 hc1 hc6]; exact hne) q750 (Nat.le_of_ble_eq_true rfl) (Nat.le_of_ble_eq_true rfl) (Nat.le_of_ble_eq_true rfl) (Nat.le_of_ble_eq_true rfl) (Nat.le_of_ble_eq_true rfl) (Nat.le_of_ble_eq_true rfl) dX0_item_43
set_option maxHeartbeats 4000000 in
set_option maxRecDepth 100000 in
theorem t_X0_item_idx {D : va_G} {l : Launch} {hp : jH} {a : Nat} {p2 p3 : Int32} (hl : jNT l) (hq : jqc hp a p2 p3 = some 3) : jMT D l yX0_item (ws_ yX0_item cX0_item 3 (some .int)) rm_T hp [.ref a, .int p2, .int p3] Bundle.idxN hp := by
  obtain ⟨ty, len, f, ha, h3, h8, hl2, hr⟩ := jqc_inv hq
  have hrr : ty = jty p2 ∧ ¬ (0 ≤ p3.toInt ∧ p3.toInt < len) := by
    rcases hr with h | h | h
    · exact absurd h.1 (by decide)
    · exact absurd h.1 (by decide)
    · exact h.2
  obtain ⟨hty, hout⟩ := hrr
  refine jMT.of (lv0 := [some (.ref a), some (.int p2), some (.int p3)]) hl (by decide) (Nat.le_of_ble_eq_true rfl) rfl (fun X hDl hRm hE hX0 => ?_)
  refine J.iload_n (i := 1) dX0_item_0 rfl rfl ?_
  by_cases hc1 : p2 = (0 : Int32)
  · refine J.lookup (tgt := 28) (off := 27) dX0_item_1 (by decide) (by rw [hc1]; rfl) (by decide) ?_
    refine J.aload_n (i := 0) dX0_item_28 rfl rfl ?_
    rw [hty, jty_0 hc1] at ha
    refine J.castA (ty := .byte) rfl (fun C h => by cases h) q748 (jisA_ok h8 ha) dX0_item_29 ?_
    refine J.iload_n (i := 2) dX0_item_32 rfl rfl ?_
    exact J.baldO hRm hE ha hl2 hout (Nat.le_of_ble_eq_true rfl) (Nat.le_of_ble_eq_true rfl) (Nat.le_of_ble_eq_true rfl) (Nat.le_of_ble_eq_true rfl) (Nat.le_of_ble_eq_true rfl) (Nat.le_of_ble_eq_true rfl) dX0_item_33
  by_cases hc6 : p2 = (1 : Int32)
  · refine J.lookup (tgt := 35) (off := 34) dX0_item_1 (by decide) (by rw [hc6]; rfl) (by decide) ?_
    refine J.aload_n (i := 0) dX0_item_35 rfl rfl ?_
    rw [hty, jty_1 hc1 hc6] at ha
    refine J.castA (ty := .short) rfl (fun C h => by cases h) q749 (jisA_ok h8 ha) dX0_item_36 ?_
    refine J.iload_n (i := 2) dX0_item_39 rfl rfl ?_
    exact J.saldO hRm hE ha hl2 hout (Nat.le_of_ble_eq_true rfl) (Nat.le_of_ble_eq_true rfl) (Nat.le_of_ble_eq_true rfl) (Nat.le_of_ble_eq_true rfl) (Nat.le_of_ble_eq_true rfl) (Nat.le_of_ble_eq_true rfl) dX0_item_40
  refine J.lookup (tgt := 42) (off := 41) dX0_item_1 (by decide) ((lv_osw hc1 (show (0 : Int32).toInt = 0 from rfl)).trans ((lv_osw hc6 (show (1 : Int32).toInt = 1 from rfl)).trans rfl)) (by decide) ?_
  refine J.aload_n (i := 0) dX0_item_42 rfl rfl ?_
  rw [hty, jty_2 hc1 hc6] at ha
  refine J.castA (ty := .int) rfl (fun C h => by cases h) q750 (jisA_ok h8 ha) dX0_item_43 ?_
  refine J.iload_n (i := 2) dX0_item_46 rfl rfl ?_
  exact J.ialdO hRm hE ha hl2 hout (Nat.le_of_ble_eq_true rfl) (Nat.le_of_ble_eq_true rfl) (Nat.le_of_ble_eq_true rfl) (Nat.le_of_ble_eq_true rfl) (Nat.le_of_ble_eq_true rfl) (Nat.le_of_ble_eq_true rfl) dX0_item_47
set_option maxHeartbeats 4000000 in
set_option maxRecDepth 100000 in
theorem t_X0_lay_null {D : va_G} {l : Launch} {hp : jH} {p2 p3 : Int32} {p4 : Int32} (hl : jNT l) : jMT D l yX0_lay (ws_ yX0_lay cX0_lay 4 none) rm_T hp [.null, .int p2, .int p3, .int p4] "java/lang/NullPointerException" hp := by
  refine jMT.of (lv0 := [some (.null), some (.int p2), some (.int p3), some (.int p4)]) hl (by decide) (Nat.le_of_ble_eq_true rfl) rfl (fun X hDl hRm hE hX0 => ?_)
  refine J.iload_n (i := 1) dX0_lay_0 rfl rfl ?_
  by_cases hc1 : p2 = (0 : Int32)
  · refine J.lookup (tgt := 28) (off := 27) dX0_lay_1 (by decide) (by rw [hc1]; rfl) (by decide) ?_
    refine J.aload_nN (i := 0) dX0_lay_28 rfl rfl ?_
    refine J.castN dX0_lay_29 ?_
    refine J.iload_n (i := 2) dX0_lay_32 rfl rfl ?_
    refine J.iload_n (i := 3) dX0_lay_33 rfl rfl ?_
    refine J.i2b dX0_lay_34 ?_
    exact J.bastN hRm hE (Nat.le_of_ble_eq_true rfl) (Nat.le_of_ble_eq_true rfl) (Nat.le_of_ble_eq_true rfl) (Nat.le_of_ble_eq_true rfl) (Nat.le_of_ble_eq_true rfl) (Nat.le_of_ble_eq_true rfl) dX0_lay_35
  by_cases hc6 : p2 = (1 : Int32)
  · refine J.lookup (tgt := 39) (off := 38) dX0_lay_1 (by decide) (by rw [hc6]; rfl) (by decide) ?_
    refine J.aload_nN (i := 0) dX0_lay_39 rfl rfl ?_
    refine J.castN dX0_lay_40 ?_
    refine J.iload_n (i := 2) dX0_lay_43 rfl rfl ?_
    refine J.iload_n (i := 3) dX0_lay_44 rfl rfl ?_
    refine J.i2s dX0_lay_45 ?_
    exact J.sastN hRm hE (Nat.le_of_ble_eq_true rfl) (Nat.le_of_ble_eq_true rfl) (Nat.le_of_ble_eq_true rfl) (Nat.le_of_ble_eq_true rfl) (Nat.le_of_ble_eq_true rfl) (Nat.le_of_ble_eq_true rfl) dX0_lay_46
  refine J.lookup (tgt := 50) (off := 49) dX0_lay_1 (by decide) ((lv_osw hc1 (show (0 : Int32).toInt = 0 from rfl)).trans ((lv_osw hc6 (show (1 : Int32).toInt = 1 from rfl)).trans rfl)) (by decide) ?_
  refine J.aload_nN (i := 0) dX0_lay_50 rfl rfl ?_
  refine J.castN dX0_lay_51 ?_
  refine J.iload_n (i := 2) dX0_lay_54 rfl rfl ?_
  refine J.iload_n (i := 3) dX0_lay_55 rfl rfl ?_
  exact J.iastN hRm hE (Nat.le_of_ble_eq_true rfl) (Nat.le_of_ble_eq_true rfl) (Nat.le_of_ble_eq_true rfl) (Nat.le_of_ble_eq_true rfl) (Nat.le_of_ble_eq_true rfl) (Nat.le_of_ble_eq_true rfl) dX0_lay_56
set_option maxHeartbeats 4000000 in
set_option maxRecDepth 100000 in
theorem t_X0_lay_cast {D : va_G} {l : Launch} {hp : jH} {a : Nat} {p2 p3 : Int32} {p4 : Int32} (hl : jNT l) (hq : jqc hp a p2 p3 = some 2) : jMT D l yX0_lay (ws_ yX0_lay cX0_lay 4 none) rm_T hp [.ref a, .int p2, .int p3, .int p4] "java/lang/ClassCastException" hp := by
  obtain ⟨ty, len, f, ha, h3, h8, hl2, hr⟩ := jqc_inv hq
  have hne : ty ≠ jty p2 := by
    rcases hr with h | h | h
    · exact h.2
    · exact absurd h.1 (by decide)
    · exact absurd h.1 (by decide)
  refine jMT.of (lv0 := [some (.ref a), some (.int p2), some (.int p3), some (.int p4)]) hl (by decide) (Nat.le_of_ble_eq_true rfl) rfl (fun X hDl hRm hE hX0 => ?_)
  refine J.iload_n (i := 1) dX0_lay_0 rfl rfl ?_
  by_cases hc1 : p2 = (0 : Int32)
  · refine J.lookup (tgt := 28) (off := 27) dX0_lay_1 (by decide) (by rw [hc1]; rfl) (by decide) ?_
    refine J.aload_n (i := 0) dX0_lay_28 rfl rfl ?_
    exact J.castX (t2 := .byte) hRm hE ha h8 h3 (.inl rfl) (by rw [← jty_0 hc1]; exact hne) q748 (Nat.le_of_ble_eq_true rfl) (Nat.le_of_ble_eq_true rfl) (Nat.le_of_ble_eq_true rfl) (Nat.le_of_ble_eq_true rfl) (Nat.le_of_ble_eq_true rfl) (Nat.le_of_ble_eq_true rfl) dX0_lay_29
  by_cases hc6 : p2 = (1 : Int32)
  · refine J.lookup (tgt := 39) (off := 38) dX0_lay_1 (by decide) (by rw [hc6]; rfl) (by decide) ?_
    refine J.aload_n (i := 0) dX0_lay_39 rfl rfl ?_
    exact J.castX (t2 := .short) hRm hE ha h8 h3 (.inr (.inl rfl)) (by rw [← jty_1 hc1 hc6]; exact hne) q749 (Nat.le_of_ble_eq_true rfl) (Nat.le_of_ble_eq_true rfl) (Nat.le_of_ble_eq_true rfl) (Nat.le_of_ble_eq_true rfl) (Nat.le_of_ble_eq_true rfl) (Nat.le_of_ble_eq_true rfl) dX0_lay_40
  refine J.lookup (tgt := 50) (off := 49) dX0_lay_1 (by decide) ((lv_osw hc1 (show (0 : Int32).toInt = 0 from rfl)).trans ((lv_osw hc6 (show (1 : Int32).toInt = 1 from rfl)).trans rfl)) (by decide) ?_
  refine J.aload_n (i := 0) dX0_lay_50 rfl rfl ?_
  exact J.castX (t2 := .int) hRm hE ha h8 h3 (.inr (.inr rfl)) (by rw [← jty_2 hc1 hc6]; exact hne) q750 (Nat.le_of_ble_eq_true rfl) (Nat.le_of_ble_eq_true rfl) (Nat.le_of_ble_eq_true rfl) (Nat.le_of_ble_eq_true rfl) (Nat.le_of_ble_eq_true rfl) (Nat.le_of_ble_eq_true rfl) dX0_lay_51
set_option maxHeartbeats 4000000 in
set_option maxRecDepth 100000 in
theorem t_X0_lay_idx {D : va_G} {l : Launch} {hp : jH} {a : Nat} {p2 p3 : Int32} {p4 : Int32} (hl : jNT l) (hq : jqc hp a p2 p3 = some 3) : jMT D l yX0_lay (ws_ yX0_lay cX0_lay 4 none) rm_T hp [.ref a, .int p2, .int p3, .int p4] Bundle.idxN hp := by
  obtain ⟨ty, len, f, ha, h3, h8, hl2, hr⟩ := jqc_inv hq
  have hrr : ty = jty p2 ∧ ¬ (0 ≤ p3.toInt ∧ p3.toInt < len) := by
    rcases hr with h | h | h
    · exact absurd h.1 (by decide)
    · exact absurd h.1 (by decide)
    · exact h.2
  obtain ⟨hty, hout⟩ := hrr
  refine jMT.of (lv0 := [some (.ref a), some (.int p2), some (.int p3), some (.int p4)]) hl (by decide) (Nat.le_of_ble_eq_true rfl) rfl (fun X hDl hRm hE hX0 => ?_)
  refine J.iload_n (i := 1) dX0_lay_0 rfl rfl ?_
  by_cases hc1 : p2 = (0 : Int32)
  · refine J.lookup (tgt := 28) (off := 27) dX0_lay_1 (by decide) (by rw [hc1]; rfl) (by decide) ?_
    refine J.aload_n (i := 0) dX0_lay_28 rfl rfl ?_
    rw [hty, jty_0 hc1] at ha
    refine J.castA (ty := .byte) rfl (fun C h => by cases h) q748 (jisA_ok h8 ha) dX0_lay_29 ?_
    refine J.iload_n (i := 2) dX0_lay_32 rfl rfl ?_
    refine J.iload_n (i := 3) dX0_lay_33 rfl rfl ?_
    refine J.i2b dX0_lay_34 ?_
    exact J.bastO hRm hE ha hl2 hout (Nat.le_of_ble_eq_true rfl) (Nat.le_of_ble_eq_true rfl) (Nat.le_of_ble_eq_true rfl) (Nat.le_of_ble_eq_true rfl) (Nat.le_of_ble_eq_true rfl) (Nat.le_of_ble_eq_true rfl) dX0_lay_35
  by_cases hc6 : p2 = (1 : Int32)
  · refine J.lookup (tgt := 39) (off := 38) dX0_lay_1 (by decide) (by rw [hc6]; rfl) (by decide) ?_
    refine J.aload_n (i := 0) dX0_lay_39 rfl rfl ?_
    rw [hty, jty_1 hc1 hc6] at ha
    refine J.castA (ty := .short) rfl (fun C h => by cases h) q749 (jisA_ok h8 ha) dX0_lay_40 ?_
    refine J.iload_n (i := 2) dX0_lay_43 rfl rfl ?_
    refine J.iload_n (i := 3) dX0_lay_44 rfl rfl ?_
    refine J.i2s dX0_lay_45 ?_
    exact J.sastO hRm hE ha hl2 hout (Nat.le_of_ble_eq_true rfl) (Nat.le_of_ble_eq_true rfl) (Nat.le_of_ble_eq_true rfl) (Nat.le_of_ble_eq_true rfl) (Nat.le_of_ble_eq_true rfl) (Nat.le_of_ble_eq_true rfl) dX0_lay_46
  refine J.lookup (tgt := 50) (off := 49) dX0_lay_1 (by decide) ((lv_osw hc1 (show (0 : Int32).toInt = 0 from rfl)).trans ((lv_osw hc6 (show (1 : Int32).toInt = 1 from rfl)).trans rfl)) (by decide) ?_
  refine J.aload_n (i := 0) dX0_lay_50 rfl rfl ?_
  rw [hty, jty_2 hc1 hc6] at ha
  refine J.castA (ty := .int) rfl (fun C h => by cases h) q750 (jisA_ok h8 ha) dX0_lay_51 ?_
  refine J.iload_n (i := 2) dX0_lay_54 rfl rfl ?_
  refine J.iload_n (i := 3) dX0_lay_55 rfl rfl ?_
  exact J.iastO hRm hE ha hl2 hout (Nat.le_of_ble_eq_true rfl) (Nat.le_of_ble_eq_true rfl) (Nat.le_of_ble_eq_true rfl) (Nat.le_of_ble_eq_true rfl) (Nat.le_of_ble_eq_true rfl) (Nat.le_of_ble_eq_true rfl) dX0_lay_56
set_option maxHeartbeats 4000000 in
set_option maxRecDepth 100000 in
theorem t_X0_rowOf_neg {D : va_G} {l : Launch} {hp : jH} {p1 p2 : Int32} (hl : jNT l) (hn : p2 < 0) : jMT D l yX0_rowOf (ws_ yX0_rowOf cX0_rowOf 2 (some (.object "java/lang/Object"))) rm_T hp [.int p1, .int p2] "java/lang/NegativeArraySizeException" hp := by
  refine jMT.of (lv0 := [some (.int p1), some (.int p2)]) hl (by decide) (Nat.le_of_ble_eq_true rfl) rfl (fun X hDl hRm hE hX0 => ?_)
  refine J.iload_n (i := 0) dX0_rowOf_0 rfl rfl ?_
  by_cases hc1 : p1 = (0 : Int32)
  · refine J.lookup (tgt := 28) (off := 27) dX0_rowOf_1 (by decide) (by rw [hc1]; rfl) (by decide) ?_
    refine J.iload_n (i := 1) dX0_rowOf_28 rfl rfl ?_
    exact J.newN hRm hE hn (Nat.le_of_ble_eq_true rfl) (Nat.le_of_ble_eq_true rfl) (Nat.le_of_ble_eq_true rfl) (Nat.le_of_ble_eq_true rfl) (Nat.le_of_ble_eq_true rfl) (Nat.le_of_ble_eq_true rfl) dX0_rowOf_29
  by_cases hc6 : p1 = (1 : Int32)
  · refine J.lookup (tgt := 32) (off := 31) dX0_rowOf_1 (by decide) (by rw [hc6]; rfl) (by decide) ?_
    refine J.iload_n (i := 1) dX0_rowOf_32 rfl rfl ?_
    exact J.newN hRm hE hn (Nat.le_of_ble_eq_true rfl) (Nat.le_of_ble_eq_true rfl) (Nat.le_of_ble_eq_true rfl) (Nat.le_of_ble_eq_true rfl) (Nat.le_of_ble_eq_true rfl) (Nat.le_of_ble_eq_true rfl) dX0_rowOf_33
  refine J.lookup (tgt := 36) (off := 35) dX0_rowOf_1 (by decide) ((lv_osw hc1 (show (0 : Int32).toInt = 0 from rfl)).trans ((lv_osw hc6 (show (1 : Int32).toInt = 1 from rfl)).trans rfl)) (by decide) ?_
  refine J.iload_n (i := 1) dX0_rowOf_36 rfl rfl ?_
  exact J.newN hRm hE hn (Nat.le_of_ble_eq_true rfl) (Nat.le_of_ble_eq_true rfl) (Nat.le_of_ble_eq_true rfl) (Nat.le_of_ble_eq_true rfl) (Nat.le_of_ble_eq_true rfl) (Nat.le_of_ble_eq_true rfl) dX0_rowOf_37
theorem ps_sheet_43 : jPs yX0_sheet.cls "java/lang/NegativeArraySizeException" 34 [((26 : Nat), (40 : Nat), (43 : Nat), (329 : Nat))] 43 := .inr ⟨⟨by decide, by decide⟩, by decide, "java/lang/NegativeArraySizeException", q756, .inl ⟨q768, rfl⟩⟩
theorem ps_put_37 : jPs yX0_put.cls "java/lang/NullPointerException" 32 [((19 : Nat), (36 : Nat), (37 : Nat), (343 : Nat)), ((19 : Nat), (36 : Nat), (45 : Nat), (345 : Nat)), ((19 : Nat), (36 : Nat), (53 : Nat), (252 : Nat))] 37 := .inr ⟨⟨by decide, by decide⟩, by decide, "java/lang/NullPointerException", q789, .inl ⟨q811, rfl⟩⟩
theorem ps_put_45 : jPs yX0_put.cls "java/lang/ClassCastException" 32 [((19 : Nat), (36 : Nat), (37 : Nat), (343 : Nat)), ((19 : Nat), (36 : Nat), (45 : Nat), (345 : Nat)), ((19 : Nat), (36 : Nat), (53 : Nat), (252 : Nat))] 45 := .inr ⟨⟨by decide, by decide⟩, by decide, "java/lang/NullPointerException", q789, .inr ⟨by decide, .inr ⟨⟨by decide, by decide⟩, by decide, "java/lang/ClassCastException", q814, .inl ⟨q826, rfl⟩⟩⟩⟩
theorem ps_put_53 : jPs yX0_put.cls Bundle.idxN 32 [((19 : Nat), (36 : Nat), (37 : Nat), (343 : Nat)), ((19 : Nat), (36 : Nat), (45 : Nat), (345 : Nat)), ((19 : Nat), (36 : Nat), (53 : Nat), (252 : Nat))] 53 := .inr ⟨⟨by decide, by decide⟩, by decide, "java/lang/NullPointerException", q789, .inr ⟨by decide, .inr ⟨⟨by decide, by decide⟩, by decide, "java/lang/ClassCastException", q814, .inr ⟨by decide, .inr ⟨⟨by decide, by decide⟩, by decide, "java/lang/ArrayIndexOutOfBoundsException", q569, .inl ⟨q634, rfl⟩⟩⟩⟩⟩⟩
theorem ps_get_38 : jPs yX0_get.cls "java/lang/NullPointerException" 34 [((23 : Nat), (37 : Nat), (38 : Nat), (343 : Nat)), ((23 : Nat), (37 : Nat), (46 : Nat), (345 : Nat)), ((23 : Nat), (37 : Nat), (54 : Nat), (252 : Nat))] 38 := .inr ⟨⟨by decide, by decide⟩, by decide, "java/lang/NullPointerException", q789, .inl ⟨q811, rfl⟩⟩
theorem ps_get_46 : jPs yX0_get.cls "java/lang/ClassCastException" 34 [((23 : Nat), (37 : Nat), (38 : Nat), (343 : Nat)), ((23 : Nat), (37 : Nat), (46 : Nat), (345 : Nat)), ((23 : Nat), (37 : Nat), (54 : Nat), (252 : Nat))] 46 := .inr ⟨⟨by decide, by decide⟩, by decide, "java/lang/NullPointerException", q789, .inr ⟨by decide, .inr ⟨⟨by decide, by decide⟩, by decide, "java/lang/ClassCastException", q814, .inl ⟨q826, rfl⟩⟩⟩⟩
theorem ps_get_54 : jPs yX0_get.cls Bundle.idxN 34 [((23 : Nat), (37 : Nat), (38 : Nat), (343 : Nat)), ((23 : Nat), (37 : Nat), (46 : Nat), (345 : Nat)), ((23 : Nat), (37 : Nat), (54 : Nat), (252 : Nat))] 54 := .inr ⟨⟨by decide, by decide⟩, by decide, "java/lang/NullPointerException", q789, .inr ⟨by decide, .inr ⟨⟨by decide, by decide⟩, by decide, "java/lang/ClassCastException", q814, .inr ⟨by decide, .inr ⟨⟨by decide, by decide⟩, by decide, "java/lang/ArrayIndexOutOfBoundsException", q569, .inl ⟨q634, rfl⟩⟩⟩⟩⟩⟩
def rm_X0_rowOf : Room := { frames := 0, cells := 1, slots := 200, locals := 0 }
theorem hs_X0_rowOf : yX0_rowOf.cls ≠ "java/lang/invoke/MethodHandle" ∧ yX0_rowOf.cls ≠ "java/lang/invoke/VarHandle" ∧ (parseMethodDescriptor yX0_rowOf.desc).map (fun d => d.parameters.length) = some 2 := by decide +kernel
set_option maxHeartbeats 4000000 in
set_option maxRecDepth 100000 in
theorem w_X0_rowOf {D : va_G} {l : Launch} {hp hpE : jH} {rE : Nat} {p1 : Int32} {p2 : Int32} (hf : f_X0_rowOf p1 p2 hp = some (rE, hpE)) : jM D l yX0_rowOf (ws_ yX0_rowOf cX0_rowOf 2 (some (.object "java/lang/Object"))) rm_X0_rowOf hp [.int p1, .int p2] (some (.ref rE)) hpE := by
  refine jM.of (lv0 := [some (.int p1), some (.int p2)]) (by decide) (Nat.le_of_ble_eq_true rfl) rfl (fun X hDl hRm hE hX0 => ?_)
  rw [f_X0_rowOf] at hf
  refine J.iload_n (i := 0) dX0_rowOf_0 rfl rfl ?_
  by_cases hc1 : p1 = (0 : Int32)
  · replace hf := (if_pos hc1).symm.trans hf
    refine J.lookup (tgt := 28) (off := 27) dX0_rowOf_1 (by decide) (by rw [hc1]; rfl) (by decide) ?_
    refine J.iload_n (i := 1) dX0_rowOf_28 rfl rfl ?_
    by_cases hz4 : ¬ (¬ p2 < 0 ∧ p2.toNatClampNeg ≤ 200)
    · replace hf := (if_pos hz4).symm.trans hf
      cases hf
    replace hf := (if_neg hz4).symm.trans hf
    replace hz4 := Decidable.not_not.mp hz4
    replace hf := jbd hf
    obtain ⟨hp2, h3, hf⟩ := hf
    refine J.newaI (B := 200) (k2 := 1) (n2 := 200) hRm q654 rfl rfl rfl hz4.1 rfl hz4.2 (Nat.le_of_ble_eq_true rfl) (Nat.le_of_ble_eq_true rfl) (Nat.le_of_ble_eq_true rfl) (Nat.le_of_ble_eq_true rfl) (Nat.le_of_ble_eq_true rfl) h3 dX0_rowOf_29 ?_
    obtain ⟨rfl, rfl⟩ := jso hf
    exact J.aret hE (by first | exact Or.inl ⟨_, rfl⟩ | exact Or.inr ⟨_, rfl⟩) (Nat.le_of_ble_eq_true rfl) (Nat.le_of_ble_eq_true rfl) dX0_rowOf_31
  replace hf := (if_neg hc1).symm.trans hf
  by_cases hc5 : p1 = (1 : Int32)
  · replace hf := (if_pos hc5).symm.trans hf
    refine J.lookup (tgt := 32) (off := 31) dX0_rowOf_1 (by decide) (by rw [hc5]; rfl) (by decide) ?_
    refine J.iload_n (i := 1) dX0_rowOf_32 rfl rfl ?_
    by_cases hz8 : ¬ (¬ p2 < 0 ∧ p2.toNatClampNeg ≤ 200)
    · replace hf := (if_pos hz8).symm.trans hf
      cases hf
    replace hf := (if_neg hz8).symm.trans hf
    replace hz8 := Decidable.not_not.mp hz8
    replace hf := jbd hf
    obtain ⟨hp6, h7, hf⟩ := hf
    refine J.newaI (B := 200) (k2 := 1) (n2 := 200) hRm q780 rfl rfl rfl hz8.1 rfl hz8.2 (Nat.le_of_ble_eq_true rfl) (Nat.le_of_ble_eq_true rfl) (Nat.le_of_ble_eq_true rfl) (Nat.le_of_ble_eq_true rfl) (Nat.le_of_ble_eq_true rfl) h7 dX0_rowOf_33 ?_
    obtain ⟨rfl, rfl⟩ := jso hf
    exact J.aret hE (by first | exact Or.inl ⟨_, rfl⟩ | exact Or.inr ⟨_, rfl⟩) (Nat.le_of_ble_eq_true rfl) (Nat.le_of_ble_eq_true rfl) dX0_rowOf_35
  replace hf := (if_neg hc5).symm.trans hf
  refine J.lookup (tgt := 36) (off := 35) dX0_rowOf_1 (by decide) ((lv_osw hc1 (show (0 : Int32).toInt = 0 from rfl)).trans ((lv_osw hc5 (show (1 : Int32).toInt = 1 from rfl)).trans rfl)) (by decide) ?_
  refine J.iload_n (i := 1) dX0_rowOf_36 rfl rfl ?_
  by_cases hz11 : ¬ (¬ p2 < 0 ∧ p2.toNatClampNeg ≤ 200)
  · replace hf := (if_pos hz11).symm.trans hf
    cases hf
  replace hf := (if_neg hz11).symm.trans hf
  replace hz11 := Decidable.not_not.mp hz11
  replace hf := jbd hf
  obtain ⟨hp9, h10, hf⟩ := hf
  refine J.newaI (B := 200) (k2 := 1) (n2 := 200) hRm q105 rfl rfl rfl hz11.1 rfl hz11.2 (Nat.le_of_ble_eq_true rfl) (Nat.le_of_ble_eq_true rfl) (Nat.le_of_ble_eq_true rfl) (Nat.le_of_ble_eq_true rfl) (Nat.le_of_ble_eq_true rfl) h10 dX0_rowOf_37 ?_
  obtain ⟨rfl, rfl⟩ := jso hf
  exact J.aret hE (by first | exact Or.inl ⟨_, rfl⟩ | exact Or.inr ⟨_, rfl⟩) (Nat.le_of_ble_eq_true rfl) (Nat.le_of_ble_eq_true rfl) dX0_rowOf_39
def rm_X0_lay : Room := { frames := 0, cells := 0, slots := 0, locals := 0 }
theorem hs_X0_lay : yX0_lay.cls ≠ "java/lang/invoke/MethodHandle" ∧ yX0_lay.cls ≠ "java/lang/invoke/VarHandle" ∧ (parseMethodDescriptor yX0_lay.desc).map (fun d => d.parameters.length) = some 4 := by decide +kernel
set_option maxHeartbeats 4000000 in
set_option maxRecDepth 100000 in
theorem w_X0_lay {D : va_G} {l : Launch} {hp hpE : jH} {p1 : Nat} {p2 : Int32} {p3 : Int32} {p4 : Int32} (hf : f_X0_lay p1 p2 p3 p4 hp = some hpE) : jM D l yX0_lay (ws_ yX0_lay cX0_lay 4 none) rm_X0_lay hp [.ref p1, .int p2, .int p3, .int p4] none hpE := by
  refine jM.of (lv0 := [some (.ref p1), some (.int p2), some (.int p3), some (.int p4)]) (by decide) (Nat.le_of_ble_eq_true rfl) rfl (fun X hDl hRm hE hX0 => ?_)
  rw [f_X0_lay] at hf
  refine J.iload_n (i := 1) dX0_lay_0 rfl rfl ?_
  by_cases hc1 : p2 = (0 : Int32)
  · replace hf := (if_pos hc1).symm.trans hf
    refine J.lookup (tgt := 28) (off := 27) dX0_lay_1 (by decide) (by rw [hc1]; rfl) (by decide) ?_
    refine J.aload_n (i := 0) dX0_lay_28 rfl rfl ?_
    replace hf := jbd hf
    obtain ⟨u3, h2, hf⟩ := hf
    refine J.castA (ty := .byte) rfl (fun C h => by cases h) q748 ⟨_, h2⟩ dX0_lay_29 ?_
    refine J.iload_n (i := 2) dX0_lay_32 rfl rfl ?_
    refine J.iload_n (i := 3) dX0_lay_33 rfl rfl ?_
    refine J.i2b dX0_lay_34 ?_
    replace hf := jbd hf
    obtain ⟨hp4, h5, hf⟩ := hf
    refine J.bast h5 dX0_lay_35 ?_
    refine J.goto (tgt := 57) dX0_lay_36 (by decide) ?_
    obtain rfl := Option.some.inj hf
    exact J.vret hE (Nat.le_of_ble_eq_true rfl) (Nat.le_of_ble_eq_true rfl) dX0_lay_57
  replace hf := (if_neg hc1).symm.trans hf
  by_cases hc6 : p2 = (1 : Int32)
  · replace hf := (if_pos hc6).symm.trans hf
    refine J.lookup (tgt := 39) (off := 38) dX0_lay_1 (by decide) (by rw [hc6]; rfl) (by decide) ?_
    refine J.aload_n (i := 0) dX0_lay_39 rfl rfl ?_
    replace hf := jbd hf
    obtain ⟨u8, h7, hf⟩ := hf
    refine J.castA (ty := .short) rfl (fun C h => by cases h) q749 ⟨_, h7⟩ dX0_lay_40 ?_
    refine J.iload_n (i := 2) dX0_lay_43 rfl rfl ?_
    refine J.iload_n (i := 3) dX0_lay_44 rfl rfl ?_
    refine J.i2s dX0_lay_45 ?_
    replace hf := jbd hf
    obtain ⟨hp9, h10, hf⟩ := hf
    refine J.sast h10 dX0_lay_46 ?_
    refine J.goto (tgt := 57) dX0_lay_47 (by decide) ?_
    obtain rfl := Option.some.inj hf
    exact J.vret hE (Nat.le_of_ble_eq_true rfl) (Nat.le_of_ble_eq_true rfl) dX0_lay_57
  replace hf := (if_neg hc6).symm.trans hf
  refine J.lookup (tgt := 50) (off := 49) dX0_lay_1 (by decide) ((lv_osw hc1 (show (0 : Int32).toInt = 0 from rfl)).trans ((lv_osw hc6 (show (1 : Int32).toInt = 1 from rfl)).trans rfl)) (by decide) ?_
  refine J.aload_n (i := 0) dX0_lay_50 rfl rfl ?_
  replace hf := jbd hf
  obtain ⟨u12, h11, hf⟩ := hf
  refine J.castA (ty := .int) rfl (fun C h => by cases h) q750 ⟨_, h11⟩ dX0_lay_51 ?_
  refine J.iload_n (i := 2) dX0_lay_54 rfl rfl ?_
  refine J.iload_n (i := 3) dX0_lay_55 rfl rfl ?_
  replace hf := jbd hf
  obtain ⟨hp13, h14, hf⟩ := hf
  refine J.iast h14 dX0_lay_56 ?_
  obtain rfl := Option.some.inj hf
  exact J.vret hE (Nat.le_of_ble_eq_true rfl) (Nat.le_of_ble_eq_true rfl) dX0_lay_57
def rm_X0_sheet : Room := { frames := 9, cells := 3, slots := 222, locals := 10400 }
theorem hd_X0_sheet : yX0_sheet.cls = RX0 ∧ yX0_sheet.cls ≠ "java/lang/invoke/MethodHandle" ∧ yX0_sheet.cls ≠ "java/lang/invoke/VarHandle" ∧ (parseMethodDescriptor yX0_sheet.desc).map (fun d => d.parameters.length) = some 3 := by decide +kernel
set_option maxHeartbeats 4000000 in
set_option maxRecDepth 100000 in
theorem w_X0_sheet {D : va_G} {l : Launch} {hp hpE : jH} {rE : Int32} {this : Nat} {p1 : Int32} {p2 : Int32} {p3 : Int32} (hl : jNT l) (hf : f_X0_sheet this p1 p2 p3 hp = some (rE, hpE)) : jM D l yX0_sheet (wsW_ yX0_sheet cX0_sheet 5 (some .int) [((26 : Nat), (40 : Nat), (43 : Nat), (329 : Nat))]) rm_X0_sheet hp [.ref this, .int p1, .int p2, .int p3] (some (.int rE)) hpE := by
  refine jM.ofH (lv0 := [some (.ref this), some (.int p1), some (.int p2), some (.int p3), none]) hl (by decide) (Nat.le_of_ble_eq_true rfl) rfl (fun X hDl hRm hE hX0 hTab => ?_)
  rw [f_X0_sheet] at hf
  refine J.iload_n (i := 1) dX0_sheet_0 rfl rfl ?_
  replace hf := jbs hf
  obtain ⟨v3, hp2, h1, hf⟩ := hf
  refine J.callS (As := [.int p1]) (k2 := 0) (n2 := 0) hDl hRm (w_X0_isSheet h1) (lw_S q770 q771 q39 q772) hs_X0_isSheet rfl (Nat.le_of_ble_eq_true rfl) (Nat.le_of_ble_eq_true rfl) (Nat.le_of_ble_eq_true rfl) (Nat.le_of_ble_eq_true rfl) (Nat.le_of_ble_eq_true rfl) (Nat.le_of_ble_eq_true rfl) (Nat.le_of_ble_eq_true rfl) rfl dX0_sheet_1 ?_
  refine J.if_eq (tgt := 23) dX0_sheet_4 (by decide) (fun hc4 => ?_) (fun hc4 => ?_)
  · replace hf := (if_pos hc4).symm.trans hf
    refine J.bipush (v := (-2)) dX0_sheet_23 (by decide) ?_
    obtain ⟨rfl, rfl⟩ := jso hf
    exact J.iret hE (Nat.le_of_ble_eq_true rfl) (Nat.le_of_ble_eq_true rfl) dX0_sheet_25
  · replace hf := (if_neg hc4).symm.trans hf
    refine J.iload_n (i := 2) dX0_sheet_7 rfl rfl ?_
    refine J.iconst (v := 0) dX0_sheet_8 (by decide) ?_
    refine J.iconst (v := 2) dX0_sheet_9 (by decide) ?_
    replace hf := jbs hf
    obtain ⟨v7, hp6, h5, hf⟩ := hf
    refine J.callS (As := [.int p2, .int 0, .int 2]) (k2 := 0) (n2 := 0) hDl hRm (w_X0_in h5) (lw_S q234 q235 q39 q236) hs_X0_in rfl (Nat.le_of_ble_eq_true rfl) (Nat.le_of_ble_eq_true rfl) (Nat.le_of_ble_eq_true rfl) (Nat.le_of_ble_eq_true rfl) (Nat.le_of_ble_eq_true rfl) (Nat.le_of_ble_eq_true rfl) (Nat.le_of_ble_eq_true rfl) rfl dX0_sheet_10 ?_
    refine J.if_eq (tgt := 23) dX0_sheet_13 (by decide) (fun hc8 => ?_) (fun hc8 => ?_)
    · replace hf := (if_pos hc8).symm.trans hf
      refine J.bipush (v := (-2)) dX0_sheet_23 (by decide) ?_
      obtain ⟨rfl, rfl⟩ := jso hf
      exact J.iret hE (Nat.le_of_ble_eq_true rfl) (Nat.le_of_ble_eq_true rfl) dX0_sheet_25
    · replace hf := (if_neg hc8).symm.trans hf
      refine J.iload_n (i := 3) dX0_sheet_16 rfl rfl ?_
      refine J.sipush (v := 200) dX0_sheet_17 (by decide) ?_
      refine J.icmp_le (tgt := 26) dX0_sheet_20 (by decide) (fun hc9 => ?_) (fun hc9 => ?_)
      · replace hf := (if_pos hc9).symm.trans hf
        refine J.aload_n (i := 0) dX0_sheet_26 rfl rfl ?_
        replace hf := jbd hf
        obtain ⟨a10, h11, hf⟩ := hf
        refine J.getA 0 26 in_X0 rfl (Nat.le_of_ble_eq_true rfl) (Or.inl q171) (Or.inl rfl) h11 dX0_sheet_27 ?_
        refine J.iload_n (i := 1) dX0_sheet_30 rfl rfl ?_
        replace hf := jbd hf
        obtain ⟨a12, h13, hf⟩ := hf
        refine J.aaldA h13 dX0_sheet_31 ?_
        refine J.iload_n (i := 2) dX0_sheet_32 rfl rfl ?_
        refine J.iload_n (i := 3) dX0_sheet_33 rfl rfl ?_
        by_cases hc14 : p3 < (0 : Int32)
        · replace hf := (if_pos hc14).symm.trans hf
          refine J.callSC (As := [.int p2, .int p3]) (k2 := 3) (n2 := 222) (lv' := [some (.ref this), some (.int p1), some (.int p2), some (.int p3), none]) hDl hRm hTab (t_X0_rowOf_neg hl hc14) (lw_S q773 q774 q39 q775) hs_X0_rowOf rfl (Nat.le_of_ble_eq_true rfl) (Nat.le_of_ble_eq_true rfl) (Nat.le_of_ble_eq_true rfl) (Nat.le_of_ble_eq_true rfl) (Nat.le_of_ble_eq_true rfl) (Nat.le_of_ble_eq_true rfl) ps_sheet_43 (Nat.le_of_ble_eq_true rfl) rfl dX0_sheet_34 dX0_sheet_43 (Nat.le_of_ble_eq_true rfl) rfl ?_
          refine J.aload_n (i := 0) dX0_sheet_45 rfl rfl ?_
          refine J.iconst (v := 5) dX0_sheet_46 (by decide) ?_
          replace hf := jbd hf
          obtain ⟨u15, h16, hf⟩ := hf
          replace hf := jbs hf
          obtain ⟨v19, hp18, h17, hf⟩ := hf
          refine J.callV (As := [.int 5]) (k2 := 3) (n2 := 222) 0 hDl hRm (w_X0_meets h17) (lw_V q776 q778 qs19 q39 q779) hd_X0_meets rfl ⟨_, h16⟩ rfl (Nat.le_of_ble_eq_true rfl) (Nat.le_of_ble_eq_true rfl) (Nat.le_of_ble_eq_true rfl) (Nat.le_of_ble_eq_true rfl) (Nat.le_of_ble_eq_true rfl) (Nat.le_of_ble_eq_true rfl) (Nat.le_of_ble_eq_true rfl) rfl dX0_sheet_47 ?_
          obtain ⟨rfl, rfl⟩ := jso hf
          exact J.iret hE (Nat.le_of_ble_eq_true rfl) (Nat.le_of_ble_eq_true rfl) dX0_sheet_50
        replace hf := (if_neg hc14).symm.trans hf
        replace hf := jbs hf
        obtain ⟨a22, hp21, h20, hf⟩ := hf
        refine J.callS (As := [.int p2, .int p3]) (k2 := 1) (n2 := 200) hDl hRm (w_X0_rowOf h20) (lw_S q773 q774 q39 q775) hs_X0_rowOf rfl (Nat.le_of_ble_eq_true rfl) (Nat.le_of_ble_eq_true rfl) (Nat.le_of_ble_eq_true rfl) (Nat.le_of_ble_eq_true rfl) (Nat.le_of_ble_eq_true rfl) (Nat.le_of_ble_eq_true rfl) (Nat.le_of_ble_eq_true rfl) rfl dX0_sheet_34 ?_
        replace hf := jbd hf
        obtain ⟨hp23, h24, hf⟩ := hf
        refine J.put (ty := (.object "java/lang/Object")) 3 1 in_X4 ap3 rfl (Nat.le_of_ble_eq_true rfl) (Or.inr ⟨_, q137⟩) (Or.inl rfl) rfl (by decide +kernel) (fun _ => ⟨rfl, rfl⟩) h24 dX0_sheet_37 ?_
        refine J.goto (tgt := 51) dX0_sheet_40 (by decide) ?_
        refine J.aload_n (i := 0) dX0_sheet_51 rfl rfl ?_
        replace hf := jbd hf
        obtain ⟨a25, h26, hf⟩ := hf
        refine J.getA 0 26 in_X0 rfl (Nat.le_of_ble_eq_true rfl) (Or.inl q171) (Or.inl rfl) h26 dX0_sheet_52 ?_
        refine J.iload_n (i := 1) dX0_sheet_55 rfl rfl ?_
        replace hf := jbd hf
        obtain ⟨a27, h28, hf⟩ := hf
        refine J.aaldA h28 dX0_sheet_56 ?_
        refine J.iload_n (i := 2) dX0_sheet_57 rfl rfl ?_
        replace hf := jbd hf
        obtain ⟨hp29, h30, hf⟩ := hf
        refine J.put (ty := .int) 3 0 in_X4 ap3 rfl (Nat.le_of_ble_eq_true rfl) (Or.inr ⟨_, q135⟩) (Or.inl rfl) rfl (by decide +kernel) (fun _ => ⟨rfl, rfl⟩) h30 dX0_sheet_58 ?_
        refine J.iload_n (i := 3) dX0_sheet_61 rfl rfl ?_
        obtain ⟨rfl, rfl⟩ := jso hf
        exact J.iret hE (Nat.le_of_ble_eq_true rfl) (Nat.le_of_ble_eq_true rfl) dX0_sheet_62
      · replace hf := (if_neg hc9).symm.trans hf
        refine J.bipush (v := (-2)) dX0_sheet_23 (by decide) ?_
        obtain ⟨rfl, rfl⟩ := jso hf
        exact J.iret hE (Nat.le_of_ble_eq_true rfl) (Nat.le_of_ble_eq_true rfl) dX0_sheet_25
def rm_X0_put : Room := { frames := 9, cells := 3, slots := 222, locals := 10400 }
theorem hd_X0_put : yX0_put.cls = RX0 ∧ yX0_put.cls ≠ "java/lang/invoke/MethodHandle" ∧ yX0_put.cls ≠ "java/lang/invoke/VarHandle" ∧ (parseMethodDescriptor yX0_put.desc).map (fun d => d.parameters.length) = some 4 := by decide +kernel
set_option maxHeartbeats 4000000 in
set_option maxRecDepth 100000 in
theorem w_X0_put {D : va_G} {l : Launch} {hp hpE : jH} {rE : Int32} {this : Nat} {p1 : Int32} {p2 : Int32} {p3 : Int32} {p4 : Int32} (hl : jNT l) (hf : f_X0_put this p1 p2 p3 p4 hp = some (rE, hpE)) : jM D l yX0_put (wsW_ yX0_put cX0_put 6 (some .int) [((19 : Nat), (36 : Nat), (37 : Nat), (343 : Nat)), ((19 : Nat), (36 : Nat), (45 : Nat), (345 : Nat)), ((19 : Nat), (36 : Nat), (53 : Nat), (252 : Nat))]) rm_X0_put hp [.ref this, .int p1, .int p2, .int p3, .int p4] (some (.int rE)) hpE := by
  refine jM.ofH (lv0 := [some (.ref this), some (.int p1), some (.int p2), some (.int p3), some (.int p4), none]) hl (by decide) (Nat.le_of_ble_eq_true rfl) rfl (fun X hDl hRm hE hX0 hTab => ?_)
  rw [f_X0_put] at hf
  refine J.iload_n (i := 1) dX0_put_0 rfl rfl ?_
  replace hf := jbs hf
  obtain ⟨v3, hp2, h1, hf⟩ := hf
  refine J.callS (As := [.int p1]) (k2 := 0) (n2 := 0) hDl hRm (w_X0_isSheet h1) (lw_S q770 q771 q39 q772) hs_X0_isSheet rfl (Nat.le_of_ble_eq_true rfl) (Nat.le_of_ble_eq_true rfl) (Nat.le_of_ble_eq_true rfl) (Nat.le_of_ble_eq_true rfl) (Nat.le_of_ble_eq_true rfl) (Nat.le_of_ble_eq_true rfl) (Nat.le_of_ble_eq_true rfl) rfl dX0_put_1 ?_
  refine J.if_eq (tgt := 16) dX0_put_4 (by decide) (fun hc4 => ?_) (fun hc4 => ?_)
  · replace hf := (if_pos hc4).symm.trans hf
    refine J.bipush (v := (-2)) dX0_put_16 (by decide) ?_
    obtain ⟨rfl, rfl⟩ := jso hf
    exact J.iret hE (Nat.le_of_ble_eq_true rfl) (Nat.le_of_ble_eq_true rfl) dX0_put_18
  · replace hf := (if_neg hc4).symm.trans hf
    refine J.iload_n (i := 2) dX0_put_7 rfl rfl ?_
    refine J.iconst (v := 0) dX0_put_8 (by decide) ?_
    refine J.iconst (v := 2) dX0_put_9 (by decide) ?_
    replace hf := jbs hf
    obtain ⟨v7, hp6, h5, hf⟩ := hf
    refine J.callS (As := [.int p2, .int 0, .int 2]) (k2 := 0) (n2 := 0) hDl hRm (w_X0_in h5) (lw_S q234 q235 q39 q236) hs_X0_in rfl (Nat.le_of_ble_eq_true rfl) (Nat.le_of_ble_eq_true rfl) (Nat.le_of_ble_eq_true rfl) (Nat.le_of_ble_eq_true rfl) (Nat.le_of_ble_eq_true rfl) (Nat.le_of_ble_eq_true rfl) (Nat.le_of_ble_eq_true rfl) rfl dX0_put_10 ?_
    refine J.if_ne (tgt := 19) dX0_put_13 (by decide) (fun hc8 => ?_) (fun hc8 => ?_)
    · replace hf := (if_neg hc8).symm.trans hf
      refine J.aload_n (i := 0) dX0_put_19 rfl rfl ?_
      replace hf := jbd hf
      obtain ⟨a9, h10, hf⟩ := hf
      refine J.getA 0 26 in_X0 rfl (Nat.le_of_ble_eq_true rfl) (Or.inl q171) (Or.inl rfl) h10 dX0_put_20 ?_
      refine J.iload_n (i := 1) dX0_put_23 rfl rfl ?_
      replace hf := jbd hf
      obtain ⟨a11, h12, hf⟩ := hf
      refine J.aaldA h12 dX0_put_24 ?_
      replace hf := jbd hf
      obtain ⟨r15, h14, hf⟩ := hf
      cases r15 with
      | none =>
        refine J.getRn 3 1 in_X4 rfl (Nat.le_of_ble_eq_true rfl) (Or.inr ⟨_, q137⟩) (Or.inl rfl) h14 dX0_put_25 ?_
        refine J.iload_n (i := 2) dX0_put_28 rfl rfl ?_
        refine J.iload_n (i := 3) dX0_put_29 rfl rfl ?_
        refine J.iload dX0_put_30 rfl ?_
        refine J.callSC (As := [.null, .int p2, .int p3, .int p4]) (k2 := 3) (n2 := 222) (lv' := [some (.ref this), some (.int p1), some (.int p2), some (.int p3), some (.int p4), none]) hDl hRm hTab (t_X0_lay_null hl) (lw_S q828 q829 q39 q830) hs_X0_lay rfl (Nat.le_of_ble_eq_true rfl) (Nat.le_of_ble_eq_true rfl) (Nat.le_of_ble_eq_true rfl) (Nat.le_of_ble_eq_true rfl) (Nat.le_of_ble_eq_true rfl) (Nat.le_of_ble_eq_true rfl) ps_put_37 (Nat.le_of_ble_eq_true rfl) rfl dX0_put_32 dX0_put_37 (Nat.le_of_ble_eq_true rfl) rfl ?_
        refine J.aload_n (i := 0) dX0_put_39 rfl rfl ?_
        refine J.iconst (v := 1) dX0_put_40 (by decide) ?_
        replace hf := jbd hf
        obtain ⟨u16, h17, hf⟩ := hf
        replace hf := jbs hf
        obtain ⟨v20, hp19, h18, hf⟩ := hf
        refine J.callV (As := [.int 1]) (k2 := 3) (n2 := 222) 0 hDl hRm (w_X0_meets h18) (lw_V q776 q778 qs19 q39 q779) hd_X0_meets rfl ⟨_, h17⟩ rfl (Nat.le_of_ble_eq_true rfl) (Nat.le_of_ble_eq_true rfl) (Nat.le_of_ble_eq_true rfl) (Nat.le_of_ble_eq_true rfl) (Nat.le_of_ble_eq_true rfl) (Nat.le_of_ble_eq_true rfl) (Nat.le_of_ble_eq_true rfl) rfl dX0_put_41 ?_
        obtain ⟨rfl, rfl⟩ := jso hf
        exact J.iret hE (Nat.le_of_ble_eq_true rfl) (Nat.le_of_ble_eq_true rfl) dX0_put_44
      | some a13 =>
        refine J.getRs 3 1 in_X4 rfl (Nat.le_of_ble_eq_true rfl) (Or.inr ⟨_, q137⟩) (Or.inl rfl) h14 dX0_put_25 ?_
        refine J.iload_n (i := 2) dX0_put_28 rfl rfl ?_
        refine J.iload_n (i := 3) dX0_put_29 rfl rfl ?_
        refine J.iload dX0_put_30 rfl ?_
        replace hf := jbd hf
        obtain ⟨q21, h22, hf⟩ := hf
        by_cases hc23 : q21 = 0
        · replace hf := (if_pos hc23).symm.trans hf
          replace hf := jbd hf
          obtain ⟨hp26, h25, hf⟩ := hf
          refine J.callS (As := [.ref a13, .int p2, .int p3, .int p4]) (k2 := 0) (n2 := 0) hDl hRm (w_X0_lay h25) (lw_S q828 q829 q39 q830) hs_X0_lay rfl (Nat.le_of_ble_eq_true rfl) (Nat.le_of_ble_eq_true rfl) (Nat.le_of_ble_eq_true rfl) (Nat.le_of_ble_eq_true rfl) (Nat.le_of_ble_eq_true rfl) (Nat.le_of_ble_eq_true rfl) (Nat.le_of_ble_eq_true rfl) rfl dX0_put_32 ?_
          refine J.iconst (v := 1) dX0_put_35 (by decide) ?_
          obtain ⟨rfl, rfl⟩ := jso hf
          exact J.iret hE (Nat.le_of_ble_eq_true rfl) (Nat.le_of_ble_eq_true rfl) dX0_put_36
        replace hf := (if_neg hc23).symm.trans hf
        by_cases hc24 : q21 = 2
        · replace hf := (if_pos hc24).symm.trans hf
          subst hc24
          refine J.callSC (As := [.ref a13, .int p2, .int p3, .int p4]) (k2 := 3) (n2 := 222) (lv' := [some (.ref this), some (.int p1), some (.int p2), some (.int p3), some (.int p4), none]) hDl hRm hTab (t_X0_lay_cast hl h22) (lw_S q828 q829 q39 q830) hs_X0_lay rfl (Nat.le_of_ble_eq_true rfl) (Nat.le_of_ble_eq_true rfl) (Nat.le_of_ble_eq_true rfl) (Nat.le_of_ble_eq_true rfl) (Nat.le_of_ble_eq_true rfl) (Nat.le_of_ble_eq_true rfl) ps_put_45 (Nat.le_of_ble_eq_true rfl) rfl dX0_put_32 dX0_put_45 (Nat.le_of_ble_eq_true rfl) rfl ?_
          refine J.aload_n (i := 0) dX0_put_47 rfl rfl ?_
          refine J.iconst (v := 3) dX0_put_48 (by decide) ?_
          replace hf := jbd hf
          obtain ⟨u27, h28, hf⟩ := hf
          replace hf := jbs hf
          obtain ⟨v31, hp30, h29, hf⟩ := hf
          refine J.callV (As := [.int 3]) (k2 := 3) (n2 := 222) 0 hDl hRm (w_X0_meets h29) (lw_V q776 q778 qs19 q39 q779) hd_X0_meets rfl ⟨_, h28⟩ rfl (Nat.le_of_ble_eq_true rfl) (Nat.le_of_ble_eq_true rfl) (Nat.le_of_ble_eq_true rfl) (Nat.le_of_ble_eq_true rfl) (Nat.le_of_ble_eq_true rfl) (Nat.le_of_ble_eq_true rfl) (Nat.le_of_ble_eq_true rfl) rfl dX0_put_49 ?_
          obtain ⟨rfl, rfl⟩ := jso hf
          exact J.iret hE (Nat.le_of_ble_eq_true rfl) (Nat.le_of_ble_eq_true rfl) dX0_put_52
        replace hf := (if_neg hc24).symm.trans hf
        obtain rfl := jqc_3 h22 hc23 hc24
        refine J.callSC (As := [.ref a13, .int p2, .int p3, .int p4]) (k2 := 3) (n2 := 222) (lv' := [some (.ref this), some (.int p1), some (.int p2), some (.int p3), some (.int p4), none]) hDl hRm hTab (t_X0_lay_idx hl h22) (lw_S q828 q829 q39 q830) hs_X0_lay rfl (Nat.le_of_ble_eq_true rfl) (Nat.le_of_ble_eq_true rfl) (Nat.le_of_ble_eq_true rfl) (Nat.le_of_ble_eq_true rfl) (Nat.le_of_ble_eq_true rfl) (Nat.le_of_ble_eq_true rfl) ps_put_53 (Nat.le_of_ble_eq_true rfl) rfl dX0_put_32 dX0_put_53 (Nat.le_of_ble_eq_true rfl) rfl ?_
        refine J.aload_n (i := 0) dX0_put_55 rfl rfl ?_
        refine J.iconst (v := 2) dX0_put_56 (by decide) ?_
        replace hf := jbd hf
        obtain ⟨u32, h33, hf⟩ := hf
        replace hf := jbs hf
        obtain ⟨v36, hp35, h34, hf⟩ := hf
        refine J.callV (As := [.int 2]) (k2 := 3) (n2 := 222) 0 hDl hRm (w_X0_meets h34) (lw_V q776 q778 qs19 q39 q779) hd_X0_meets rfl ⟨_, h33⟩ rfl (Nat.le_of_ble_eq_true rfl) (Nat.le_of_ble_eq_true rfl) (Nat.le_of_ble_eq_true rfl) (Nat.le_of_ble_eq_true rfl) (Nat.le_of_ble_eq_true rfl) (Nat.le_of_ble_eq_true rfl) (Nat.le_of_ble_eq_true rfl) rfl dX0_put_57 ?_
        obtain ⟨rfl, rfl⟩ := jso hf
        exact J.iret hE (Nat.le_of_ble_eq_true rfl) (Nat.le_of_ble_eq_true rfl) dX0_put_60
    · replace hf := (if_pos hc8).symm.trans hf
      refine J.bipush (v := (-2)) dX0_put_16 (by decide) ?_
      obtain ⟨rfl, rfl⟩ := jso hf
      exact J.iret hE (Nat.le_of_ble_eq_true rfl) (Nat.le_of_ble_eq_true rfl) dX0_put_18
def rm_X0_get : Room := { frames := 9, cells := 3, slots := 222, locals := 10400 }
theorem hd_X0_get : yX0_get.cls = RX0 ∧ yX0_get.cls ≠ "java/lang/invoke/MethodHandle" ∧ yX0_get.cls ≠ "java/lang/invoke/VarHandle" ∧ (parseMethodDescriptor yX0_get.desc).map (fun d => d.parameters.length) = some 3 := by decide +kernel
set_option maxHeartbeats 4000000 in
set_option maxRecDepth 100000 in
theorem w_X0_get {D : va_G} {l : Launch} {hp hpE : jH} {rE : Int32} {this : Nat} {p1 : Int32} {p2 : Int32} {p3 : Int32} (hl : jNT l) (hf : f_X0_get this p1 p2 p3 hp = some (rE, hpE)) : jM D l yX0_get (wsW_ yX0_get cX0_get 6 (some .int) [((23 : Nat), (37 : Nat), (38 : Nat), (343 : Nat)), ((23 : Nat), (37 : Nat), (46 : Nat), (345 : Nat)), ((23 : Nat), (37 : Nat), (54 : Nat), (252 : Nat))]) rm_X0_get hp [.ref this, .int p1, .int p2, .int p3] (some (.int rE)) hpE := by
  refine jM.ofH (lv0 := [some (.ref this), some (.int p1), some (.int p2), some (.int p3), none, none]) hl (by decide) (Nat.le_of_ble_eq_true rfl) rfl (fun X hDl hRm hE hX0 hTab => ?_)
  rw [f_X0_get] at hf
  refine J.iload_n (i := 1) dX0_get_0 rfl rfl ?_
  replace hf := jbs hf
  obtain ⟨v3, hp2, h1, hf⟩ := hf
  refine J.callS (As := [.int p1]) (k2 := 0) (n2 := 0) hDl hRm (w_X0_isSheet h1) (lw_S q770 q771 q39 q772) hs_X0_isSheet rfl (Nat.le_of_ble_eq_true rfl) (Nat.le_of_ble_eq_true rfl) (Nat.le_of_ble_eq_true rfl) (Nat.le_of_ble_eq_true rfl) (Nat.le_of_ble_eq_true rfl) (Nat.le_of_ble_eq_true rfl) (Nat.le_of_ble_eq_true rfl) rfl dX0_get_1 ?_
  refine J.if_eq (tgt := 16) dX0_get_4 (by decide) (fun hc4 => ?_) (fun hc4 => ?_)
  · replace hf := (if_pos hc4).symm.trans hf
    refine J.ldcw q835 dX0_get_16 ?_
    obtain ⟨rfl, rfl⟩ := jso hf
    exact J.iret hE (Nat.le_of_ble_eq_true rfl) (Nat.le_of_ble_eq_true rfl) dX0_get_19
  · replace hf := (if_neg hc4).symm.trans hf
    refine J.iload_n (i := 2) dX0_get_7 rfl rfl ?_
    refine J.iconst (v := 0) dX0_get_8 (by decide) ?_
    refine J.iconst (v := 2) dX0_get_9 (by decide) ?_
    replace hf := jbs hf
    obtain ⟨v7, hp6, h5, hf⟩ := hf
    refine J.callS (As := [.int p2, .int 0, .int 2]) (k2 := 0) (n2 := 0) hDl hRm (w_X0_in h5) (lw_S q234 q235 q39 q236) hs_X0_in rfl (Nat.le_of_ble_eq_true rfl) (Nat.le_of_ble_eq_true rfl) (Nat.le_of_ble_eq_true rfl) (Nat.le_of_ble_eq_true rfl) (Nat.le_of_ble_eq_true rfl) (Nat.le_of_ble_eq_true rfl) (Nat.le_of_ble_eq_true rfl) rfl dX0_get_10 ?_
    refine J.if_ne (tgt := 20) dX0_get_13 (by decide) (fun hc8 => ?_) (fun hc8 => ?_)
    · replace hf := (if_neg hc8).symm.trans hf
      refine J.iconst (v := 0) dX0_get_20 (by decide) ?_
      refine J.istore (i := 4) (lv' := [some (.ref this), some (.int p1), some (.int p2), some (.int p3), some (.int 0), none]) dX0_get_21 (Nat.le_of_ble_eq_true rfl) rfl ?_
      refine J.aload_n (i := 0) dX0_get_23 rfl rfl ?_
      replace hf := jbd hf
      obtain ⟨a9, h10, hf⟩ := hf
      refine J.getA 0 26 in_X0 rfl (Nat.le_of_ble_eq_true rfl) (Or.inl q171) (Or.inl rfl) h10 dX0_get_24 ?_
      refine J.iload_n (i := 1) dX0_get_27 rfl rfl ?_
      replace hf := jbd hf
      obtain ⟨a11, h12, hf⟩ := hf
      refine J.aaldA h12 dX0_get_28 ?_
      replace hf := jbd hf
      obtain ⟨r15, h14, hf⟩ := hf
      cases r15 with
      | none =>
        refine J.getRn 3 1 in_X4 rfl (Nat.le_of_ble_eq_true rfl) (Or.inr ⟨_, q137⟩) (Or.inl rfl) h14 dX0_get_29 ?_
        refine J.iload_n (i := 2) dX0_get_32 rfl rfl ?_
        refine J.iload_n (i := 3) dX0_get_33 rfl rfl ?_
        refine J.callSC (As := [.null, .int p2, .int p3]) (k2 := 3) (n2 := 222) (lv' := [some (.ref this), some (.int p1), some (.int p2), some (.int p3), some (.int 0), none]) hDl hRm hTab (t_X0_item_null hl) (lw_S q745 q746 q39 q747) hs_X0_item rfl (Nat.le_of_ble_eq_true rfl) (Nat.le_of_ble_eq_true rfl) (Nat.le_of_ble_eq_true rfl) (Nat.le_of_ble_eq_true rfl) (Nat.le_of_ble_eq_true rfl) (Nat.le_of_ble_eq_true rfl) ps_get_38 (Nat.le_of_ble_eq_true rfl) rfl dX0_get_34 dX0_get_38 (Nat.le_of_ble_eq_true rfl) rfl ?_
        refine J.iconst (v := 1) dX0_get_40 (by decide) ?_
        refine J.istore (i := 4) (lv' := [some (.ref this), some (.int p1), some (.int p2), some (.int p3), some (.int 1), none]) dX0_get_41 (Nat.le_of_ble_eq_true rfl) rfl ?_
        refine J.goto (tgt := 59) dX0_get_43 (by decide) ?_
        refine J.aload_n (i := 0) dX0_get_59 rfl rfl ?_
        refine J.iload dX0_get_60 rfl ?_
        replace hf := jbd hf
        obtain ⟨hp16, h17, hf⟩ := hf
        refine J.put (ty := .int) 0 27 in_X0 ap0 rfl (Nat.le_of_ble_eq_true rfl) (Or.inl q172) (Or.inl rfl) rfl (by decide +kernel) (fun _ => ⟨rfl, rfl⟩) h17 dX0_get_62 ?_
        refine J.ldcw q835 dX0_get_65 ?_
        obtain ⟨rfl, rfl⟩ := jso hf
        exact J.iret hE (Nat.le_of_ble_eq_true rfl) (Nat.le_of_ble_eq_true rfl) dX0_get_68
      | some a13 =>
        refine J.getRs 3 1 in_X4 rfl (Nat.le_of_ble_eq_true rfl) (Or.inr ⟨_, q137⟩) (Or.inl rfl) h14 dX0_get_29 ?_
        refine J.iload_n (i := 2) dX0_get_32 rfl rfl ?_
        refine J.iload_n (i := 3) dX0_get_33 rfl rfl ?_
        replace hf := jbd hf
        obtain ⟨q18, h19, hf⟩ := hf
        by_cases hc20 : q18 = 0
        · replace hf := (if_pos hc20).symm.trans hf
          replace hf := jbs hf
          obtain ⟨v24, hp23, h22, hf⟩ := hf
          refine J.callS (As := [.ref a13, .int p2, .int p3]) (k2 := 0) (n2 := 0) hDl hRm (w_X0_item h22) (lw_S q745 q746 q39 q747) hs_X0_item rfl (Nat.le_of_ble_eq_true rfl) (Nat.le_of_ble_eq_true rfl) (Nat.le_of_ble_eq_true rfl) (Nat.le_of_ble_eq_true rfl) (Nat.le_of_ble_eq_true rfl) (Nat.le_of_ble_eq_true rfl) (Nat.le_of_ble_eq_true rfl) rfl dX0_get_34 ?_
          obtain ⟨rfl, rfl⟩ := jso hf
          exact J.iret hE (Nat.le_of_ble_eq_true rfl) (Nat.le_of_ble_eq_true rfl) dX0_get_37
        replace hf := (if_neg hc20).symm.trans hf
        by_cases hc21 : q18 = 2
        · replace hf := (if_pos hc21).symm.trans hf
          subst hc21
          refine J.callSC (As := [.ref a13, .int p2, .int p3]) (k2 := 3) (n2 := 222) (lv' := [some (.ref this), some (.int p1), some (.int p2), some (.int p3), some (.int 0), none]) hDl hRm hTab (t_X0_item_cast hl h19) (lw_S q745 q746 q39 q747) hs_X0_item rfl (Nat.le_of_ble_eq_true rfl) (Nat.le_of_ble_eq_true rfl) (Nat.le_of_ble_eq_true rfl) (Nat.le_of_ble_eq_true rfl) (Nat.le_of_ble_eq_true rfl) (Nat.le_of_ble_eq_true rfl) ps_get_46 (Nat.le_of_ble_eq_true rfl) rfl dX0_get_34 dX0_get_46 (Nat.le_of_ble_eq_true rfl) rfl ?_
          refine J.iconst (v := 3) dX0_get_48 (by decide) ?_
          refine J.istore (i := 4) (lv' := [some (.ref this), some (.int p1), some (.int p2), some (.int p3), some (.int 3), none]) dX0_get_49 (Nat.le_of_ble_eq_true rfl) rfl ?_
          refine J.goto (tgt := 59) dX0_get_51 (by decide) ?_
          refine J.aload_n (i := 0) dX0_get_59 rfl rfl ?_
          refine J.iload dX0_get_60 rfl ?_
          replace hf := jbd hf
          obtain ⟨hp25, h26, hf⟩ := hf
          refine J.put (ty := .int) 0 27 in_X0 ap0 rfl (Nat.le_of_ble_eq_true rfl) (Or.inl q172) (Or.inl rfl) rfl (by decide +kernel) (fun _ => ⟨rfl, rfl⟩) h26 dX0_get_62 ?_
          refine J.ldcw q835 dX0_get_65 ?_
          obtain ⟨rfl, rfl⟩ := jso hf
          exact J.iret hE (Nat.le_of_ble_eq_true rfl) (Nat.le_of_ble_eq_true rfl) dX0_get_68
        replace hf := (if_neg hc21).symm.trans hf
        obtain rfl := jqc_3 h19 hc20 hc21
        refine J.callSC (As := [.ref a13, .int p2, .int p3]) (k2 := 3) (n2 := 222) (lv' := [some (.ref this), some (.int p1), some (.int p2), some (.int p3), some (.int 0), none]) hDl hRm hTab (t_X0_item_idx hl h19) (lw_S q745 q746 q39 q747) hs_X0_item rfl (Nat.le_of_ble_eq_true rfl) (Nat.le_of_ble_eq_true rfl) (Nat.le_of_ble_eq_true rfl) (Nat.le_of_ble_eq_true rfl) (Nat.le_of_ble_eq_true rfl) (Nat.le_of_ble_eq_true rfl) ps_get_54 (Nat.le_of_ble_eq_true rfl) rfl dX0_get_34 dX0_get_54 (Nat.le_of_ble_eq_true rfl) rfl ?_
        refine J.iconst (v := 2) dX0_get_56 (by decide) ?_
        refine J.istore (i := 4) (lv' := [some (.ref this), some (.int p1), some (.int p2), some (.int p3), some (.int 2), none]) dX0_get_57 (Nat.le_of_ble_eq_true rfl) rfl ?_
        refine J.aload_n (i := 0) dX0_get_59 rfl rfl ?_
        refine J.iload dX0_get_60 rfl ?_
        replace hf := jbd hf
        obtain ⟨hp27, h28, hf⟩ := hf
        refine J.put (ty := .int) 0 27 in_X0 ap0 rfl (Nat.le_of_ble_eq_true rfl) (Or.inl q172) (Or.inl rfl) rfl (by decide +kernel) (fun _ => ⟨rfl, rfl⟩) h28 dX0_get_62 ?_
        refine J.ldcw q835 dX0_get_65 ?_
        obtain ⟨rfl, rfl⟩ := jso hf
        exact J.iret hE (Nat.le_of_ble_eq_true rfl) (Nat.le_of_ble_eq_true rfl) dX0_get_68
    · replace hf := (if_pos hc8).symm.trans hf
      refine J.ldcw q835 dX0_get_16 ?_
      obtain ⟨rfl, rfl⟩ := jso hf
      exact J.iret hE (Nat.le_of_ble_eq_true rfl) (Nat.le_of_ble_eq_true rfl) dX0_get_19
def rm_X0_digest : Room := { frames := 9, cells := 32, slots := 1832, locals := 10323 }
theorem hd_X0_digest : yX0_digest.cls = RX0 ∧ yX0_digest.cls ≠ "java/lang/invoke/MethodHandle" ∧ yX0_digest.cls ≠ "java/lang/invoke/VarHandle" ∧ (parseMethodDescriptor yX0_digest.desc).map (fun d => d.parameters.length) = some 0 := by decide +kernel
set_option maxHeartbeats 4000000 in
set_option maxRecDepth 100000 in
theorem w_X0_digest_L174 {D : va_G} {l : Launch} {X : jX} {hp0 hpE : jH} {rE : Int64} (hDl : jDl X D l) (hRm : jRoom X rm_X0_digest.frames rm_X0_digest.locals rm_X0_digest.cells rm_X0_digest.slots) (hE : jEnds X (some .long) (some (.long rE)) hpE rm_X0_digest.cells rm_X0_digest.slots) (hX0 : jX0 X hp0) (hl : jNT l) {K163 : Nat → Int64 → Int32 → jH → Option (Int64 × jH)} (hK163 : ∀ (xa_0 : Nat) (xl_1 : Int64) (xi_3 : Int32) (hp : jH), K163 xa_0 xl_1 xi_3 hp = some (rE, hpE) → J X cX0_digest 5 yX0_digest 32 1832 163 [some (.ref xa_0), some (.long xl_1), none, some (.int xi_3), none] [] hp) : ∀ (N : Nat) (xa_0 : Nat) (xl_1 : Int64) (xi_3 : Int32) (xi_4 : Int32) (hp : jH), f_X0_digest_L174 K163 N xa_0 xl_1 xi_3 xi_4 hp = some (rE, hpE) → J X cX0_digest 5 yX0_digest 32 1832 174 [some (.ref xa_0), some (.long xl_1), none, some (.int xi_3), some (.int xi_4)] [] hp := by
  intro N
  induction N with
  | zero =>
    intro xa_0 xl_1 xi_3 xi_4 hp hf
    rw [f_X0_digest_L174] at hf
    cases hf
  | succ N ih174 =>
    intro xa_0 xl_1 xi_3 xi_4 hp hf
    rw [f_X0_digest_L174] at hf
    refine J.iload dX0_digest_174 rfl ?_
    refine J.aload_n (i := 0) dX0_digest_176 rfl rfl ?_
    replace hf := jbd hf
    obtain ⟨a12, h13, hf⟩ := hf
    refine J.getA 0 0 in_X0 rfl (Nat.le_of_ble_eq_true rfl) (Or.inl q143) (Or.inl rfl) h13 dX0_digest_177 ?_
    refine J.iload_n (i := 3) dX0_digest_180 rfl rfl ?_
    replace hf := jbd hf
    obtain ⟨a14, h15, hf⟩ := hf
    refine J.aaldA h15 dX0_digest_181 ?_
    replace hf := jbd hf
    obtain ⟨a16, h17, hf⟩ := hf
    refine J.getA 4 4 in_X6 rfl (Nat.le_of_ble_eq_true rfl) (Or.inr ⟨_, q277⟩) (Or.inl rfl) h17 dX0_digest_182 ?_
    replace hf := jbd hf
    obtain ⟨u18, h19, hf⟩ := hf
    replace hf := jbs hf
    obtain ⟨v22, hp21, h20, hf⟩ := hf
    refine J.callV (As := []) (k2 := 32) (n2 := 1832) 5 hDl hRm (w_J2_size h20) (lw_V q449 q450 q451 q48 q452) hd_J2_size rfl ⟨_, h19⟩ rfl (Nat.le_of_ble_eq_true rfl) (Nat.le_of_ble_eq_true rfl) (Nat.le_of_ble_eq_true rfl) (Nat.le_of_ble_eq_true rfl) (Nat.le_of_ble_eq_true rfl) (Nat.le_of_ble_eq_true rfl) (Nat.le_of_ble_eq_true rfl) rfl dX0_digest_185 ?_
    refine J.icmp_ge (tgt := 225) dX0_digest_188 (by decide) (fun hc23 => ?_) (fun hc23 => ?_)
    · replace hf := (if_pos hc23).symm.trans hf
      refine J.iinc (i := 3) (v := (xi_3 + 1)) (lv' := [some (.ref xa_0), some (.long xl_1), none, some (.int (xi_3 + 1)), some (.int xi_4)]) dX0_digest_225 rfl rfl (Nat.le_of_ble_eq_true rfl) rfl ?_
      refine J.goto (tgt := 163) dX0_digest_228 (by decide) ?_
      refine J.mask (lv' := [some (.ref xa_0), some (.long xl_1), none, some (.int (xi_3 + 1)), none]) [true, true, false, true, false] rfl ?_
      exact hK163 _ _ _ _ hf
    · replace hf := (if_neg hc23).symm.trans hf
      refine J.ldc2 q855 dX0_digest_191 ?_
      refine J.lload_n (i := 1) dX0_digest_194 rfl rfl ?_
      refine J.lmul dX0_digest_195 ?_
      refine J.aload_n (i := 0) dX0_digest_196 rfl rfl ?_
      replace hf := jbd hf
      obtain ⟨a24, h25, hf⟩ := hf
      refine J.getA 0 0 in_X0 rfl (Nat.le_of_ble_eq_true rfl) (Or.inl q143) (Or.inl rfl) h25 dX0_digest_197 ?_
      refine J.iload_n (i := 3) dX0_digest_200 rfl rfl ?_
      replace hf := jbd hf
      obtain ⟨a26, h27, hf⟩ := hf
      refine J.aaldA h27 dX0_digest_201 ?_
      replace hf := jbd hf
      obtain ⟨a28, h29, hf⟩ := hf
      refine J.getA 4 4 in_X6 rfl (Nat.le_of_ble_eq_true rfl) (Or.inr ⟨_, q277⟩) (Or.inl rfl) h29 dX0_digest_202 ?_
      refine J.iload dX0_digest_205 rfl ?_
      replace hf := jbd hf
      obtain ⟨u30, h31, hf⟩ := hf
      replace hf := jbs hf
      obtain ⟨a34, hp33, h32, hf⟩ := hf
      refine J.callV (As := [.int xi_4]) (k2 := 32) (n2 := 1832) 5 hDl hRm (w_J2_get h32) (lw_V q453 q454 q455 q48 q456) hd_J2_get rfl ⟨_, h31⟩ rfl (Nat.le_of_ble_eq_true rfl) (Nat.le_of_ble_eq_true rfl) (Nat.le_of_ble_eq_true rfl) (Nat.le_of_ble_eq_true rfl) (Nat.le_of_ble_eq_true rfl) (Nat.le_of_ble_eq_true rfl) (Nat.le_of_ble_eq_true rfl) rfl dX0_digest_207 ?_
      replace hf := jbd hf
      obtain ⟨u36, h35, hf⟩ := hf
      refine J.castO 8 rfl q467 ⟨_, h35⟩ dX0_digest_210 ?_
      replace hf := jbd hf
      obtain ⟨v37, h38, hf⟩ := hf
      refine J.getI 8 1 in_X9 rfl (Nat.le_of_ble_eq_true rfl) (Or.inr ⟨_, q493⟩) (Or.inl rfl) h38 dX0_digest_213 ?_
      refine J.i2l dX0_digest_216 ?_
      refine J.ladd dX0_digest_217 ?_
      refine J.lstore_n (i := 1) (lv' := [some (.ref xa_0), some (.long (((31 : Int64) * xl_1) + v37.toInt64)), none, some (.int xi_3), some (.int xi_4)]) dX0_digest_218 rfl (Nat.le_of_ble_eq_true rfl) rfl ?_
      refine J.iinc (i := 4) (v := (xi_4 + 1)) (lv' := [some (.ref xa_0), some (.long (((31 : Int64) * xl_1) + v37.toInt64)), none, some (.int xi_3), some (.int (xi_4 + 1))]) dX0_digest_219 rfl rfl (Nat.le_of_ble_eq_true rfl) rfl ?_
      refine J.goto (tgt := 174) dX0_digest_222 (by decide) ?_
      exact ih174 _ _ _ _ _ hf
set_option maxHeartbeats 4000000 in
set_option maxRecDepth 100000 in
theorem w_X0_digest_L163 {D : va_G} {l : Launch} {X : jX} {hp0 hpE : jH} {rE : Int64} (hDl : jDl X D l) (hRm : jRoom X rm_X0_digest.frames rm_X0_digest.locals rm_X0_digest.cells rm_X0_digest.slots) (hE : jEnds X (some .long) (some (.long rE)) hpE rm_X0_digest.cells rm_X0_digest.slots) (hX0 : jX0 X hp0) (hl : jNT l) : ∀ (N : Nat) (xa_0 : Nat) (xl_1 : Int64) (xi_3 : Int32) (hp : jH), f_X0_digest_L163 N xa_0 xl_1 xi_3 hp = some (rE, hpE) → J X cX0_digest 5 yX0_digest 32 1832 163 [some (.ref xa_0), some (.long xl_1), none, some (.int xi_3), none] [] hp := by
  intro N
  induction N with
  | zero =>
    intro xa_0 xl_1 xi_3 hp hf
    rw [f_X0_digest_L163] at hf
    cases hf
  | succ N ih163 =>
    intro xa_0 xl_1 xi_3 hp hf
    rw [f_X0_digest_L163] at hf
    refine J.iload_n (i := 3) dX0_digest_163 rfl rfl ?_
    refine J.aload_n (i := 0) dX0_digest_164 rfl rfl ?_
    replace hf := jbd hf
    obtain ⟨v9, h10, hf⟩ := hf
    refine J.getI 0 1 in_X0 rfl (Nat.le_of_ble_eq_true rfl) (Or.inl q144) (Or.inl rfl) h10 dX0_digest_165 ?_
    refine J.icmp_ge (tgt := 231) dX0_digest_168 (by decide) (fun hc11 => ?_) (fun hc11 => ?_)
    · replace hf := (if_pos hc11).symm.trans hf
      refine J.lload_n (i := 1) dX0_digest_231 rfl rfl ?_
      obtain ⟨rfl, rfl⟩ := jso hf
      exact J.lret hE (Nat.le_of_ble_eq_true rfl) (Nat.le_of_ble_eq_true rfl) dX0_digest_232
    · replace hf := (if_neg hc11).symm.trans hf
      refine J.iconst (v := 0) dX0_digest_171 (by decide) ?_
      refine J.istore (i := 4) (lv' := [some (.ref xa_0), some (.long xl_1), none, some (.int xi_3), some (.int 0)]) dX0_digest_172 (Nat.le_of_ble_eq_true rfl) rfl ?_
      exact w_X0_digest_L174 hDl hRm hE hX0 hl (fun z0 z1 z2 z3 hz => ih163 z0 z1 z2 z3 hz) _ _ _ _ _ _ hf
set_option maxHeartbeats 4000000 in
set_option maxRecDepth 100000 in
theorem w_X0_digest_L136 {D : va_G} {l : Launch} {X : jX} {hp0 hpE : jH} {rE : Int64} (hDl : jDl X D l) (hRm : jRoom X rm_X0_digest.frames rm_X0_digest.locals rm_X0_digest.cells rm_X0_digest.slots) (hE : jEnds X (some .long) (some (.long rE)) hpE rm_X0_digest.cells rm_X0_digest.slots) (hX0 : jX0 X hp0) (hl : jNT l) : ∀ (N : Nat), N ≤ 8 → ∀ (xa_0 : Nat) (xl_1 : Int64) (xi_3 : Int32) (hp : jH), f_X0_digest_L136 N xa_0 xl_1 xi_3 hp = some (rE, hpE) → J X cX0_digest 5 yX0_digest (0 + 4 * (8 - N)) (0 + 229 * (8 - N)) 136 [some (.ref xa_0), some (.long xl_1), none, some (.int xi_3), none] [] hp := by
  intro N
  induction N with
  | zero =>
    intro hN xa_0 xl_1 xi_3 hp hf
    rw [f_X0_digest_L136] at hf
    cases hf
  | succ N ih136 =>
    intro hN xa_0 xl_1 xi_3 hp hf
    rw [f_X0_digest_L136] at hf
    refine J.iload_n (i := 3) dX0_digest_136 rfl rfl ?_
    refine J.bipush (v := 7) dX0_digest_137 (by decide) ?_
    refine J.icmp_ge (tgt := 161) dX0_digest_139 (by decide) (fun hc8 => ?_) (fun hc8 => ?_)
    · replace hf := (if_pos hc8).symm.trans hf
      refine J.widen (k2 := 32) (n2 := 1832) (by omega) (by omega) ?_
      refine J.iconst (v := 0) dX0_digest_161 (by decide) ?_
      refine J.istore_n (i := 3) (lv' := [some (.ref xa_0), some (.long xl_1), none, some (.int 0), none]) dX0_digest_162 rfl (Nat.le_of_ble_eq_true rfl) rfl ?_
      exact w_X0_digest_L163 hDl hRm hE hX0 hl _ _ _ _ _ hf
    · replace hf := (if_neg hc8).symm.trans hf
      refine J.ldc2 q855 dX0_digest_142 ?_
      refine J.lload_n (i := 1) dX0_digest_145 rfl rfl ?_
      refine J.lmul dX0_digest_146 ?_
      refine J.aload_n (i := 0) dX0_digest_147 rfl rfl ?_
      refine J.iload_n (i := 3) dX0_digest_148 rfl rfl ?_
      replace hf := jbd hf
      obtain ⟨u39, h40, hf⟩ := hf
      replace hf := jbs hf
      obtain ⟨v43, hp42, h41, hf⟩ := hf
      refine J.callVW (As := [.int xi_3]) (k2 := (0 + 4 * (8 - N))) (n2 := (0 + 229 * (8 - N))) 0 hDl hRm (w_X0_account hl h41) (lw_VW q859 q566 q567 q39 q568) hd_X0_account rfl ⟨_, h40⟩ rfl (Nat.le_of_ble_eq_true rfl) (Nat.le_of_ble_eq_true rfl) (by first | omega | (simp only [rm_X0_account, rm_X0_digest]; omega)) (by first | omega | (simp only [rm_X0_account, rm_X0_digest]; omega)) (by first | omega | (simp only [rm_X0_account, rm_X0_digest]; omega)) (by first | omega | (simp only [rm_X0_account, rm_X0_digest]; omega)) (Nat.le_of_ble_eq_true rfl) rfl dX0_digest_149 ?_
      refine J.i2l dX0_digest_152 ?_
      refine J.ladd dX0_digest_153 ?_
      refine J.lstore_n (i := 1) (lv' := [some (.ref xa_0), some (.long (((31 : Int64) * xl_1) + v43.toInt64)), none, some (.int xi_3), none]) dX0_digest_154 rfl (Nat.le_of_ble_eq_true rfl) rfl ?_
      refine J.iinc (i := 3) (v := (xi_3 + 1)) (lv' := [some (.ref xa_0), some (.long (((31 : Int64) * xl_1) + v43.toInt64)), none, some (.int (xi_3 + 1)), none]) dX0_digest_155 rfl rfl (Nat.le_of_ble_eq_true rfl) rfl ?_
      refine J.goto (tgt := 136) dX0_digest_158 (by decide) ?_
      exact ih136 (by omega) _ _ _ _ hf
set_option maxHeartbeats 4000000 in
set_option maxRecDepth 100000 in
theorem w_X0_digest_L100 {D : va_G} {l : Launch} {X : jX} {hp0 hpE : jH} {rE : Int64} (hDl : jDl X D l) (hRm : jRoom X rm_X0_digest.frames rm_X0_digest.locals rm_X0_digest.cells rm_X0_digest.slots) (hE : jEnds X (some .long) (some (.long rE)) hpE rm_X0_digest.cells rm_X0_digest.slots) (hX0 : jX0 X hp0) (hl : jNT l) {K89 : Nat → Int64 → Int32 → jH → Option (Int64 × jH)} (hK89 : ∀ (xa_0 : Nat) (xl_1 : Int64) (xi_3 : Int32) (hp : jH), K89 xa_0 xl_1 xi_3 hp = some (rE, hpE) → J X cX0_digest 5 yX0_digest 0 0 89 [some (.ref xa_0), some (.long xl_1), none, some (.int xi_3), none] [] hp) : ∀ (N : Nat) (xa_0 : Nat) (xl_1 : Int64) (xi_3 : Int32) (xi_4 : Int32) (hp : jH), f_X0_digest_L100 K89 N xa_0 xl_1 xi_3 xi_4 hp = some (rE, hpE) → J X cX0_digest 5 yX0_digest 0 0 100 [some (.ref xa_0), some (.long xl_1), none, some (.int xi_3), some (.int xi_4)] [] hp := by
  intro N
  induction N with
  | zero =>
    intro xa_0 xl_1 xi_3 xi_4 hp hf
    rw [f_X0_digest_L100] at hf
    cases hf
  | succ N ih100 =>
    intro xa_0 xl_1 xi_3 xi_4 hp hf
    rw [f_X0_digest_L100] at hf
    refine J.iload dX0_digest_100 rfl ?_
    refine J.bipush (v := 7) dX0_digest_102 (by decide) ?_
    refine J.icmp_ge (tgt := 128) dX0_digest_104 (by decide) (fun hc44 => ?_) (fun hc44 => ?_)
    · replace hf := (if_pos hc44).symm.trans hf
      refine J.iinc (i := 3) (v := (xi_3 + 1)) (lv' := [some (.ref xa_0), some (.long xl_1), none, some (.int (xi_3 + 1)), some (.int xi_4)]) dX0_digest_128 rfl rfl (Nat.le_of_ble_eq_true rfl) rfl ?_
      refine J.goto (tgt := 89) dX0_digest_131 (by decide) ?_
      refine J.mask (lv' := [some (.ref xa_0), some (.long xl_1), none, some (.int (xi_3 + 1)), none]) [true, true, false, true, false] rfl ?_
      exact hK89 _ _ _ _ hf
    · replace hf := (if_neg hc44).symm.trans hf
      refine J.ldc2 q855 dX0_digest_107 ?_
      refine J.lload_n (i := 1) dX0_digest_110 rfl rfl ?_
      refine J.lmul dX0_digest_111 ?_
      refine J.aload_n (i := 0) dX0_digest_112 rfl rfl ?_
      refine J.iload_n (i := 3) dX0_digest_113 rfl rfl ?_
      refine J.iload dX0_digest_114 rfl ?_
      replace hf := jbd hf
      obtain ⟨u45, h46, hf⟩ := hf
      replace hf := jbs hf
      obtain ⟨v49, hp48, h47, hf⟩ := hf
      refine J.callV (As := [.int xi_3, .int xi_4]) (k2 := 0) (n2 := 0) 0 hDl hRm (w_X0_bar h47) (lw_V q858 q474 q475 q39 q476) hd_X0_bar rfl ⟨_, h46⟩ rfl (Nat.le_of_ble_eq_true rfl) (Nat.le_of_ble_eq_true rfl) (Nat.le_of_ble_eq_true rfl) (Nat.le_of_ble_eq_true rfl) (Nat.le_of_ble_eq_true rfl) (Nat.le_of_ble_eq_true rfl) (Nat.le_of_ble_eq_true rfl) rfl dX0_digest_116 ?_
      refine J.i2l dX0_digest_119 ?_
      refine J.ladd dX0_digest_120 ?_
      refine J.lstore_n (i := 1) (lv' := [some (.ref xa_0), some (.long (((31 : Int64) * xl_1) + v49.toInt64)), none, some (.int xi_3), some (.int xi_4)]) dX0_digest_121 rfl (Nat.le_of_ble_eq_true rfl) rfl ?_
      refine J.iinc (i := 4) (v := (xi_4 + 1)) (lv' := [some (.ref xa_0), some (.long (((31 : Int64) * xl_1) + v49.toInt64)), none, some (.int xi_3), some (.int (xi_4 + 1))]) dX0_digest_122 rfl rfl (Nat.le_of_ble_eq_true rfl) rfl ?_
      refine J.goto (tgt := 100) dX0_digest_125 (by decide) ?_
      exact ih100 _ _ _ _ _ hf
set_option maxHeartbeats 4000000 in
set_option maxRecDepth 100000 in
theorem w_X0_digest_L89 {D : va_G} {l : Launch} {X : jX} {hp0 hpE : jH} {rE : Int64} (hDl : jDl X D l) (hRm : jRoom X rm_X0_digest.frames rm_X0_digest.locals rm_X0_digest.cells rm_X0_digest.slots) (hE : jEnds X (some .long) (some (.long rE)) hpE rm_X0_digest.cells rm_X0_digest.slots) (hX0 : jX0 X hp0) (hl : jNT l) : ∀ (N : Nat) (xa_0 : Nat) (xl_1 : Int64) (xi_3 : Int32) (hp : jH), f_X0_digest_L89 N xa_0 xl_1 xi_3 hp = some (rE, hpE) → J X cX0_digest 5 yX0_digest 0 0 89 [some (.ref xa_0), some (.long xl_1), none, some (.int xi_3), none] [] hp := by
  intro N
  induction N with
  | zero =>
    intro xa_0 xl_1 xi_3 hp hf
    rw [f_X0_digest_L89] at hf
    cases hf
  | succ N ih89 =>
    intro xa_0 xl_1 xi_3 hp hf
    rw [f_X0_digest_L89] at hf
    refine J.iload_n (i := 3) dX0_digest_89 rfl rfl ?_
    refine J.aload_n (i := 0) dX0_digest_90 rfl rfl ?_
    replace hf := jbd hf
    obtain ⟨v5, h6, hf⟩ := hf
    refine J.getI 0 10 in_X0 rfl (Nat.le_of_ble_eq_true rfl) (Or.inl q155) (Or.inl rfl) h6 dX0_digest_91 ?_
    refine J.icmp_ge (tgt := 134) dX0_digest_94 (by decide) (fun hc7 => ?_) (fun hc7 => ?_)
    · replace hf := (if_pos hc7).symm.trans hf
      refine J.iconst (v := 0) dX0_digest_134 (by decide) ?_
      refine J.istore_n (i := 3) (lv' := [some (.ref xa_0), some (.long xl_1), none, some (.int 0), none]) dX0_digest_135 rfl (Nat.le_of_ble_eq_true rfl) rfl ?_
      refine J.widen (k2 := 0 + 4 * (8 - 8)) (n2 := 0 + 229 * (8 - 8)) (Nat.le_of_ble_eq_true rfl) (Nat.le_of_ble_eq_true rfl) ?_
      exact w_X0_digest_L136 hDl hRm hE hX0 hl 8 (Nat.le_refl _) _ _ _ _ hf
    · replace hf := (if_neg hc7).symm.trans hf
      refine J.iconst (v := 3) dX0_digest_97 (by decide) ?_
      refine J.istore (i := 4) (lv' := [some (.ref xa_0), some (.long xl_1), none, some (.int xi_3), some (.int 3)]) dX0_digest_98 (Nat.le_of_ble_eq_true rfl) rfl ?_
      exact w_X0_digest_L100 hDl hRm hE hX0 hl (fun z0 z1 z2 z3 hz => ih89 z0 z1 z2 z3 hz) _ _ _ _ _ _ hf
set_option maxHeartbeats 4000000 in
set_option maxRecDepth 100000 in
theorem w_X0_digest_L54 {D : va_G} {l : Launch} {X : jX} {hp0 hpE : jH} {rE : Int64} (hDl : jDl X D l) (hRm : jRoom X rm_X0_digest.frames rm_X0_digest.locals rm_X0_digest.cells rm_X0_digest.slots) (hE : jEnds X (some .long) (some (.long rE)) hpE rm_X0_digest.cells rm_X0_digest.slots) (hX0 : jX0 X hp0) (hl : jNT l) {K43 : Nat → Int64 → Int32 → jH → Option (Int64 × jH)} (hK43 : ∀ (xa_0 : Nat) (xl_1 : Int64) (xi_3 : Int32) (hp : jH), K43 xa_0 xl_1 xi_3 hp = some (rE, hpE) → J X cX0_digest 5 yX0_digest 0 0 43 [some (.ref xa_0), some (.long xl_1), none, some (.int xi_3), none] [] hp) : ∀ (N : Nat) (xa_0 : Nat) (xl_1 : Int64) (xi_3 : Int32) (xi_4 : Int32) (hp : jH), f_X0_digest_L54 K43 N xa_0 xl_1 xi_3 xi_4 hp = some (rE, hpE) → J X cX0_digest 5 yX0_digest 0 0 54 [some (.ref xa_0), some (.long xl_1), none, some (.int xi_3), some (.int xi_4)] [] hp := by
  intro N
  induction N with
  | zero =>
    intro xa_0 xl_1 xi_3 xi_4 hp hf
    rw [f_X0_digest_L54] at hf
    cases hf
  | succ N ih54 =>
    intro xa_0 xl_1 xi_3 xi_4 hp hf
    rw [f_X0_digest_L54] at hf
    refine J.iload dX0_digest_54 rfl ?_
    refine J.iconst (v := 5) dX0_digest_56 (by decide) ?_
    refine J.icmp_ge (tgt := 81) dX0_digest_57 (by decide) (fun hc50 => ?_) (fun hc50 => ?_)
    · replace hf := (if_pos hc50).symm.trans hf
      refine J.iinc (i := 3) (v := (xi_3 + 1)) (lv' := [some (.ref xa_0), some (.long xl_1), none, some (.int (xi_3 + 1)), some (.int xi_4)]) dX0_digest_81 rfl rfl (Nat.le_of_ble_eq_true rfl) rfl ?_
      refine J.goto (tgt := 43) dX0_digest_84 (by decide) ?_
      refine J.mask (lv' := [some (.ref xa_0), some (.long xl_1), none, some (.int (xi_3 + 1)), none]) [true, true, false, true, false] rfl ?_
      exact hK43 _ _ _ _ hf
    · replace hf := (if_neg hc50).symm.trans hf
      refine J.ldc2 q855 dX0_digest_60 ?_
      refine J.lload_n (i := 1) dX0_digest_63 rfl rfl ?_
      refine J.lmul dX0_digest_64 ?_
      refine J.aload_n (i := 0) dX0_digest_65 rfl rfl ?_
      refine J.iload_n (i := 3) dX0_digest_66 rfl rfl ?_
      refine J.iload dX0_digest_67 rfl ?_
      replace hf := jbd hf
      obtain ⟨u51, h52, hf⟩ := hf
      replace hf := jbs hf
      obtain ⟨v55, hp54, h53, hf⟩ := hf
      refine J.callV (As := [.int xi_3, .int xi_4]) (k2 := 0) (n2 := 0) 0 hDl hRm (w_X0_about h53) (lw_V q857 q347 q348 q39 q349) hd_X0_about rfl ⟨_, h52⟩ rfl (Nat.le_of_ble_eq_true rfl) (Nat.le_of_ble_eq_true rfl) (Nat.le_of_ble_eq_true rfl) (Nat.le_of_ble_eq_true rfl) (Nat.le_of_ble_eq_true rfl) (Nat.le_of_ble_eq_true rfl) (Nat.le_of_ble_eq_true rfl) rfl dX0_digest_69 ?_
      refine J.i2l dX0_digest_72 ?_
      refine J.ladd dX0_digest_73 ?_
      refine J.lstore_n (i := 1) (lv' := [some (.ref xa_0), some (.long (((31 : Int64) * xl_1) + v55.toInt64)), none, some (.int xi_3), some (.int xi_4)]) dX0_digest_74 rfl (Nat.le_of_ble_eq_true rfl) rfl ?_
      refine J.iinc (i := 4) (v := (xi_4 + 1)) (lv' := [some (.ref xa_0), some (.long (((31 : Int64) * xl_1) + v55.toInt64)), none, some (.int xi_3), some (.int (xi_4 + 1))]) dX0_digest_75 rfl rfl (Nat.le_of_ble_eq_true rfl) rfl ?_
      refine J.goto (tgt := 54) dX0_digest_78 (by decide) ?_
      exact ih54 _ _ _ _ _ hf
set_option maxHeartbeats 4000000 in
set_option maxRecDepth 100000 in
theorem w_X0_digest_L43 {D : va_G} {l : Launch} {X : jX} {hp0 hpE : jH} {rE : Int64} (hDl : jDl X D l) (hRm : jRoom X rm_X0_digest.frames rm_X0_digest.locals rm_X0_digest.cells rm_X0_digest.slots) (hE : jEnds X (some .long) (some (.long rE)) hpE rm_X0_digest.cells rm_X0_digest.slots) (hX0 : jX0 X hp0) (hl : jNT l) : ∀ (N : Nat) (xa_0 : Nat) (xl_1 : Int64) (xi_3 : Int32) (hp : jH), f_X0_digest_L43 N xa_0 xl_1 xi_3 hp = some (rE, hpE) → J X cX0_digest 5 yX0_digest 0 0 43 [some (.ref xa_0), some (.long xl_1), none, some (.int xi_3), none] [] hp := by
  intro N
  induction N with
  | zero =>
    intro xa_0 xl_1 xi_3 hp hf
    rw [f_X0_digest_L43] at hf
    cases hf
  | succ N ih43 =>
    intro xa_0 xl_1 xi_3 hp hf
    rw [f_X0_digest_L43] at hf
    refine J.iload_n (i := 3) dX0_digest_43 rfl rfl ?_
    refine J.aload_n (i := 0) dX0_digest_44 rfl rfl ?_
    replace hf := jbd hf
    obtain ⟨v2, h3, hf⟩ := hf
    refine J.getI 0 3 in_X0 rfl (Nat.le_of_ble_eq_true rfl) (Or.inl q146) (Or.inl rfl) h3 dX0_digest_45 ?_
    refine J.icmp_ge (tgt := 87) dX0_digest_48 (by decide) (fun hc4 => ?_) (fun hc4 => ?_)
    · replace hf := (if_pos hc4).symm.trans hf
      refine J.iconst (v := 0) dX0_digest_87 (by decide) ?_
      refine J.istore_n (i := 3) (lv' := [some (.ref xa_0), some (.long xl_1), none, some (.int 0), none]) dX0_digest_88 rfl (Nat.le_of_ble_eq_true rfl) rfl ?_
      exact w_X0_digest_L89 hDl hRm hE hX0 hl _ _ _ _ _ hf
    · replace hf := (if_neg hc4).symm.trans hf
      refine J.iconst (v := 2) dX0_digest_51 (by decide) ?_
      refine J.istore (i := 4) (lv' := [some (.ref xa_0), some (.long xl_1), none, some (.int xi_3), some (.int 2)]) dX0_digest_52 (Nat.le_of_ble_eq_true rfl) rfl ?_
      exact w_X0_digest_L54 hDl hRm hE hX0 hl (fun z0 z1 z2 z3 hz => ih43 z0 z1 z2 z3 hz) _ _ _ _ _ _ hf
set_option maxHeartbeats 4000000 in
set_option maxRecDepth 100000 in
theorem w_X0_digest_j34 {D : va_G} {l : Launch} {X : jX} {hp0 hpE : jH} {rE : Int64} (hDl : jDl X D l) (hRm : jRoom X rm_X0_digest.frames rm_X0_digest.locals rm_X0_digest.cells rm_X0_digest.slots) (hE : jEnds X (some .long) (some (.long rE)) hpE rm_X0_digest.cells rm_X0_digest.slots) (hX0 : jX0 X hp0) (hl : jNT l) {K6 : Nat → Int64 → Int32 → jH → Option (Int64 × jH)} (hK6 : ∀ (xa_0 : Nat) (xl_1 : Int64) (xi_3 : Int32) (hp : jH), K6 xa_0 xl_1 xi_3 hp = some (rE, hpE) → J X cX0_digest 5 yX0_digest 0 0 6 [some (.ref xa_0), some (.long xl_1), none, some (.int xi_3), none] [] hp) {xa_0 : Nat} {xi_3 : Int32} {xl_s0 : Int64} {hp : jH} (hf : f_X0_digest_j34 K6 xa_0 xi_3 xl_s0 hp = some (rE, hpE)) : J X cX0_digest 5 yX0_digest 0 0 34 [some (.ref xa_0), none, none, some (.int xi_3), none] [.long xl_s0] hp := by
  rw [f_X0_digest_j34] at hf
  refine J.lstore_n (i := 1) (lv' := [some (.ref xa_0), some (.long xl_s0), none, some (.int xi_3), none]) dX0_digest_34 rfl (Nat.le_of_ble_eq_true rfl) rfl ?_
  refine J.iinc (i := 3) (v := (xi_3 + 1)) (lv' := [some (.ref xa_0), some (.long xl_s0), none, some (.int (xi_3 + 1)), none]) dX0_digest_35 rfl rfl (Nat.le_of_ble_eq_true rfl) rfl ?_
  refine J.goto (tgt := 6) dX0_digest_38 (by decide) ?_
  exact hK6 _ _ _ _ hf
set_option maxHeartbeats 4000000 in
set_option maxRecDepth 100000 in
theorem w_X0_digest_L6 {D : va_G} {l : Launch} {X : jX} {hp0 hpE : jH} {rE : Int64} (hDl : jDl X D l) (hRm : jRoom X rm_X0_digest.frames rm_X0_digest.locals rm_X0_digest.cells rm_X0_digest.slots) (hE : jEnds X (some .long) (some (.long rE)) hpE rm_X0_digest.cells rm_X0_digest.slots) (hX0 : jX0 X hp0) (hl : jNT l) : ∀ (N : Nat) (xa_0 : Nat) (xl_1 : Int64) (xi_3 : Int32) (hp : jH), f_X0_digest_L6 N xa_0 xl_1 xi_3 hp = some (rE, hpE) → J X cX0_digest 5 yX0_digest 0 0 6 [some (.ref xa_0), some (.long xl_1), none, some (.int xi_3), none] [] hp := by
  intro N
  induction N with
  | zero =>
    intro xa_0 xl_1 xi_3 hp hf
    rw [f_X0_digest_L6] at hf
    cases hf
  | succ N ih6 =>
    intro xa_0 xl_1 xi_3 hp hf
    rw [f_X0_digest_L6] at hf
    refine J.iload_n (i := 3) dX0_digest_6 rfl rfl ?_
    refine J.bipush (v := 8) dX0_digest_7 (by decide) ?_
    refine J.icmp_ge (tgt := 41) dX0_digest_9 (by decide) (fun hc1 => ?_) (fun hc1 => ?_)
    · replace hf := (if_pos hc1).symm.trans hf
      refine J.iconst (v := 0) dX0_digest_41 (by decide) ?_
      refine J.istore_n (i := 3) (lv' := [some (.ref xa_0), some (.long xl_1), none, some (.int 0), none]) dX0_digest_42 rfl (Nat.le_of_ble_eq_true rfl) rfl ?_
      exact w_X0_digest_L43 hDl hRm hE hX0 hl _ _ _ _ _ hf
    · replace hf := (if_neg hc1).symm.trans hf
      refine J.iload_n (i := 3) dX0_digest_12 rfl rfl ?_
      refine J.bipush (v := 6) dX0_digest_13 (by decide) ?_
      refine J.icmp_ne (tgt := 22) dX0_digest_15 (by decide) (fun hc56 => ?_) (fun hc56 => ?_)
      · replace hf := (if_neg hc56).symm.trans hf
        refine J.ldc2 q855 dX0_digest_22 ?_
        refine J.lload_n (i := 1) dX0_digest_25 rfl rfl ?_
        refine J.lmul dX0_digest_26 ?_
        refine J.aload_n (i := 0) dX0_digest_27 rfl rfl ?_
        refine J.iload_n (i := 3) dX0_digest_28 rfl rfl ?_
        replace hf := jbd hf
        obtain ⟨u57, h58, hf⟩ := hf
        replace hf := jbs hf
        obtain ⟨v61, hp60, h59, hf⟩ := hf
        refine J.callV (As := [.int xi_3]) (k2 := 0) (n2 := 0) 0 hDl hRm (w_X0_count h59) (lw_V q856 q843 q844 q39 q845) hd_X0_count rfl ⟨_, h58⟩ rfl (Nat.le_of_ble_eq_true rfl) (Nat.le_of_ble_eq_true rfl) (Nat.le_of_ble_eq_true rfl) (Nat.le_of_ble_eq_true rfl) (Nat.le_of_ble_eq_true rfl) (Nat.le_of_ble_eq_true rfl) (Nat.le_of_ble_eq_true rfl) rfl dX0_digest_29 ?_
        refine J.i2l dX0_digest_32 ?_
        refine J.ladd dX0_digest_33 ?_
        refine J.mask (lv' := [some (.ref xa_0), none, none, some (.int xi_3), none]) [true, false, false, true, false] rfl ?_
        exact w_X0_digest_j34 hDl hRm hE hX0 hl (fun z0 z1 z2 z3 hz => ih6 z0 z1 z2 z3 hz) hf
      · replace hf := (if_pos hc56).symm.trans hf
        refine J.lload_n (i := 1) dX0_digest_18 rfl rfl ?_
        refine J.goto (tgt := 34) dX0_digest_19 (by decide) ?_
        refine J.mask (lv' := [some (.ref xa_0), none, none, some (.int xi_3), none]) [true, false, false, true, false] rfl ?_
        exact w_X0_digest_j34 hDl hRm hE hX0 hl (fun z0 z1 z2 z3 hz => ih6 z0 z1 z2 z3 hz) hf
set_option maxHeartbeats 4000000 in
set_option maxRecDepth 100000 in
theorem w_X0_digest {D : va_G} {l : Launch} {hp hpE : jH} {rE : Int64} {this : Nat} (hl : jNT l) (hf : f_X0_digest this hp = some (rE, hpE)) : jM D l yX0_digest (ws_ yX0_digest cX0_digest 5 (some .long)) rm_X0_digest hp [.ref this] (some (.long rE)) hpE := by
  refine jM.of (lv0 := [some (.ref this), none, none, none, none]) (by decide) (Nat.le_of_ble_eq_true rfl) rfl (fun X hDl hRm hE hX0 => ?_)
  rw [f_X0_digest] at hf
  refine J.ldc2 q854 dX0_digest_0 ?_
  refine J.lstore_n (i := 1) (lv' := [some (.ref this), some (.long (17 : Int64)), none, none, none]) dX0_digest_3 rfl (Nat.le_of_ble_eq_true rfl) rfl ?_
  refine J.iconst (v := 0) dX0_digest_4 (by decide) ?_
  refine J.istore_n (i := 3) (lv' := [some (.ref this), some (.long (17 : Int64)), none, some (.int 0), none]) dX0_digest_5 rfl (Nat.le_of_ble_eq_true rfl) rfl ?_
  exact w_X0_digest_L6 hDl hRm hE hX0 hl _ _ _ _ _ hf
