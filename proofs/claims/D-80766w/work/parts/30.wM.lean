/-! the reference: walks (printed by gen/model.py) -/
set_option maxRecDepth 100000
def rm_X5_in : Room := { frames := 0, cells := 0, slots := 0, locals := 0 }
theorem hs_X5_in : yX5_in.cls ≠ "java/lang/invoke/MethodHandle" ∧ yX5_in.cls ≠ "java/lang/invoke/VarHandle" ∧ (parseMethodDescriptor yX5_in.desc).map (fun d => d.parameters.length) = some 3 := by decide +kernel
set_option maxHeartbeats 4000000 in
set_option maxRecDepth 100000 in
theorem w_X5_in {D : va_G} {l : Launch} {hp hpE : jH} {rE : Int32} {p1 : Int64} {p2 : Int64} {p3 : Int64} (hf : f_X5_in p1 p2 p3 hp = some (rE, hpE)) : jM D l yX5_in (ws_ yX5_in cX5_in 6 (some .boolean)) rm_X5_in hp [.long p1, .long p2, .long p3] (some (.int rE)) hpE := by
  refine jM.of (lv0 := [some (.long p1), none, some (.long p2), none, some (.long p3), none]) (by decide) (Nat.le_of_ble_eq_true rfl) rfl (fun X hDl hRm hE hX0 => ?_)
  rw [f_X5_in] at hf
  refine J.lload_n (i := 0) dX5_in_0 rfl rfl ?_
  refine J.lload_n (i := 2) dX5_in_1 rfl rfl ?_
  refine J.lcmp dX5_in_2 ?_
  refine J.if_lt (tgt := 17) dX5_in_3 (by decide) (fun hc1 => ?_) (fun hc1 => ?_)
  · replace hf := (if_pos hc1).symm.trans hf
    refine J.iconst (v := 0) dX5_in_17 (by decide) ?_
    obtain ⟨rfl, rfl⟩ := jso hf
    exact J.zret hE narrow_b0 (Nat.le_of_ble_eq_true rfl) (Nat.le_of_ble_eq_true rfl) dX5_in_18
  · replace hf := (if_neg hc1).symm.trans hf
    refine J.lload_n (i := 0) dX5_in_6 rfl rfl ?_
    refine J.lload dX5_in_7 rfl ?_
    refine J.lcmp dX5_in_9 ?_
    refine J.if_gt (tgt := 17) dX5_in_10 (by decide) (fun hc2 => ?_) (fun hc2 => ?_)
    · replace hf := (if_pos hc2).symm.trans hf
      refine J.iconst (v := 0) dX5_in_17 (by decide) ?_
      obtain ⟨rfl, rfl⟩ := jso hf
      exact J.zret hE narrow_b0 (Nat.le_of_ble_eq_true rfl) (Nat.le_of_ble_eq_true rfl) dX5_in_18
    · replace hf := (if_neg hc2).symm.trans hf
      refine J.iconst (v := 1) dX5_in_13 (by decide) ?_
      refine J.goto (tgt := 18) dX5_in_14 (by decide) ?_
      obtain ⟨rfl, rfl⟩ := jso hf
      exact J.zret hE narrow_b1 (Nat.le_of_ble_eq_true rfl) (Nat.le_of_ble_eq_true rfl) dX5_in_18
def rm_X5_isProfile : Room := { frames := 1, cells := 0, slots := 0, locals := 25 }
theorem hd_X5_isProfile : yX5_isProfile.cls = RX5 ∧ yX5_isProfile.cls ≠ "java/lang/invoke/MethodHandle" ∧ yX5_isProfile.cls ≠ "java/lang/invoke/VarHandle" ∧ (parseMethodDescriptor yX5_isProfile.desc).map (fun d => d.parameters.length) = some 1 := by decide +kernel
set_option maxHeartbeats 4000000 in
set_option maxRecDepth 100000 in
theorem w_X5_isProfile {D : va_G} {l : Launch} {hp hpE : jH} {rE : Int32} {this : Nat} {p1 : Int32} (hf : f_X5_isProfile this p1 hp = some (rE, hpE)) : jM D l yX5_isProfile (ws_ yX5_isProfile cX5_isProfile 2 (some .boolean)) rm_X5_isProfile hp [.ref this, .int p1] (some (.int rE)) hpE := by
  refine jM.of (lv0 := [some (.ref this), some (.int p1)]) (by decide) (Nat.le_of_ble_eq_true rfl) rfl (fun X hDl hRm hE hX0 => ?_)
  rw [f_X5_isProfile] at hf
  refine J.iload_n (i := 1) dX5_isProfile_0 rfl rfl ?_
  refine J.i2l dX5_isProfile_1 ?_
  refine J.lconst (v := 0) dX5_isProfile_2 (by decide) ?_
  refine J.aload_n (i := 0) dX5_isProfile_3 rfl rfl ?_
  replace hf := jbd hf
  obtain ⟨v1, h2, hf⟩ := hf
  refine J.getI 9 1 in_X5 rfl (Nat.le_of_ble_eq_true rfl) (Or.inl q868) (Or.inl rfl) h2 dX5_isProfile_4 ?_
  refine J.iconst (v := 1) dX5_isProfile_7 (by decide) ?_
  refine J.isub dX5_isProfile_8 ?_
  refine J.i2l dX5_isProfile_9 ?_
  replace hf := jbs hf
  obtain ⟨v5, hp4, h3, hf⟩ := hf
  refine J.callS (As := [.long p1.toInt64, .long (0 : Int64), .long ((v1 - 1).toInt64)]) (k2 := 0) (n2 := 0) hDl hRm (w_X5_in h3) (lw_S q1031 q1032 q44 q1033) hs_X5_in rfl (Nat.le_of_ble_eq_true rfl) (Nat.le_of_ble_eq_true rfl) (Nat.le_of_ble_eq_true rfl) (Nat.le_of_ble_eq_true rfl) (Nat.le_of_ble_eq_true rfl) (Nat.le_of_ble_eq_true rfl) (Nat.le_of_ble_eq_true rfl) rfl dX5_isProfile_10 ?_
  by_cases hz6 : ¬ (v5 = (0 : Int32) ∨ v5 = (1 : Int32))
  · replace hf := (if_pos hz6).symm.trans hf
    cases hf
  replace hf := (if_neg hz6).symm.trans hf
  obtain ⟨rfl, rfl⟩ := jso hf
  exact J.zret hE (jz01n (Decidable.not_not.mp hz6)) (Nat.le_of_ble_eq_true rfl) (Nat.le_of_ble_eq_true rfl) dX5_isProfile_13
def rm_X5_isDie : Room := { frames := 1, cells := 0, slots := 0, locals := 25 }
theorem hd_X5_isDie : yX5_isDie.cls = RX5 ∧ yX5_isDie.cls ≠ "java/lang/invoke/MethodHandle" ∧ yX5_isDie.cls ≠ "java/lang/invoke/VarHandle" ∧ (parseMethodDescriptor yX5_isDie.desc).map (fun d => d.parameters.length) = some 1 := by decide +kernel
set_option maxHeartbeats 4000000 in
set_option maxRecDepth 100000 in
theorem w_X5_isDie {D : va_G} {l : Launch} {hp hpE : jH} {rE : Int32} {this : Nat} {p1 : Int32} (hf : f_X5_isDie this p1 hp = some (rE, hpE)) : jM D l yX5_isDie (ws_ yX5_isDie cX5_isDie 2 (some .boolean)) rm_X5_isDie hp [.ref this, .int p1] (some (.int rE)) hpE := by
  refine jM.of (lv0 := [some (.ref this), some (.int p1)]) (by decide) (Nat.le_of_ble_eq_true rfl) rfl (fun X hDl hRm hE hX0 => ?_)
  rw [f_X5_isDie] at hf
  refine J.iload_n (i := 1) dX5_isDie_0 rfl rfl ?_
  refine J.i2l dX5_isDie_1 ?_
  refine J.lconst (v := 0) dX5_isDie_2 (by decide) ?_
  refine J.aload_n (i := 0) dX5_isDie_3 rfl rfl ?_
  replace hf := jbd hf
  obtain ⟨v1, h2, hf⟩ := hf
  refine J.getI 9 6 in_X5 rfl (Nat.le_of_ble_eq_true rfl) (Or.inl q873) (Or.inl rfl) h2 dX5_isDie_4 ?_
  refine J.iconst (v := 1) dX5_isDie_7 (by decide) ?_
  refine J.isub dX5_isDie_8 ?_
  refine J.i2l dX5_isDie_9 ?_
  replace hf := jbs hf
  obtain ⟨v5, hp4, h3, hf⟩ := hf
  refine J.callS (As := [.long p1.toInt64, .long (0 : Int64), .long ((v1 - 1).toInt64)]) (k2 := 0) (n2 := 0) hDl hRm (w_X5_in h3) (lw_S q1031 q1032 q44 q1033) hs_X5_in rfl (Nat.le_of_ble_eq_true rfl) (Nat.le_of_ble_eq_true rfl) (Nat.le_of_ble_eq_true rfl) (Nat.le_of_ble_eq_true rfl) (Nat.le_of_ble_eq_true rfl) (Nat.le_of_ble_eq_true rfl) (Nat.le_of_ble_eq_true rfl) rfl dX5_isDie_10 ?_
  by_cases hz6 : ¬ (v5 = (0 : Int32) ∨ v5 = (1 : Int32))
  · replace hf := (if_pos hz6).symm.trans hf
    cases hf
  replace hf := (if_neg hz6).symm.trans hf
  obtain ⟨rfl, rfl⟩ := jso hf
  exact J.zret hE (jz01n (Decidable.not_not.mp hz6)) (Nat.le_of_ble_eq_true rfl) (Nat.le_of_ble_eq_true rfl) dX5_isDie_13
def rm_X5_init : Room := { frames := 1, cells := 34, slots := 3013, locals := 24 }
theorem hi_X5_init : yX5_init.name = "<init>" ∧ yX5_init.cls ≠ "java/lang/invoke/MethodHandle" ∧ yX5_init.cls ≠ "java/lang/invoke/VarHandle" ∧ (parseMethodDescriptor yX5_init.desc).map (fun d => d.parameters.length) = some 0 := by decide +kernel
set_option maxHeartbeats 4000000 in
set_option maxRecDepth 100000 in
theorem w_X5_init_L356 {D : va_G} {l : Launch} {X : jX} {hp0 hpE : jH} (hDl : jDl X D l) (hRm : jRoom X rm_X5_init.frames rm_X5_init.locals rm_X5_init.cells rm_X5_init.slots) (hE : jEnds X none none hpE rm_X5_init.cells rm_X5_init.slots) (hX0 : jX0 X hp0) : ∀ (N : Nat) (xa_0 : Nat) (xi_1 : Int32) (hp : jH), f_X5_init_L356 N xa_0 xi_1 hp = some hpE → J X cX5_init 2 yX5_init 34 3013 356 [some (.ref xa_0), some (.int xi_1)] [] hp := by
  intro N
  induction N with
  | zero =>
    intro xa_0 xi_1 hp hf
    rw [f_X5_init_L356] at hf
    cases hf
  | succ N ih356 =>
    intro xa_0 xi_1 hp hf
    rw [f_X5_init_L356] at hf
    refine J.iload_n (i := 1) dX5_init_356 rfl rfl ?_
    refine J.iconst (v := 4) dX5_init_357 (by decide) ?_
    refine J.icmp_ge (tgt := 374) dX5_init_358 (by decide) (fun hc169 => ?_) (fun hc169 => ?_)
    · replace hf := (if_pos hc169).symm.trans hf
      obtain rfl := Option.some.inj hf
      exact J.vret hE (Nat.le_of_ble_eq_true rfl) (Nat.le_of_ble_eq_true rfl) dX5_init_374
    · replace hf := (if_neg hc169).symm.trans hf
      refine J.aload_n (i := 0) dX5_init_361 rfl rfl ?_
      replace hf := jbd hf
      obtain ⟨a170, h171, hf⟩ := hf
      refine J.getA 9 47 in_X5 rfl (Nat.le_of_ble_eq_true rfl) (Or.inl q914) (Or.inl rfl) h171 dX5_init_362 ?_
      refine J.iload_n (i := 1) dX5_init_365 rfl rfl ?_
      refine J.iconst (v := (-1)) dX5_init_366 (by decide) ?_
      replace hf := jbd hf
      obtain ⟨hp172, h173, hf⟩ := hf
      refine J.iast h173 dX5_init_367 ?_
      refine J.iinc (i := 1) (v := (xi_1 + 1)) (lv' := [some (.ref xa_0), some (.int (xi_1 + 1))]) dX5_init_368 rfl rfl (Nat.le_of_ble_eq_true rfl) rfl ?_
      refine J.goto (tgt := 356) dX5_init_371 (by decide) ?_
      exact ih356 _ _ _ hf
set_option maxHeartbeats 4000000 in
set_option maxRecDepth 100000 in
theorem w_X5_init {D : va_G} {l : Launch} {hp hpE : jH} {this : Nat} (hf : f_X5_init this hp = some hpE) : jM D l yX5_init (ws_ yX5_init cX5_init 2 none) rm_X5_init hp [.ref this] none hpE := by
  refine jM.of (lv0 := [some (.ref this), none]) (by decide) (Nat.le_of_ble_eq_true rfl) rfl (fun X hDl hRm hE hX0 => ?_)
  rw [f_X5_init] at hf
  refine J.aload_n (i := 0) dX5_init_0 rfl rfl ?_
  refine J.objInit hRm q865 q73 q74 (Nat.le_of_ble_eq_true rfl) (Nat.le_of_ble_eq_true rfl) dX5_init_1 ?_
  refine J.aload_n (i := 0) dX5_init_4 rfl rfl ?_
  refine J.bipush (v := 6) dX5_init_5 (by decide) ?_
  replace hf := jbd hf
  obtain ⟨hp1, h2, hf⟩ := hf
  refine J.newaI (B := 6) (k2 := 1) (n2 := 6) hRm q105 rfl rfl rfl (by decide) (by decide) (Nat.le_refl _) (Nat.le_of_ble_eq_true rfl) (Nat.le_of_ble_eq_true rfl) (Nat.le_of_ble_eq_true rfl) (Nat.le_of_ble_eq_true rfl) (Nat.le_of_ble_eq_true rfl) h2 dX5_init_7 ?_
  replace hf := jbd hf
  obtain ⟨hp3, h4, hf⟩ := hf
  refine J.putF (ty := (.array .int)) 9 0 in_X5 ap9 rfl (Nat.le_of_ble_eq_true rfl) q867 rfl rfl rfl rfl (by decide +kernel) (fun _ => ⟨rfl, rfl⟩) h4 dX5_init_9 ?_
  refine J.aload_n (i := 0) dX5_init_12 rfl rfl ?_
  refine J.bipush (v := 8) dX5_init_13 (by decide) ?_
  replace hf := jbd hf
  obtain ⟨hp5, h6, hf⟩ := hf
  refine J.newaI (B := 8) (k2 := 2) (n2 := 14) hRm q105 rfl rfl rfl (by decide) (by decide) (Nat.le_refl _) (Nat.le_of_ble_eq_true rfl) (Nat.le_of_ble_eq_true rfl) (Nat.le_of_ble_eq_true rfl) (Nat.le_of_ble_eq_true rfl) (Nat.le_of_ble_eq_true rfl) h6 dX5_init_15 ?_
  replace hf := jbd hf
  obtain ⟨hp7, h8, hf⟩ := hf
  refine J.putF (ty := (.array .int)) 9 2 in_X5 ap9 rfl (Nat.le_of_ble_eq_true rfl) q869 rfl rfl rfl rfl (by decide +kernel) (fun _ => ⟨rfl, rfl⟩) h8 dX5_init_17 ?_
  refine J.aload_n (i := 0) dX5_init_20 rfl rfl ?_
  refine J.bipush (v := 8) dX5_init_21 (by decide) ?_
  replace hf := jbd hf
  obtain ⟨hp9, h10, hf⟩ := hf
  refine J.newaI (B := 8) (k2 := 3) (n2 := 22) hRm q105 rfl rfl rfl (by decide) (by decide) (Nat.le_refl _) (Nat.le_of_ble_eq_true rfl) (Nat.le_of_ble_eq_true rfl) (Nat.le_of_ble_eq_true rfl) (Nat.le_of_ble_eq_true rfl) (Nat.le_of_ble_eq_true rfl) h10 dX5_init_23 ?_
  replace hf := jbd hf
  obtain ⟨hp11, h12, hf⟩ := hf
  refine J.putF (ty := (.array .int)) 9 3 in_X5 ap9 rfl (Nat.le_of_ble_eq_true rfl) q870 rfl rfl rfl rfl (by decide +kernel) (fun _ => ⟨rfl, rfl⟩) h12 dX5_init_25 ?_
  refine J.aload_n (i := 0) dX5_init_28 rfl rfl ?_
  refine J.bipush (v := 8) dX5_init_29 (by decide) ?_
  replace hf := jbd hf
  obtain ⟨hp13, h14, hf⟩ := hf
  refine J.newaI (B := 8) (k2 := 4) (n2 := 30) hRm q105 rfl rfl rfl (by decide) (by decide) (Nat.le_refl _) (Nat.le_of_ble_eq_true rfl) (Nat.le_of_ble_eq_true rfl) (Nat.le_of_ble_eq_true rfl) (Nat.le_of_ble_eq_true rfl) (Nat.le_of_ble_eq_true rfl) h14 dX5_init_31 ?_
  replace hf := jbd hf
  obtain ⟨hp15, h16, hf⟩ := hf
  refine J.putF (ty := (.array .int)) 9 4 in_X5 ap9 rfl (Nat.le_of_ble_eq_true rfl) q871 rfl rfl rfl rfl (by decide +kernel) (fun _ => ⟨rfl, rfl⟩) h16 dX5_init_33 ?_
  refine J.aload_n (i := 0) dX5_init_36 rfl rfl ?_
  refine J.bipush (v := 8) dX5_init_37 (by decide) ?_
  replace hf := jbd hf
  obtain ⟨hp17, h18, hf⟩ := hf
  refine J.newaI (B := 8) (k2 := 5) (n2 := 38) hRm q105 rfl rfl rfl (by decide) (by decide) (Nat.le_refl _) (Nat.le_of_ble_eq_true rfl) (Nat.le_of_ble_eq_true rfl) (Nat.le_of_ble_eq_true rfl) (Nat.le_of_ble_eq_true rfl) (Nat.le_of_ble_eq_true rfl) h18 dX5_init_39 ?_
  replace hf := jbd hf
  obtain ⟨hp19, h20, hf⟩ := hf
  refine J.putF (ty := (.array .int)) 9 5 in_X5 ap9 rfl (Nat.le_of_ble_eq_true rfl) q872 rfl rfl rfl rfl (by decide +kernel) (fun _ => ⟨rfl, rfl⟩) h20 dX5_init_41 ?_
  refine J.aload_n (i := 0) dX5_init_44 rfl rfl ?_
  refine J.bipush (v := 12) dX5_init_45 (by decide) ?_
  replace hf := jbd hf
  obtain ⟨hp21, h22, hf⟩ := hf
  refine J.newaI (B := 12) (k2 := 6) (n2 := 50) hRm q105 rfl rfl rfl (by decide) (by decide) (Nat.le_refl _) (Nat.le_of_ble_eq_true rfl) (Nat.le_of_ble_eq_true rfl) (Nat.le_of_ble_eq_true rfl) (Nat.le_of_ble_eq_true rfl) (Nat.le_of_ble_eq_true rfl) h22 dX5_init_47 ?_
  replace hf := jbd hf
  obtain ⟨hp23, h24, hf⟩ := hf
  refine J.putF (ty := (.array .int)) 9 7 in_X5 ap9 rfl (Nat.le_of_ble_eq_true rfl) q874 rfl rfl rfl rfl (by decide +kernel) (fun _ => ⟨rfl, rfl⟩) h24 dX5_init_49 ?_
  refine J.aload_n (i := 0) dX5_init_52 rfl rfl ?_
  refine J.bipush (v := 12) dX5_init_53 (by decide) ?_
  replace hf := jbd hf
  obtain ⟨hp25, h26, hf⟩ := hf
  refine J.newaI (B := 12) (k2 := 7) (n2 := 62) hRm q105 rfl rfl rfl (by decide) (by decide) (Nat.le_refl _) (Nat.le_of_ble_eq_true rfl) (Nat.le_of_ble_eq_true rfl) (Nat.le_of_ble_eq_true rfl) (Nat.le_of_ble_eq_true rfl) (Nat.le_of_ble_eq_true rfl) h26 dX5_init_55 ?_
  replace hf := jbd hf
  obtain ⟨hp27, h28, hf⟩ := hf
  refine J.putF (ty := (.array .int)) 9 8 in_X5 ap9 rfl (Nat.le_of_ble_eq_true rfl) q875 rfl rfl rfl rfl (by decide +kernel) (fun _ => ⟨rfl, rfl⟩) h28 dX5_init_57 ?_
  refine J.aload_n (i := 0) dX5_init_60 rfl rfl ?_
  refine J.bipush (v := 12) dX5_init_61 (by decide) ?_
  replace hf := jbd hf
  obtain ⟨hp29, h30, hf⟩ := hf
  refine J.newaI (B := 12) (k2 := 8) (n2 := 74) hRm q105 rfl rfl rfl (by decide) (by decide) (Nat.le_refl _) (Nat.le_of_ble_eq_true rfl) (Nat.le_of_ble_eq_true rfl) (Nat.le_of_ble_eq_true rfl) (Nat.le_of_ble_eq_true rfl) (Nat.le_of_ble_eq_true rfl) h30 dX5_init_63 ?_
  replace hf := jbd hf
  obtain ⟨hp31, h32, hf⟩ := hf
  refine J.putF (ty := (.array .int)) 9 9 in_X5 ap9 rfl (Nat.le_of_ble_eq_true rfl) q876 rfl rfl rfl rfl (by decide +kernel) (fun _ => ⟨rfl, rfl⟩) h32 dX5_init_65 ?_
  refine J.aload_n (i := 0) dX5_init_68 rfl rfl ?_
  refine J.bipush (v := 12) dX5_init_69 (by decide) ?_
  replace hf := jbd hf
  obtain ⟨hp33, h34, hf⟩ := hf
  refine J.newaI (B := 12) (k2 := 9) (n2 := 86) hRm q105 rfl rfl rfl (by decide) (by decide) (Nat.le_refl _) (Nat.le_of_ble_eq_true rfl) (Nat.le_of_ble_eq_true rfl) (Nat.le_of_ble_eq_true rfl) (Nat.le_of_ble_eq_true rfl) (Nat.le_of_ble_eq_true rfl) h34 dX5_init_71 ?_
  replace hf := jbd hf
  obtain ⟨hp35, h36, hf⟩ := hf
  refine J.putF (ty := (.array .int)) 9 10 in_X5 ap9 rfl (Nat.le_of_ble_eq_true rfl) q877 rfl rfl rfl rfl (by decide +kernel) (fun _ => ⟨rfl, rfl⟩) h36 dX5_init_73 ?_
  refine J.aload_n (i := 0) dX5_init_76 rfl rfl ?_
  refine J.bipush (v := 12) dX5_init_77 (by decide) ?_
  replace hf := jbd hf
  obtain ⟨hp37, h38, hf⟩ := hf
  refine J.newaI (B := 12) (k2 := 10) (n2 := 98) hRm q105 rfl rfl rfl (by decide) (by decide) (Nat.le_refl _) (Nat.le_of_ble_eq_true rfl) (Nat.le_of_ble_eq_true rfl) (Nat.le_of_ble_eq_true rfl) (Nat.le_of_ble_eq_true rfl) (Nat.le_of_ble_eq_true rfl) h38 dX5_init_79 ?_
  replace hf := jbd hf
  obtain ⟨hp39, h40, hf⟩ := hf
  refine J.putF (ty := (.array .int)) 9 11 in_X5 ap9 rfl (Nat.le_of_ble_eq_true rfl) q878 rfl rfl rfl rfl (by decide +kernel) (fun _ => ⟨rfl, rfl⟩) h40 dX5_init_81 ?_
  refine J.aload_n (i := 0) dX5_init_84 rfl rfl ?_
  refine J.sipush (v := 200) dX5_init_85 (by decide) ?_
  replace hf := jbd hf
  obtain ⟨hp41, h42, hf⟩ := hf
  refine J.newaI (B := 200) (k2 := 11) (n2 := 298) hRm q105 rfl rfl rfl (by decide) (by decide) (Nat.le_refl _) (Nat.le_of_ble_eq_true rfl) (Nat.le_of_ble_eq_true rfl) (Nat.le_of_ble_eq_true rfl) (Nat.le_of_ble_eq_true rfl) (Nat.le_of_ble_eq_true rfl) h42 dX5_init_88 ?_
  replace hf := jbd hf
  obtain ⟨hp43, h44, hf⟩ := hf
  refine J.putF (ty := (.array .int)) 9 14 in_X5 ap9 rfl (Nat.le_of_ble_eq_true rfl) q881 rfl rfl rfl rfl (by decide +kernel) (fun _ => ⟨rfl, rfl⟩) h44 dX5_init_90 ?_
  refine J.aload_n (i := 0) dX5_init_93 rfl rfl ?_
  refine J.sipush (v := 200) dX5_init_94 (by decide) ?_
  replace hf := jbd hf
  obtain ⟨hp45, h46, hf⟩ := hf
  refine J.newaI (B := 200) (k2 := 12) (n2 := 498) hRm q105 rfl rfl rfl (by decide) (by decide) (Nat.le_refl _) (Nat.le_of_ble_eq_true rfl) (Nat.le_of_ble_eq_true rfl) (Nat.le_of_ble_eq_true rfl) (Nat.le_of_ble_eq_true rfl) (Nat.le_of_ble_eq_true rfl) h46 dX5_init_97 ?_
  replace hf := jbd hf
  obtain ⟨hp47, h48, hf⟩ := hf
  refine J.putF (ty := (.array .int)) 9 15 in_X5 ap9 rfl (Nat.le_of_ble_eq_true rfl) q882 rfl rfl rfl rfl (by decide +kernel) (fun _ => ⟨rfl, rfl⟩) h48 dX5_init_99 ?_
  refine J.aload_n (i := 0) dX5_init_102 rfl rfl ?_
  refine J.sipush (v := 200) dX5_init_103 (by decide) ?_
  replace hf := jbd hf
  obtain ⟨hp49, h50, hf⟩ := hf
  refine J.newaI (B := 200) (k2 := 13) (n2 := 698) hRm q105 rfl rfl rfl (by decide) (by decide) (Nat.le_refl _) (Nat.le_of_ble_eq_true rfl) (Nat.le_of_ble_eq_true rfl) (Nat.le_of_ble_eq_true rfl) (Nat.le_of_ble_eq_true rfl) (Nat.le_of_ble_eq_true rfl) h50 dX5_init_106 ?_
  replace hf := jbd hf
  obtain ⟨hp51, h52, hf⟩ := hf
  refine J.putF (ty := (.array .int)) 9 16 in_X5 ap9 rfl (Nat.le_of_ble_eq_true rfl) q883 rfl rfl rfl rfl (by decide +kernel) (fun _ => ⟨rfl, rfl⟩) h52 dX5_init_108 ?_
  refine J.aload_n (i := 0) dX5_init_111 rfl rfl ?_
  refine J.sipush (v := 200) dX5_init_112 (by decide) ?_
  replace hf := jbd hf
  obtain ⟨hp53, h54, hf⟩ := hf
  refine J.newaI (B := 200) (k2 := 14) (n2 := 898) hRm q105 rfl rfl rfl (by decide) (by decide) (Nat.le_refl _) (Nat.le_of_ble_eq_true rfl) (Nat.le_of_ble_eq_true rfl) (Nat.le_of_ble_eq_true rfl) (Nat.le_of_ble_eq_true rfl) (Nat.le_of_ble_eq_true rfl) h54 dX5_init_115 ?_
  replace hf := jbd hf
  obtain ⟨hp55, h56, hf⟩ := hf
  refine J.putF (ty := (.array .int)) 9 17 in_X5 ap9 rfl (Nat.le_of_ble_eq_true rfl) q884 rfl rfl rfl rfl (by decide +kernel) (fun _ => ⟨rfl, rfl⟩) h56 dX5_init_117 ?_
  refine J.aload_n (i := 0) dX5_init_120 rfl rfl ?_
  refine J.sipush (v := 200) dX5_init_121 (by decide) ?_
  replace hf := jbd hf
  obtain ⟨hp57, h58, hf⟩ := hf
  refine J.newaI (B := 200) (k2 := 15) (n2 := 1098) hRm q105 rfl rfl rfl (by decide) (by decide) (Nat.le_refl _) (Nat.le_of_ble_eq_true rfl) (Nat.le_of_ble_eq_true rfl) (Nat.le_of_ble_eq_true rfl) (Nat.le_of_ble_eq_true rfl) (Nat.le_of_ble_eq_true rfl) h58 dX5_init_124 ?_
  replace hf := jbd hf
  obtain ⟨hp59, h60, hf⟩ := hf
  refine J.putF (ty := (.array .int)) 9 18 in_X5 ap9 rfl (Nat.le_of_ble_eq_true rfl) q885 rfl rfl rfl rfl (by decide +kernel) (fun _ => ⟨rfl, rfl⟩) h60 dX5_init_126 ?_
  refine J.aload_n (i := 0) dX5_init_129 rfl rfl ?_
  refine J.sipush (v := 200) dX5_init_130 (by decide) ?_
  replace hf := jbd hf
  obtain ⟨hp61, h62, hf⟩ := hf
  refine J.newaI (B := 200) (k2 := 16) (n2 := 1298) hRm q105 rfl rfl rfl (by decide) (by decide) (Nat.le_refl _) (Nat.le_of_ble_eq_true rfl) (Nat.le_of_ble_eq_true rfl) (Nat.le_of_ble_eq_true rfl) (Nat.le_of_ble_eq_true rfl) (Nat.le_of_ble_eq_true rfl) h62 dX5_init_133 ?_
  replace hf := jbd hf
  obtain ⟨hp63, h64, hf⟩ := hf
  refine J.putF (ty := (.array .int)) 9 19 in_X5 ap9 rfl (Nat.le_of_ble_eq_true rfl) q886 rfl rfl rfl rfl (by decide +kernel) (fun _ => ⟨rfl, rfl⟩) h64 dX5_init_135 ?_
  refine J.aload_n (i := 0) dX5_init_138 rfl rfl ?_
  refine J.sipush (v := 200) dX5_init_139 (by decide) ?_
  replace hf := jbd hf
  obtain ⟨hp65, h66, hf⟩ := hf
  refine J.newaI (B := 200) (k2 := 17) (n2 := 1498) hRm q105 rfl rfl rfl (by decide) (by decide) (Nat.le_refl _) (Nat.le_of_ble_eq_true rfl) (Nat.le_of_ble_eq_true rfl) (Nat.le_of_ble_eq_true rfl) (Nat.le_of_ble_eq_true rfl) (Nat.le_of_ble_eq_true rfl) h66 dX5_init_142 ?_
  replace hf := jbd hf
  obtain ⟨hp67, h68, hf⟩ := hf
  refine J.putF (ty := (.array .int)) 9 20 in_X5 ap9 rfl (Nat.le_of_ble_eq_true rfl) q887 rfl rfl rfl rfl (by decide +kernel) (fun _ => ⟨rfl, rfl⟩) h68 dX5_init_144 ?_
  refine J.aload_n (i := 0) dX5_init_147 rfl rfl ?_
  refine J.sipush (v := 200) dX5_init_148 (by decide) ?_
  replace hf := jbd hf
  obtain ⟨hp69, h70, hf⟩ := hf
  refine J.newaI (B := 200) (k2 := 18) (n2 := 1698) hRm q105 rfl rfl rfl (by decide) (by decide) (Nat.le_refl _) (Nat.le_of_ble_eq_true rfl) (Nat.le_of_ble_eq_true rfl) (Nat.le_of_ble_eq_true rfl) (Nat.le_of_ble_eq_true rfl) (Nat.le_of_ble_eq_true rfl) h70 dX5_init_151 ?_
  replace hf := jbd hf
  obtain ⟨hp71, h72, hf⟩ := hf
  refine J.putF (ty := (.array .int)) 9 21 in_X5 ap9 rfl (Nat.le_of_ble_eq_true rfl) q888 rfl rfl rfl rfl (by decide +kernel) (fun _ => ⟨rfl, rfl⟩) h72 dX5_init_153 ?_
  refine J.aload_n (i := 0) dX5_init_156 rfl rfl ?_
  refine J.iconst (v := (-1)) dX5_init_157 (by decide) ?_
  replace hf := jbd hf
  obtain ⟨hp73, h74, hf⟩ := hf
  refine J.put (ty := .int) 9 22 in_X5 ap9 rfl (Nat.le_of_ble_eq_true rfl) (Or.inl q889) (Or.inl rfl) rfl (by decide +kernel) (fun _ => ⟨rfl, rfl⟩) h74 dX5_init_158 ?_
  refine J.aload_n (i := 0) dX5_init_161 rfl rfl ?_
  refine J.iconst (v := (-1)) dX5_init_162 (by decide) ?_
  replace hf := jbd hf
  obtain ⟨hp75, h76, hf⟩ := hf
  refine J.put (ty := .int) 9 23 in_X5 ap9 rfl (Nat.le_of_ble_eq_true rfl) (Or.inl q890) (Or.inl rfl) rfl (by decide +kernel) (fun _ => ⟨rfl, rfl⟩) h76 dX5_init_163 ?_
  refine J.aload_n (i := 0) dX5_init_166 rfl rfl ?_
  refine J.bipush (v := 7) dX5_init_167 (by decide) ?_
  replace hf := jbd hf
  obtain ⟨hp77, h78, hf⟩ := hf
  refine J.newaL (B := 7) (k2 := 19) (n2 := 1705) hRm q1024 rfl rfl rfl (by decide) (by decide) (Nat.le_refl _) (Nat.le_of_ble_eq_true rfl) (Nat.le_of_ble_eq_true rfl) (Nat.le_of_ble_eq_true rfl) (Nat.le_of_ble_eq_true rfl) (Nat.le_of_ble_eq_true rfl) h78 dX5_init_169 ?_
  replace hf := jbd hf
  obtain ⟨hp79, h80, hf⟩ := hf
  refine J.putF (ty := (.array .long)) 9 24 in_X5 ap9 rfl (Nat.le_of_ble_eq_true rfl) q891 rfl rfl rfl rfl (by decide +kernel) (fun _ => ⟨rfl, rfl⟩) h80 dX5_init_171 ?_
  refine J.aload_n (i := 0) dX5_init_174 rfl rfl ?_
  refine J.bipush (v := 8) dX5_init_175 (by decide) ?_
  replace hf := jbd hf
  obtain ⟨hp81, h82, hf⟩ := hf
  refine J.newaI (B := 8) (k2 := 20) (n2 := 1713) hRm q105 rfl rfl rfl (by decide) (by decide) (Nat.le_refl _) (Nat.le_of_ble_eq_true rfl) (Nat.le_of_ble_eq_true rfl) (Nat.le_of_ble_eq_true rfl) (Nat.le_of_ble_eq_true rfl) (Nat.le_of_ble_eq_true rfl) h82 dX5_init_177 ?_
  replace hf := jbd hf
  obtain ⟨hp83, h84, hf⟩ := hf
  refine J.putF (ty := (.array .int)) 9 25 in_X5 ap9 rfl (Nat.le_of_ble_eq_true rfl) q892 rfl rfl rfl rfl (by decide +kernel) (fun _ => ⟨rfl, rfl⟩) h84 dX5_init_179 ?_
  refine J.aload_n (i := 0) dX5_init_182 rfl rfl ?_
  refine J.bipush (v := 24) dX5_init_183 (by decide) ?_
  replace hf := jbd hf
  obtain ⟨hp85, h86, hf⟩ := hf
  refine J.newaI (B := 24) (k2 := 21) (n2 := 1737) hRm q105 rfl rfl rfl (by decide) (by decide) (Nat.le_refl _) (Nat.le_of_ble_eq_true rfl) (Nat.le_of_ble_eq_true rfl) (Nat.le_of_ble_eq_true rfl) (Nat.le_of_ble_eq_true rfl) (Nat.le_of_ble_eq_true rfl) h86 dX5_init_185 ?_
  replace hf := jbd hf
  obtain ⟨hp87, h88, hf⟩ := hf
  refine J.putF (ty := (.array .int)) 9 26 in_X5 ap9 rfl (Nat.le_of_ble_eq_true rfl) q893 rfl rfl rfl rfl (by decide +kernel) (fun _ => ⟨rfl, rfl⟩) h88 dX5_init_187 ?_
  refine J.aload_n (i := 0) dX5_init_190 rfl rfl ?_
  refine J.bipush (v := 24) dX5_init_191 (by decide) ?_
  replace hf := jbd hf
  obtain ⟨hp89, h90, hf⟩ := hf
  refine J.newaI (B := 24) (k2 := 22) (n2 := 1761) hRm q105 rfl rfl rfl (by decide) (by decide) (Nat.le_refl _) (Nat.le_of_ble_eq_true rfl) (Nat.le_of_ble_eq_true rfl) (Nat.le_of_ble_eq_true rfl) (Nat.le_of_ble_eq_true rfl) (Nat.le_of_ble_eq_true rfl) h90 dX5_init_193 ?_
  replace hf := jbd hf
  obtain ⟨hp91, h92, hf⟩ := hf
  refine J.putF (ty := (.array .int)) 9 27 in_X5 ap9 rfl (Nat.le_of_ble_eq_true rfl) q894 rfl rfl rfl rfl (by decide +kernel) (fun _ => ⟨rfl, rfl⟩) h92 dX5_init_195 ?_
  refine J.aload_n (i := 0) dX5_init_198 rfl rfl ?_
  refine J.iconst (v := 3) dX5_init_199 (by decide) ?_
  replace hf := jbd hf
  obtain ⟨hp93, h94, hf⟩ := hf
  refine J.newaI (B := 3) (k2 := 23) (n2 := 1764) hRm q105 rfl rfl rfl (by decide) (by decide) (Nat.le_refl _) (Nat.le_of_ble_eq_true rfl) (Nat.le_of_ble_eq_true rfl) (Nat.le_of_ble_eq_true rfl) (Nat.le_of_ble_eq_true rfl) (Nat.le_of_ble_eq_true rfl) h94 dX5_init_200 ?_
  replace hf := jbd hf
  obtain ⟨hp95, h96, hf⟩ := hf
  refine J.putF (ty := (.array .int)) 9 28 in_X5 ap9 rfl (Nat.le_of_ble_eq_true rfl) q895 rfl rfl rfl rfl (by decide +kernel) (fun _ => ⟨rfl, rfl⟩) h96 dX5_init_202 ?_
  refine J.aload_n (i := 0) dX5_init_205 rfl rfl ?_
  refine J.bipush (v := 6) dX5_init_206 (by decide) ?_
  replace hf := jbd hf
  obtain ⟨hp97, h98, hf⟩ := hf
  refine J.newaI (B := 6) (k2 := 24) (n2 := 1770) hRm q105 rfl rfl rfl (by decide) (by decide) (Nat.le_refl _) (Nat.le_of_ble_eq_true rfl) (Nat.le_of_ble_eq_true rfl) (Nat.le_of_ble_eq_true rfl) (Nat.le_of_ble_eq_true rfl) (Nat.le_of_ble_eq_true rfl) h98 dX5_init_208 ?_
  replace hf := jbd hf
  obtain ⟨hp99, h100, hf⟩ := hf
  refine J.putF (ty := (.array .int)) 9 36 in_X5 ap9 rfl (Nat.le_of_ble_eq_true rfl) q903 rfl rfl rfl rfl (by decide +kernel) (fun _ => ⟨rfl, rfl⟩) h100 dX5_init_210 ?_
  refine J.aload_n (i := 0) dX5_init_213 rfl rfl ?_
  refine J.bipush (v := 7) dX5_init_214 (by decide) ?_
  replace hf := jbd hf
  obtain ⟨hp101, h102, hf⟩ := hf
  refine J.newaI (B := 7) (k2 := 25) (n2 := 1777) hRm q105 rfl rfl rfl (by decide) (by decide) (Nat.le_refl _) (Nat.le_of_ble_eq_true rfl) (Nat.le_of_ble_eq_true rfl) (Nat.le_of_ble_eq_true rfl) (Nat.le_of_ble_eq_true rfl) (Nat.le_of_ble_eq_true rfl) h102 dX5_init_216 ?_
  replace hf := jbd hf
  obtain ⟨hp103, h104, hf⟩ := hf
  refine J.putF (ty := (.array .int)) 9 38 in_X5 ap9 rfl (Nat.le_of_ble_eq_true rfl) q905 rfl rfl rfl rfl (by decide +kernel) (fun _ => ⟨rfl, rfl⟩) h104 dX5_init_218 ?_
  refine J.aload_n (i := 0) dX5_init_221 rfl rfl ?_
  refine J.bipush (v := 7) dX5_init_222 (by decide) ?_
  replace hf := jbd hf
  obtain ⟨hp105, h106, hf⟩ := hf
  refine J.newaI (B := 7) (k2 := 26) (n2 := 1784) hRm q105 rfl rfl rfl (by decide) (by decide) (Nat.le_refl _) (Nat.le_of_ble_eq_true rfl) (Nat.le_of_ble_eq_true rfl) (Nat.le_of_ble_eq_true rfl) (Nat.le_of_ble_eq_true rfl) (Nat.le_of_ble_eq_true rfl) h106 dX5_init_224 ?_
  replace hf := jbd hf
  obtain ⟨hp107, h108, hf⟩ := hf
  refine J.putF (ty := (.array .int)) 9 39 in_X5 ap9 rfl (Nat.le_of_ble_eq_true rfl) q906 rfl rfl rfl rfl (by decide +kernel) (fun _ => ⟨rfl, rfl⟩) h108 dX5_init_226 ?_
  refine J.aload_n (i := 0) dX5_init_229 rfl rfl ?_
  refine J.bipush (v := 7) dX5_init_230 (by decide) ?_
  replace hf := jbd hf
  obtain ⟨hp109, h110, hf⟩ := hf
  refine J.newaI (B := 7) (k2 := 27) (n2 := 1791) hRm q105 rfl rfl rfl (by decide) (by decide) (Nat.le_refl _) (Nat.le_of_ble_eq_true rfl) (Nat.le_of_ble_eq_true rfl) (Nat.le_of_ble_eq_true rfl) (Nat.le_of_ble_eq_true rfl) (Nat.le_of_ble_eq_true rfl) h110 dX5_init_232 ?_
  replace hf := jbd hf
  obtain ⟨hp111, h112, hf⟩ := hf
  refine J.putF (ty := (.array .int)) 9 40 in_X5 ap9 rfl (Nat.le_of_ble_eq_true rfl) q907 rfl rfl rfl rfl (by decide +kernel) (fun _ => ⟨rfl, rfl⟩) h112 dX5_init_234 ?_
  refine J.aload_n (i := 0) dX5_init_237 rfl rfl ?_
  refine J.iconst (v := 2) dX5_init_238 (by decide) ?_
  replace hf := jbd hf
  obtain ⟨hp113, h114, hf⟩ := hf
  refine J.put (ty := .int) 9 41 in_X5 ap9 rfl (Nat.le_of_ble_eq_true rfl) (Or.inl q908) (Or.inl rfl) rfl (by decide +kernel) (fun _ => ⟨rfl, rfl⟩) h114 dX5_init_239 ?_
  refine J.aload_n (i := 0) dX5_init_242 rfl rfl ?_
  refine J.bipush (v := 7) dX5_init_243 (by decide) ?_
  replace hf := jbd hf
  obtain ⟨hp115, h116, hf⟩ := hf
  refine J.newaI (B := 7) (k2 := 28) (n2 := 1798) hRm q105 rfl rfl rfl (by decide) (by decide) (Nat.le_refl _) (Nat.le_of_ble_eq_true rfl) (Nat.le_of_ble_eq_true rfl) (Nat.le_of_ble_eq_true rfl) (Nat.le_of_ble_eq_true rfl) (Nat.le_of_ble_eq_true rfl) h116 dX5_init_245 ?_
  replace hf := jbd hf
  obtain ⟨hp117, h118, hf⟩ := hf
  refine J.putF (ty := (.array .int)) 9 42 in_X5 ap9 rfl (Nat.le_of_ble_eq_true rfl) q909 rfl rfl rfl rfl (by decide +kernel) (fun _ => ⟨rfl, rfl⟩) h118 dX5_init_247 ?_
  refine J.aload_n (i := 0) dX5_init_250 rfl rfl ?_
  refine J.bipush (v := 7) dX5_init_251 (by decide) ?_
  replace hf := jbd hf
  obtain ⟨hp119, h120, hf⟩ := hf
  refine J.newaI (B := 7) (k2 := 29) (n2 := 1805) hRm q105 rfl rfl rfl (by decide) (by decide) (Nat.le_refl _) (Nat.le_of_ble_eq_true rfl) (Nat.le_of_ble_eq_true rfl) (Nat.le_of_ble_eq_true rfl) (Nat.le_of_ble_eq_true rfl) (Nat.le_of_ble_eq_true rfl) h120 dX5_init_253 ?_
  replace hf := jbd hf
  obtain ⟨hp121, h122, hf⟩ := hf
  refine J.putF (ty := (.array .int)) 9 43 in_X5 ap9 rfl (Nat.le_of_ble_eq_true rfl) q910 rfl rfl rfl rfl (by decide +kernel) (fun _ => ⟨rfl, rfl⟩) h122 dX5_init_255 ?_
  refine J.aload_n (i := 0) dX5_init_258 rfl rfl ?_
  refine J.ldc q866 dX5_init_259 ?_
  replace hf := jbd hf
  obtain ⟨hp123, h124, hf⟩ := hf
  refine J.put (ty := .int) 9 44 in_X5 ap9 rfl (Nat.le_of_ble_eq_true rfl) (Or.inl q911) (Or.inl rfl) rfl (by decide +kernel) (fun _ => ⟨rfl, rfl⟩) h124 dX5_init_261 ?_
  refine J.aload_n (i := 0) dX5_init_264 rfl rfl ?_
  refine J.sipush (v := 200) dX5_init_265 (by decide) ?_
  replace hf := jbd hf
  obtain ⟨hp125, h126, hf⟩ := hf
  refine J.newaI (B := 200) (k2 := 30) (n2 := 2005) hRm q1025 rfl rfl rfl (by decide) (by decide) (Nat.le_refl _) (Nat.le_of_ble_eq_true rfl) (Nat.le_of_ble_eq_true rfl) (Nat.le_of_ble_eq_true rfl) (Nat.le_of_ble_eq_true rfl) (Nat.le_of_ble_eq_true rfl) h126 dX5_init_268 ?_
  replace hf := jbd hf
  obtain ⟨hp127, h128, hf⟩ := hf
  refine J.putF (ty := (.array .boolean)) 9 46 in_X5 ap9 rfl (Nat.le_of_ble_eq_true rfl) q913 rfl rfl rfl rfl (by decide +kernel) (fun _ => ⟨rfl, rfl⟩) h128 dX5_init_270 ?_
  refine J.aload_n (i := 0) dX5_init_273 rfl rfl ?_
  refine J.iconst (v := 4) dX5_init_274 (by decide) ?_
  replace hf := jbd hf
  obtain ⟨hp129, h130, hf⟩ := hf
  refine J.newaI (B := 4) (k2 := 31) (n2 := 2009) hRm q105 rfl rfl rfl (by decide) (by decide) (Nat.le_refl _) (Nat.le_of_ble_eq_true rfl) (Nat.le_of_ble_eq_true rfl) (Nat.le_of_ble_eq_true rfl) (Nat.le_of_ble_eq_true rfl) (Nat.le_of_ble_eq_true rfl) h130 dX5_init_275 ?_
  replace hf := jbd hf
  obtain ⟨hp131, h132, hf⟩ := hf
  refine J.putF (ty := (.array .int)) 9 47 in_X5 ap9 rfl (Nat.le_of_ble_eq_true rfl) q914 rfl rfl rfl rfl (by decide +kernel) (fun _ => ⟨rfl, rfl⟩) h132 dX5_init_277 ?_
  refine J.aload_n (i := 0) dX5_init_280 rfl rfl ?_
  refine J.iconst (v := 4) dX5_init_281 (by decide) ?_
  replace hf := jbd hf
  obtain ⟨hp133, h134, hf⟩ := hf
  refine J.newaI (B := 4) (k2 := 32) (n2 := 2013) hRm q105 rfl rfl rfl (by decide) (by decide) (Nat.le_refl _) (Nat.le_of_ble_eq_true rfl) (Nat.le_of_ble_eq_true rfl) (Nat.le_of_ble_eq_true rfl) (Nat.le_of_ble_eq_true rfl) (Nat.le_of_ble_eq_true rfl) h134 dX5_init_282 ?_
  replace hf := jbd hf
  obtain ⟨hp135, h136, hf⟩ := hf
  refine J.putF (ty := (.array .int)) 9 48 in_X5 ap9 rfl (Nat.le_of_ble_eq_true rfl) q915 rfl rfl rfl rfl (by decide +kernel) (fun _ => ⟨rfl, rfl⟩) h136 dX5_init_284 ?_
  refine J.aload_n (i := 0) dX5_init_287 rfl rfl ?_
  refine J.sipush (v := 800) dX5_init_288 (by decide) ?_
  replace hf := jbd hf
  obtain ⟨hp137, h138, hf⟩ := hf
  refine J.newaI (B := 800) (k2 := 33) (n2 := 2813) hRm q105 rfl rfl rfl (by decide) (by decide) (Nat.le_refl _) (Nat.le_of_ble_eq_true rfl) (Nat.le_of_ble_eq_true rfl) (Nat.le_of_ble_eq_true rfl) (Nat.le_of_ble_eq_true rfl) (Nat.le_of_ble_eq_true rfl) h138 dX5_init_291 ?_
  replace hf := jbd hf
  obtain ⟨hp139, h140, hf⟩ := hf
  refine J.putF (ty := (.array .int)) 9 49 in_X5 ap9 rfl (Nat.le_of_ble_eq_true rfl) q916 rfl rfl rfl rfl (by decide +kernel) (fun _ => ⟨rfl, rfl⟩) h140 dX5_init_293 ?_
  refine J.aload_n (i := 0) dX5_init_296 rfl rfl ?_
  refine J.sipush (v := 200) dX5_init_297 (by decide) ?_
  replace hf := jbd hf
  obtain ⟨hp141, h142, hf⟩ := hf
  refine J.newaI (B := 200) (k2 := 34) (n2 := 3013) hRm q105 rfl rfl rfl (by decide) (by decide) (Nat.le_refl _) (Nat.le_of_ble_eq_true rfl) (Nat.le_of_ble_eq_true rfl) (Nat.le_of_ble_eq_true rfl) (Nat.le_of_ble_eq_true rfl) (Nat.le_of_ble_eq_true rfl) h142 dX5_init_300 ?_
  replace hf := jbd hf
  obtain ⟨hp143, h144, hf⟩ := hf
  refine J.putF (ty := (.array .int)) 9 50 in_X5 ap9 rfl (Nat.le_of_ble_eq_true rfl) q917 rfl rfl rfl rfl (by decide +kernel) (fun _ => ⟨rfl, rfl⟩) h144 dX5_init_302 ?_
  refine J.aload_n (i := 0) dX5_init_305 rfl rfl ?_
  replace hf := jbd hf
  obtain ⟨a145, h146, hf⟩ := hf
  refine J.getA 9 0 in_X5 rfl (Nat.le_of_ble_eq_true rfl) (Or.inl q867) (Or.inl rfl) h146 dX5_init_306 ?_
  refine J.iconst (v := 0) dX5_init_309 (by decide) ?_
  refine J.bipush (v := 20) dX5_init_310 (by decide) ?_
  replace hf := jbd hf
  obtain ⟨hp147, h148, hf⟩ := hf
  refine J.iast h148 dX5_init_312 ?_
  refine J.aload_n (i := 0) dX5_init_313 rfl rfl ?_
  replace hf := jbd hf
  obtain ⟨a149, h150, hf⟩ := hf
  refine J.getA 9 0 in_X5 rfl (Nat.le_of_ble_eq_true rfl) (Or.inl q867) (Or.inl rfl) h150 dX5_init_314 ?_
  refine J.iconst (v := 1) dX5_init_317 (by decide) ?_
  refine J.sipush (v := 500) dX5_init_318 (by decide) ?_
  replace hf := jbd hf
  obtain ⟨hp151, h152, hf⟩ := hf
  refine J.iast h152 dX5_init_321 ?_
  refine J.aload_n (i := 0) dX5_init_322 rfl rfl ?_
  replace hf := jbd hf
  obtain ⟨a153, h154, hf⟩ := hf
  refine J.getA 9 0 in_X5 rfl (Nat.le_of_ble_eq_true rfl) (Or.inl q867) (Or.inl rfl) h154 dX5_init_323 ?_
  refine J.iconst (v := 2) dX5_init_326 (by decide) ?_
  refine J.sipush (v := 300) dX5_init_327 (by decide) ?_
  replace hf := jbd hf
  obtain ⟨hp155, h156, hf⟩ := hf
  refine J.iast h156 dX5_init_330 ?_
  refine J.aload_n (i := 0) dX5_init_331 rfl rfl ?_
  replace hf := jbd hf
  obtain ⟨a157, h158, hf⟩ := hf
  refine J.getA 9 0 in_X5 rfl (Nat.le_of_ble_eq_true rfl) (Or.inl q867) (Or.inl rfl) h158 dX5_init_332 ?_
  refine J.iconst (v := 3) dX5_init_335 (by decide) ?_
  refine J.sipush (v := 400) dX5_init_336 (by decide) ?_
  replace hf := jbd hf
  obtain ⟨hp159, h160, hf⟩ := hf
  refine J.iast h160 dX5_init_339 ?_
  refine J.aload_n (i := 0) dX5_init_340 rfl rfl ?_
  replace hf := jbd hf
  obtain ⟨a161, h162, hf⟩ := hf
  refine J.getA 9 0 in_X5 rfl (Nat.le_of_ble_eq_true rfl) (Or.inl q867) (Or.inl rfl) h162 dX5_init_341 ?_
  refine J.iconst (v := 4) dX5_init_344 (by decide) ?_
  refine J.iconst (v := 5) dX5_init_345 (by decide) ?_
  replace hf := jbd hf
  obtain ⟨hp163, h164, hf⟩ := hf
  refine J.iast h164 dX5_init_346 ?_
  refine J.aload_n (i := 0) dX5_init_347 rfl rfl ?_
  replace hf := jbd hf
  obtain ⟨a165, h166, hf⟩ := hf
  refine J.getA 9 0 in_X5 rfl (Nat.le_of_ble_eq_true rfl) (Or.inl q867) (Or.inl rfl) h166 dX5_init_348 ?_
  refine J.iconst (v := 5) dX5_init_351 (by decide) ?_
  refine J.iconst (v := 5) dX5_init_352 (by decide) ?_
  replace hf := jbd hf
  obtain ⟨hp167, h168, hf⟩ := hf
  refine J.iast h168 dX5_init_353 ?_
  refine J.iconst (v := 0) dX5_init_354 (by decide) ?_
  refine J.istore_n (i := 1) (lv' := [some (.ref this), some (.int 0)]) dX5_init_355 rfl (Nat.le_of_ble_eq_true rfl) rfl ?_
  exact w_X5_init_L356 hDl hRm hE hX0 _ _ _ _ hf
def rm_X5_profile : Room := { frames := 1, cells := 0, slots := 0, locals := 25 }
theorem hd_X5_profile : yX5_profile.cls = RX5 ∧ yX5_profile.cls ≠ "java/lang/invoke/MethodHandle" ∧ yX5_profile.cls ≠ "java/lang/invoke/VarHandle" ∧ (parseMethodDescriptor yX5_profile.desc).map (fun d => d.parameters.length) = some 4 := by decide +kernel
set_option maxHeartbeats 4000000 in
set_option maxRecDepth 100000 in
theorem w_X5_profile {D : va_G} {l : Launch} {hp hpE : jH} {rE : Int32} {this : Nat} {p1 : Int32} {p2 : Int32} {p3 : Int32} {p4 : Int32} (hf : f_X5_profile this p1 p2 p3 p4 hp = some (rE, hpE)) : jM D l yX5_profile (ws_ yX5_profile cX5_profile 5 (some .int)) rm_X5_profile hp [.ref this, .int p1, .int p2, .int p3, .int p4] (some (.int rE)) hpE := by
  refine jM.of (lv0 := [some (.ref this), some (.int p1), some (.int p2), some (.int p3), some (.int p4)]) (by decide) (Nat.le_of_ble_eq_true rfl) rfl (fun X hDl hRm hE hX0 => ?_)
  rw [f_X5_profile] at hf
  refine J.iload_n (i := 1) dX5_profile_0 rfl rfl ?_
  refine J.i2l dX5_profile_1 ?_
  refine J.lconst (v := 0) dX5_profile_2 (by decide) ?_
  refine J.ldc2 q1030 dX5_profile_3 ?_
  replace hf := jbs hf
  obtain ⟨v3, hp2, h1, hf⟩ := hf
  refine J.callS (As := [.long p1.toInt64, .long (0 : Int64), .long (2 : Int64)]) (k2 := 0) (n2 := 0) hDl hRm (w_X5_in h1) (lw_S q1031 q1032 q44 q1033) hs_X5_in rfl (Nat.le_of_ble_eq_true rfl) (Nat.le_of_ble_eq_true rfl) (Nat.le_of_ble_eq_true rfl) (Nat.le_of_ble_eq_true rfl) (Nat.le_of_ble_eq_true rfl) (Nat.le_of_ble_eq_true rfl) (Nat.le_of_ble_eq_true rfl) rfl dX5_profile_6 ?_
  refine J.if_eq (tgt := 53) dX5_profile_9 (by decide) (fun hc4 => ?_) (fun hc4 => ?_)
  · replace hf := (if_pos hc4).symm.trans hf
    refine J.bipush (v := (-2)) dX5_profile_53 (by decide) ?_
    obtain ⟨rfl, rfl⟩ := jso hf
    exact J.iret hE (Nat.le_of_ble_eq_true rfl) (Nat.le_of_ble_eq_true rfl) dX5_profile_55
  · replace hf := (if_neg hc4).symm.trans hf
    refine J.iload_n (i := 2) dX5_profile_12 rfl rfl ?_
    refine J.i2l dX5_profile_13 ?_
    refine J.ldc2 q1034 dX5_profile_14 ?_
    refine J.ldc2 q1035 dX5_profile_17 ?_
    replace hf := jbs hf
    obtain ⟨v7, hp6, h5, hf⟩ := hf
    refine J.callS (As := [.long p2.toInt64, .long (5 : Int64), .long (80 : Int64)]) (k2 := 0) (n2 := 0) hDl hRm (w_X5_in h5) (lw_S q1031 q1032 q44 q1033) hs_X5_in rfl (Nat.le_of_ble_eq_true rfl) (Nat.le_of_ble_eq_true rfl) (Nat.le_of_ble_eq_true rfl) (Nat.le_of_ble_eq_true rfl) (Nat.le_of_ble_eq_true rfl) (Nat.le_of_ble_eq_true rfl) (Nat.le_of_ble_eq_true rfl) rfl dX5_profile_20 ?_
    refine J.if_eq (tgt := 53) dX5_profile_23 (by decide) (fun hc8 => ?_) (fun hc8 => ?_)
    · replace hf := (if_pos hc8).symm.trans hf
      refine J.bipush (v := (-2)) dX5_profile_53 (by decide) ?_
      obtain ⟨rfl, rfl⟩ := jso hf
      exact J.iret hE (Nat.le_of_ble_eq_true rfl) (Nat.le_of_ble_eq_true rfl) dX5_profile_55
    · replace hf := (if_neg hc8).symm.trans hf
      refine J.iload_n (i := 3) dX5_profile_26 rfl rfl ?_
      refine J.i2l dX5_profile_27 ?_
      refine J.lconst (v := 0) dX5_profile_28 (by decide) ?_
      refine J.ldc2 q1036 dX5_profile_29 ?_
      replace hf := jbs hf
      obtain ⟨v11, hp10, h9, hf⟩ := hf
      refine J.callS (As := [.long p3.toInt64, .long (0 : Int64), .long (3 : Int64)]) (k2 := 0) (n2 := 0) hDl hRm (w_X5_in h9) (lw_S q1031 q1032 q44 q1033) hs_X5_in rfl (Nat.le_of_ble_eq_true rfl) (Nat.le_of_ble_eq_true rfl) (Nat.le_of_ble_eq_true rfl) (Nat.le_of_ble_eq_true rfl) (Nat.le_of_ble_eq_true rfl) (Nat.le_of_ble_eq_true rfl) (Nat.le_of_ble_eq_true rfl) rfl dX5_profile_32 ?_
      refine J.if_eq (tgt := 53) dX5_profile_35 (by decide) (fun hc12 => ?_) (fun hc12 => ?_)
      · replace hf := (if_pos hc12).symm.trans hf
        refine J.bipush (v := (-2)) dX5_profile_53 (by decide) ?_
        obtain ⟨rfl, rfl⟩ := jso hf
        exact J.iret hE (Nat.le_of_ble_eq_true rfl) (Nat.le_of_ble_eq_true rfl) dX5_profile_55
      · replace hf := (if_neg hc12).symm.trans hf
        refine J.iload dX5_profile_38 rfl ?_
        refine J.i2l dX5_profile_40 ?_
        refine J.ldc2 q1037 dX5_profile_41 ?_
        refine J.ldc2 q1038 dX5_profile_44 ?_
        replace hf := jbs hf
        obtain ⟨v15, hp14, h13, hf⟩ := hf
        refine J.callS (As := [.long p4.toInt64, .long (100 : Int64), .long (9999 : Int64)]) (k2 := 0) (n2 := 0) hDl hRm (w_X5_in h13) (lw_S q1031 q1032 q44 q1033) hs_X5_in rfl (Nat.le_of_ble_eq_true rfl) (Nat.le_of_ble_eq_true rfl) (Nat.le_of_ble_eq_true rfl) (Nat.le_of_ble_eq_true rfl) (Nat.le_of_ble_eq_true rfl) (Nat.le_of_ble_eq_true rfl) (Nat.le_of_ble_eq_true rfl) rfl dX5_profile_47 ?_
        refine J.if_ne (tgt := 56) dX5_profile_50 (by decide) (fun hc16 => ?_) (fun hc16 => ?_)
        · replace hf := (if_neg hc16).symm.trans hf
          refine J.aload_n (i := 0) dX5_profile_56 rfl rfl ?_
          replace hf := jbd hf
          obtain ⟨v17, h18, hf⟩ := hf
          refine J.getI 9 1 in_X5 rfl (Nat.le_of_ble_eq_true rfl) (Or.inl q868) (Or.inl rfl) h18 dX5_profile_57 ?_
          refine J.bipush (v := 8) dX5_profile_60 (by decide) ?_
          refine J.icmp_ne (tgt := 68) dX5_profile_62 (by decide) (fun hc19 => ?_) (fun hc19 => ?_)
          · replace hf := (if_neg hc19).symm.trans hf
            refine J.aload_n (i := 0) dX5_profile_68 rfl rfl ?_
            replace hf := jbd hf
            obtain ⟨a20, h21, hf⟩ := hf
            refine J.getA 9 2 in_X5 rfl (Nat.le_of_ble_eq_true rfl) (Or.inl q869) (Or.inl rfl) h21 dX5_profile_69 ?_
            refine J.aload_n (i := 0) dX5_profile_72 rfl rfl ?_
            replace hf := jbd hf
            obtain ⟨v22, h23, hf⟩ := hf
            refine J.getI 9 1 in_X5 rfl (Nat.le_of_ble_eq_true rfl) (Or.inl q868) (Or.inl rfl) h23 dX5_profile_73 ?_
            refine J.iload_n (i := 1) dX5_profile_76 rfl rfl ?_
            replace hf := jbd hf
            obtain ⟨hp24, h25, hf⟩ := hf
            refine J.iast h25 dX5_profile_77 ?_
            refine J.aload_n (i := 0) dX5_profile_78 rfl rfl ?_
            replace hf := jbd hf
            obtain ⟨a26, h27, hf⟩ := hf
            refine J.getA 9 3 in_X5 rfl (Nat.le_of_ble_eq_true rfl) (Or.inl q870) (Or.inl rfl) h27 dX5_profile_79 ?_
            refine J.aload_n (i := 0) dX5_profile_82 rfl rfl ?_
            replace hf := jbd hf
            obtain ⟨v28, h29, hf⟩ := hf
            refine J.getI 9 1 in_X5 rfl (Nat.le_of_ble_eq_true rfl) (Or.inl q868) (Or.inl rfl) h29 dX5_profile_83 ?_
            refine J.iload_n (i := 2) dX5_profile_86 rfl rfl ?_
            replace hf := jbd hf
            obtain ⟨hp30, h31, hf⟩ := hf
            refine J.iast h31 dX5_profile_87 ?_
            refine J.aload_n (i := 0) dX5_profile_88 rfl rfl ?_
            replace hf := jbd hf
            obtain ⟨a32, h33, hf⟩ := hf
            refine J.getA 9 4 in_X5 rfl (Nat.le_of_ble_eq_true rfl) (Or.inl q871) (Or.inl rfl) h33 dX5_profile_89 ?_
            refine J.aload_n (i := 0) dX5_profile_92 rfl rfl ?_
            replace hf := jbd hf
            obtain ⟨v34, h35, hf⟩ := hf
            refine J.getI 9 1 in_X5 rfl (Nat.le_of_ble_eq_true rfl) (Or.inl q868) (Or.inl rfl) h35 dX5_profile_93 ?_
            refine J.iload_n (i := 3) dX5_profile_96 rfl rfl ?_
            replace hf := jbd hf
            obtain ⟨hp36, h37, hf⟩ := hf
            refine J.iast h37 dX5_profile_97 ?_
            refine J.aload_n (i := 0) dX5_profile_98 rfl rfl ?_
            replace hf := jbd hf
            obtain ⟨a38, h39, hf⟩ := hf
            refine J.getA 9 5 in_X5 rfl (Nat.le_of_ble_eq_true rfl) (Or.inl q872) (Or.inl rfl) h39 dX5_profile_99 ?_
            refine J.aload_n (i := 0) dX5_profile_102 rfl rfl ?_
            replace hf := jbd hf
            obtain ⟨v40, h41, hf⟩ := hf
            refine J.getI 9 1 in_X5 rfl (Nat.le_of_ble_eq_true rfl) (Or.inl q868) (Or.inl rfl) h41 dX5_profile_103 ?_
            refine J.iload dX5_profile_106 rfl ?_
            replace hf := jbd hf
            obtain ⟨hp42, h43, hf⟩ := hf
            refine J.iast h43 dX5_profile_108 ?_
            refine J.aload_n (i := 0) dX5_profile_109 rfl rfl ?_
            replace hf := jbd hf
            obtain ⟨a44, h45, hf⟩ := hf
            refine J.getA 9 25 in_X5 rfl (Nat.le_of_ble_eq_true rfl) (Or.inl q892) (Or.inl rfl) h45 dX5_profile_110 ?_
            refine J.aload_n (i := 0) dX5_profile_113 rfl rfl ?_
            replace hf := jbd hf
            obtain ⟨v46, h47, hf⟩ := hf
            refine J.getI 9 1 in_X5 rfl (Nat.le_of_ble_eq_true rfl) (Or.inl q868) (Or.inl rfl) h47 dX5_profile_114 ?_
            refine J.iconst (v := 0) dX5_profile_117 (by decide) ?_
            replace hf := jbd hf
            obtain ⟨hp48, h49, hf⟩ := hf
            refine J.iast h49 dX5_profile_118 ?_
            refine J.aload_n (i := 0) dX5_profile_119 rfl rfl ?_
            refine J.dup dX5_profile_120 rfl ?_
            replace hf := jbd hf
            obtain ⟨v50, h51, hf⟩ := hf
            refine J.getI 9 1 in_X5 rfl (Nat.le_of_ble_eq_true rfl) (Or.inl q868) (Or.inl rfl) h51 dX5_profile_121 ?_
            refine J.iconst (v := 1) dX5_profile_124 (by decide) ?_
            refine J.iadd dX5_profile_125 ?_
            replace hf := jbd hf
            obtain ⟨hp52, h53, hf⟩ := hf
            refine J.put (ty := .int) 9 1 in_X5 ap9 rfl (Nat.le_of_ble_eq_true rfl) (Or.inl q868) (Or.inl rfl) rfl (by decide +kernel) (fun _ => ⟨rfl, rfl⟩) h53 dX5_profile_126 ?_
            refine J.aload_n (i := 0) dX5_profile_129 rfl rfl ?_
            replace hf := jbd hf
            obtain ⟨v54, h55, hf⟩ := hf
            refine J.getI 9 1 in_X5 rfl (Nat.le_of_ble_eq_true rfl) (Or.inl q868) (Or.inl rfl) h55 dX5_profile_130 ?_
            refine J.iconst (v := 1) dX5_profile_133 (by decide) ?_
            refine J.isub dX5_profile_134 ?_
            obtain ⟨rfl, rfl⟩ := jso hf
            exact J.iret hE (Nat.le_of_ble_eq_true rfl) (Nat.le_of_ble_eq_true rfl) dX5_profile_135
          · replace hf := (if_pos hc19).symm.trans hf
            refine J.bipush (v := (-4)) dX5_profile_65 (by decide) ?_
            obtain ⟨rfl, rfl⟩ := jso hf
            exact J.iret hE (Nat.le_of_ble_eq_true rfl) (Nat.le_of_ble_eq_true rfl) dX5_profile_67
        · replace hf := (if_pos hc16).symm.trans hf
          refine J.bipush (v := (-2)) dX5_profile_53 (by decide) ?_
          obtain ⟨rfl, rfl⟩ := jso hf
          exact J.iret hE (Nat.le_of_ble_eq_true rfl) (Nat.le_of_ble_eq_true rfl) dX5_profile_55
def rm_X5_die : Room := { frames := 2, cells := 0, slots := 0, locals := 46 }
theorem hd_X5_die : yX5_die.cls = RX5 ∧ yX5_die.cls ≠ "java/lang/invoke/MethodHandle" ∧ yX5_die.cls ≠ "java/lang/invoke/VarHandle" ∧ (parseMethodDescriptor yX5_die.desc).map (fun d => d.parameters.length) = some 2 := by decide +kernel
set_option maxHeartbeats 4000000 in
set_option maxRecDepth 100000 in
theorem w_X5_die {D : va_G} {l : Launch} {hp hpE : jH} {rE : Int32} {this : Nat} {p1 : Int32} {p2 : Int32} (hf : f_X5_die this p1 p2 hp = some (rE, hpE)) : jM D l yX5_die (ws_ yX5_die cX5_die 3 (some .int)) rm_X5_die hp [.ref this, .int p1, .int p2] (some (.int rE)) hpE := by
  refine jM.of (lv0 := [some (.ref this), some (.int p1), some (.int p2)]) (by decide) (Nat.le_of_ble_eq_true rfl) rfl (fun X hDl hRm hE hX0 => ?_)
  rw [f_X5_die] at hf
  refine J.aload_n (i := 0) dX5_die_0 rfl rfl ?_
  refine J.iload_n (i := 1) dX5_die_1 rfl rfl ?_
  replace hf := jbd hf
  obtain ⟨u1, h2, hf⟩ := hf
  replace hf := jbs hf
  obtain ⟨v5, hp4, h3, hf⟩ := hf
  refine J.callV (As := [.int p1]) (k2 := 0) (n2 := 0) 9 hDl hRm (w_X5_isProfile h3) (lw_V q1043 q1045 qs21 q44 q1046) hd_X5_isProfile rfl ⟨_, h2⟩ rfl (Nat.le_of_ble_eq_true rfl) (Nat.le_of_ble_eq_true rfl) (Nat.le_of_ble_eq_true rfl) (Nat.le_of_ble_eq_true rfl) (Nat.le_of_ble_eq_true rfl) (Nat.le_of_ble_eq_true rfl) (Nat.le_of_ble_eq_true rfl) rfl dX5_die_2 ?_
  refine J.if_eq (tgt := 20) dX5_die_5 (by decide) (fun hc6 => ?_) (fun hc6 => ?_)
  · replace hf := (if_pos hc6).symm.trans hf
    refine J.bipush (v := (-2)) dX5_die_20 (by decide) ?_
    obtain ⟨rfl, rfl⟩ := jso hf
    exact J.iret hE (Nat.le_of_ble_eq_true rfl) (Nat.le_of_ble_eq_true rfl) dX5_die_22
  · replace hf := (if_neg hc6).symm.trans hf
    refine J.iload_n (i := 2) dX5_die_8 rfl rfl ?_
    refine J.i2l dX5_die_9 ?_
    refine J.lconst (v := 1) dX5_die_10 (by decide) ?_
    refine J.ldc2 q1047 dX5_die_11 ?_
    replace hf := jbs hf
    obtain ⟨v9, hp8, h7, hf⟩ := hf
    refine J.callS (As := [.long p2.toInt64, .long (1 : Int64), .long (50 : Int64)]) (k2 := 0) (n2 := 0) hDl hRm (w_X5_in h7) (lw_S q1031 q1032 q44 q1033) hs_X5_in rfl (Nat.le_of_ble_eq_true rfl) (Nat.le_of_ble_eq_true rfl) (Nat.le_of_ble_eq_true rfl) (Nat.le_of_ble_eq_true rfl) (Nat.le_of_ble_eq_true rfl) (Nat.le_of_ble_eq_true rfl) (Nat.le_of_ble_eq_true rfl) rfl dX5_die_14 ?_
    refine J.if_ne (tgt := 23) dX5_die_17 (by decide) (fun hc10 => ?_) (fun hc10 => ?_)
    · replace hf := (if_neg hc10).symm.trans hf
      refine J.aload_n (i := 0) dX5_die_23 rfl rfl ?_
      replace hf := jbd hf
      obtain ⟨v11, h12, hf⟩ := hf
      refine J.getI 9 6 in_X5 rfl (Nat.le_of_ble_eq_true rfl) (Or.inl q873) (Or.inl rfl) h12 dX5_die_24 ?_
      refine J.bipush (v := 12) dX5_die_27 (by decide) ?_
      refine J.icmp_ne (tgt := 35) dX5_die_29 (by decide) (fun hc13 => ?_) (fun hc13 => ?_)
      · replace hf := (if_neg hc13).symm.trans hf
        refine J.aload_n (i := 0) dX5_die_35 rfl rfl ?_
        replace hf := jbd hf
        obtain ⟨a14, h15, hf⟩ := hf
        refine J.getA 9 7 in_X5 rfl (Nat.le_of_ble_eq_true rfl) (Or.inl q874) (Or.inl rfl) h15 dX5_die_36 ?_
        refine J.aload_n (i := 0) dX5_die_39 rfl rfl ?_
        replace hf := jbd hf
        obtain ⟨v16, h17, hf⟩ := hf
        refine J.getI 9 6 in_X5 rfl (Nat.le_of_ble_eq_true rfl) (Or.inl q873) (Or.inl rfl) h17 dX5_die_40 ?_
        refine J.iload_n (i := 1) dX5_die_43 rfl rfl ?_
        replace hf := jbd hf
        obtain ⟨hp18, h19, hf⟩ := hf
        refine J.iast h19 dX5_die_44 ?_
        refine J.aload_n (i := 0) dX5_die_45 rfl rfl ?_
        replace hf := jbd hf
        obtain ⟨a20, h21, hf⟩ := hf
        refine J.getA 9 8 in_X5 rfl (Nat.le_of_ble_eq_true rfl) (Or.inl q875) (Or.inl rfl) h21 dX5_die_46 ?_
        refine J.aload_n (i := 0) dX5_die_49 rfl rfl ?_
        replace hf := jbd hf
        obtain ⟨v22, h23, hf⟩ := hf
        refine J.getI 9 6 in_X5 rfl (Nat.le_of_ble_eq_true rfl) (Or.inl q873) (Or.inl rfl) h23 dX5_die_50 ?_
        refine J.iload_n (i := 2) dX5_die_53 rfl rfl ?_
        replace hf := jbd hf
        obtain ⟨hp24, h25, hf⟩ := hf
        refine J.iast h25 dX5_die_54 ?_
        refine J.aload_n (i := 0) dX5_die_55 rfl rfl ?_
        replace hf := jbd hf
        obtain ⟨a26, h27, hf⟩ := hf
        refine J.getA 9 9 in_X5 rfl (Nat.le_of_ble_eq_true rfl) (Or.inl q876) (Or.inl rfl) h27 dX5_die_56 ?_
        refine J.aload_n (i := 0) dX5_die_59 rfl rfl ?_
        replace hf := jbd hf
        obtain ⟨v28, h29, hf⟩ := hf
        refine J.getI 9 6 in_X5 rfl (Nat.le_of_ble_eq_true rfl) (Or.inl q873) (Or.inl rfl) h29 dX5_die_60 ?_
        refine J.iconst (v := 0) dX5_die_63 (by decide) ?_
        replace hf := jbd hf
        obtain ⟨hp30, h31, hf⟩ := hf
        refine J.iast h31 dX5_die_64 ?_
        refine J.aload_n (i := 0) dX5_die_65 rfl rfl ?_
        replace hf := jbd hf
        obtain ⟨a32, h33, hf⟩ := hf
        refine J.getA 9 10 in_X5 rfl (Nat.le_of_ble_eq_true rfl) (Or.inl q877) (Or.inl rfl) h33 dX5_die_66 ?_
        refine J.aload_n (i := 0) dX5_die_69 rfl rfl ?_
        replace hf := jbd hf
        obtain ⟨v34, h35, hf⟩ := hf
        refine J.getI 9 6 in_X5 rfl (Nat.le_of_ble_eq_true rfl) (Or.inl q873) (Or.inl rfl) h35 dX5_die_70 ?_
        refine J.iconst (v := 0) dX5_die_73 (by decide) ?_
        replace hf := jbd hf
        obtain ⟨hp36, h37, hf⟩ := hf
        refine J.iast h37 dX5_die_74 ?_
        refine J.aload_n (i := 0) dX5_die_75 rfl rfl ?_
        replace hf := jbd hf
        obtain ⟨a38, h39, hf⟩ := hf
        refine J.getA 9 11 in_X5 rfl (Nat.le_of_ble_eq_true rfl) (Or.inl q878) (Or.inl rfl) h39 dX5_die_76 ?_
        refine J.aload_n (i := 0) dX5_die_79 rfl rfl ?_
        replace hf := jbd hf
        obtain ⟨v40, h41, hf⟩ := hf
        refine J.getI 9 6 in_X5 rfl (Nat.le_of_ble_eq_true rfl) (Or.inl q873) (Or.inl rfl) h41 dX5_die_80 ?_
        refine J.iconst (v := (-1)) dX5_die_83 (by decide) ?_
        replace hf := jbd hf
        obtain ⟨hp42, h43, hf⟩ := hf
        refine J.iast h43 dX5_die_84 ?_
        refine J.aload_n (i := 0) dX5_die_85 rfl rfl ?_
        refine J.dup dX5_die_86 rfl ?_
        replace hf := jbd hf
        obtain ⟨v44, h45, hf⟩ := hf
        refine J.getI 9 6 in_X5 rfl (Nat.le_of_ble_eq_true rfl) (Or.inl q873) (Or.inl rfl) h45 dX5_die_87 ?_
        refine J.iconst (v := 1) dX5_die_90 (by decide) ?_
        refine J.iadd dX5_die_91 ?_
        replace hf := jbd hf
        obtain ⟨hp46, h47, hf⟩ := hf
        refine J.put (ty := .int) 9 6 in_X5 ap9 rfl (Nat.le_of_ble_eq_true rfl) (Or.inl q873) (Or.inl rfl) rfl (by decide +kernel) (fun _ => ⟨rfl, rfl⟩) h47 dX5_die_92 ?_
        refine J.aload_n (i := 0) dX5_die_95 rfl rfl ?_
        replace hf := jbd hf
        obtain ⟨v48, h49, hf⟩ := hf
        refine J.getI 9 6 in_X5 rfl (Nat.le_of_ble_eq_true rfl) (Or.inl q873) (Or.inl rfl) h49 dX5_die_96 ?_
        refine J.iconst (v := 1) dX5_die_99 (by decide) ?_
        refine J.isub dX5_die_100 ?_
        obtain ⟨rfl, rfl⟩ := jso hf
        exact J.iret hE (Nat.le_of_ble_eq_true rfl) (Nat.le_of_ble_eq_true rfl) dX5_die_101
      · replace hf := (if_pos hc13).symm.trans hf
        refine J.bipush (v := (-4)) dX5_die_32 (by decide) ?_
        obtain ⟨rfl, rfl⟩ := jso hf
        exact J.iret hE (Nat.le_of_ble_eq_true rfl) (Nat.le_of_ble_eq_true rfl) dX5_die_34
    · replace hf := (if_pos hc10).symm.trans hf
      refine J.bipush (v := (-2)) dX5_die_20 (by decide) ?_
      obtain ⟨rfl, rfl⟩ := jso hf
      exact J.iret hE (Nat.le_of_ble_eq_true rfl) (Nat.le_of_ble_eq_true rfl) dX5_die_22
def rm_X5_warm : Room := { frames := 2, cells := 0, slots := 0, locals := 46 }
theorem hd_X5_warm : yX5_warm.cls = RX5 ∧ yX5_warm.cls ≠ "java/lang/invoke/MethodHandle" ∧ yX5_warm.cls ≠ "java/lang/invoke/VarHandle" ∧ (parseMethodDescriptor yX5_warm.desc).map (fun d => d.parameters.length) = some 1 := by decide +kernel
set_option maxHeartbeats 4000000 in
set_option maxRecDepth 100000 in
theorem w_X5_warm {D : va_G} {l : Launch} {hp hpE : jH} {rE : Int32} {this : Nat} {p1 : Int32} (hf : f_X5_warm this p1 hp = some (rE, hpE)) : jM D l yX5_warm (ws_ yX5_warm cX5_warm 2 (some .int)) rm_X5_warm hp [.ref this, .int p1] (some (.int rE)) hpE := by
  refine jM.of (lv0 := [some (.ref this), some (.int p1)]) (by decide) (Nat.le_of_ble_eq_true rfl) rfl (fun X hDl hRm hE hX0 => ?_)
  rw [f_X5_warm] at hf
  refine J.aload_n (i := 0) dX5_warm_0 rfl rfl ?_
  refine J.iload_n (i := 1) dX5_warm_1 rfl rfl ?_
  replace hf := jbd hf
  obtain ⟨u1, h2, hf⟩ := hf
  replace hf := jbs hf
  obtain ⟨v5, hp4, h3, hf⟩ := hf
  refine J.callV (As := [.int p1]) (k2 := 0) (n2 := 0) 9 hDl hRm (w_X5_isDie h3) (lw_V q1052 q1054 qs22 q44 q1055) hd_X5_isDie rfl ⟨_, h2⟩ rfl (Nat.le_of_ble_eq_true rfl) (Nat.le_of_ble_eq_true rfl) (Nat.le_of_ble_eq_true rfl) (Nat.le_of_ble_eq_true rfl) (Nat.le_of_ble_eq_true rfl) (Nat.le_of_ble_eq_true rfl) (Nat.le_of_ble_eq_true rfl) rfl dX5_warm_2 ?_
  refine J.if_ne (tgt := 11) dX5_warm_5 (by decide) (fun hc6 => ?_) (fun hc6 => ?_)
  · replace hf := (if_neg hc6).symm.trans hf
    refine J.aload_n (i := 0) dX5_warm_11 rfl rfl ?_
    replace hf := jbd hf
    obtain ⟨a7, h8, hf⟩ := hf
    refine J.getA 9 11 in_X5 rfl (Nat.le_of_ble_eq_true rfl) (Or.inl q878) (Or.inl rfl) h8 dX5_warm_12 ?_
    refine J.iload_n (i := 1) dX5_warm_15 rfl rfl ?_
    replace hf := jbd hf
    obtain ⟨v9, h10, hf⟩ := hf
    refine J.iald h10 dX5_warm_16 ?_
    refine J.iconst (v := (-1)) dX5_warm_17 (by decide) ?_
    refine J.icmp_eq (tgt := 24) dX5_warm_18 (by decide) (fun hc11 => ?_) (fun hc11 => ?_)
    · replace hf := (if_pos hc11).symm.trans hf
      refine J.aload_n (i := 0) dX5_warm_24 rfl rfl ?_
      replace hf := jbd hf
      obtain ⟨a12, h13, hf⟩ := hf
      refine J.getA 9 11 in_X5 rfl (Nat.le_of_ble_eq_true rfl) (Or.inl q878) (Or.inl rfl) h13 dX5_warm_25 ?_
      refine J.iload_n (i := 1) dX5_warm_28 rfl rfl ?_
      refine J.aload_n (i := 0) dX5_warm_29 rfl rfl ?_
      replace hf := jbd hf
      obtain ⟨v14, h15, hf⟩ := hf
      refine J.getI 9 12 in_X5 rfl (Nat.le_of_ble_eq_true rfl) (Or.inl q879) (Or.inl rfl) h15 dX5_warm_30 ?_
      replace hf := jbd hf
      obtain ⟨hp16, h17, hf⟩ := hf
      refine J.iast h17 dX5_warm_33 ?_
      refine J.iconst (v := 1) dX5_warm_34 (by decide) ?_
      obtain ⟨rfl, rfl⟩ := jso hf
      exact J.iret hE (Nat.le_of_ble_eq_true rfl) (Nat.le_of_ble_eq_true rfl) dX5_warm_35
    · replace hf := (if_neg hc11).symm.trans hf
      refine J.bipush (v := (-3)) dX5_warm_21 (by decide) ?_
      obtain ⟨rfl, rfl⟩ := jso hf
      exact J.iret hE (Nat.le_of_ble_eq_true rfl) (Nat.le_of_ble_eq_true rfl) dX5_warm_23
  · replace hf := (if_pos hc6).symm.trans hf
    refine J.bipush (v := (-2)) dX5_warm_8 (by decide) ?_
    obtain ⟨rfl, rfl⟩ := jso hf
    exact J.iret hE (Nat.le_of_ble_eq_true rfl) (Nat.le_of_ble_eq_true rfl) dX5_warm_10
def rm_X5_cool : Room := { frames := 2, cells := 0, slots := 0, locals := 46 }
theorem hd_X5_cool : yX5_cool.cls = RX5 ∧ yX5_cool.cls ≠ "java/lang/invoke/MethodHandle" ∧ yX5_cool.cls ≠ "java/lang/invoke/VarHandle" ∧ (parseMethodDescriptor yX5_cool.desc).map (fun d => d.parameters.length) = some 1 := by decide +kernel
set_option maxHeartbeats 4000000 in
set_option maxRecDepth 100000 in
theorem w_X5_cool {D : va_G} {l : Launch} {hp hpE : jH} {rE : Int32} {this : Nat} {p1 : Int32} (hf : f_X5_cool this p1 hp = some (rE, hpE)) : jM D l yX5_cool (ws_ yX5_cool cX5_cool 3 (some .int)) rm_X5_cool hp [.ref this, .int p1] (some (.int rE)) hpE := by
  refine jM.of (lv0 := [some (.ref this), some (.int p1), none]) (by decide) (Nat.le_of_ble_eq_true rfl) rfl (fun X hDl hRm hE hX0 => ?_)
  rw [f_X5_cool] at hf
  refine J.aload_n (i := 0) dX5_cool_0 rfl rfl ?_
  refine J.iload_n (i := 1) dX5_cool_1 rfl rfl ?_
  replace hf := jbd hf
  obtain ⟨u1, h2, hf⟩ := hf
  replace hf := jbs hf
  obtain ⟨v5, hp4, h3, hf⟩ := hf
  refine J.callV (As := [.int p1]) (k2 := 0) (n2 := 0) 9 hDl hRm (w_X5_isDie h3) (lw_V q1052 q1054 qs22 q44 q1055) hd_X5_isDie rfl ⟨_, h2⟩ rfl (Nat.le_of_ble_eq_true rfl) (Nat.le_of_ble_eq_true rfl) (Nat.le_of_ble_eq_true rfl) (Nat.le_of_ble_eq_true rfl) (Nat.le_of_ble_eq_true rfl) (Nat.le_of_ble_eq_true rfl) (Nat.le_of_ble_eq_true rfl) rfl dX5_cool_2 ?_
  refine J.if_ne (tgt := 11) dX5_cool_5 (by decide) (fun hc6 => ?_) (fun hc6 => ?_)
  · replace hf := (if_neg hc6).symm.trans hf
    refine J.aload_n (i := 0) dX5_cool_11 rfl rfl ?_
    replace hf := jbd hf
    obtain ⟨a7, h8, hf⟩ := hf
    refine J.getA 9 11 in_X5 rfl (Nat.le_of_ble_eq_true rfl) (Or.inl q878) (Or.inl rfl) h8 dX5_cool_12 ?_
    refine J.iload_n (i := 1) dX5_cool_15 rfl rfl ?_
    replace hf := jbd hf
    obtain ⟨v9, h10, hf⟩ := hf
    refine J.iald h10 dX5_cool_16 ?_
    refine J.iconst (v := (-1)) dX5_cool_17 (by decide) ?_
    refine J.icmp_ne (tgt := 24) dX5_cool_18 (by decide) (fun hc11 => ?_) (fun hc11 => ?_)
    · replace hf := (if_neg hc11).symm.trans hf
      refine J.aload_n (i := 0) dX5_cool_24 rfl rfl ?_
      replace hf := jbd hf
      obtain ⟨v12, h13, hf⟩ := hf
      refine J.getI 9 12 in_X5 rfl (Nat.le_of_ble_eq_true rfl) (Or.inl q879) (Or.inl rfl) h13 dX5_cool_25 ?_
      refine J.aload_n (i := 0) dX5_cool_28 rfl rfl ?_
      replace hf := jbd hf
      obtain ⟨a14, h15, hf⟩ := hf
      refine J.getA 9 11 in_X5 rfl (Nat.le_of_ble_eq_true rfl) (Or.inl q878) (Or.inl rfl) h15 dX5_cool_29 ?_
      refine J.iload_n (i := 1) dX5_cool_32 rfl rfl ?_
      replace hf := jbd hf
      obtain ⟨v16, h17, hf⟩ := hf
      refine J.iald h17 dX5_cool_33 ?_
      refine J.isub dX5_cool_34 ?_
      refine J.istore_n (i := 2) (lv' := [some (.ref this), some (.int p1), some (.int (v12 - v16))]) dX5_cool_35 rfl (Nat.le_of_ble_eq_true rfl) rfl ?_
      refine J.aload_n (i := 0) dX5_cool_36 rfl rfl ?_
      replace hf := jbd hf
      obtain ⟨a18, h19, hf⟩ := hf
      refine J.getA 9 11 in_X5 rfl (Nat.le_of_ble_eq_true rfl) (Or.inl q878) (Or.inl rfl) h19 dX5_cool_37 ?_
      refine J.iload_n (i := 1) dX5_cool_40 rfl rfl ?_
      refine J.iconst (v := (-1)) dX5_cool_41 (by decide) ?_
      replace hf := jbd hf
      obtain ⟨hp20, h21, hf⟩ := hf
      refine J.iast h21 dX5_cool_42 ?_
      refine J.iload_n (i := 2) dX5_cool_43 rfl rfl ?_
      obtain ⟨rfl, rfl⟩ := jso hf
      exact J.iret hE (Nat.le_of_ble_eq_true rfl) (Nat.le_of_ble_eq_true rfl) dX5_cool_44
    · replace hf := (if_pos hc11).symm.trans hf
      refine J.bipush (v := (-3)) dX5_cool_21 (by decide) ?_
      obtain ⟨rfl, rfl⟩ := jso hf
      exact J.iret hE (Nat.le_of_ble_eq_true rfl) (Nat.le_of_ble_eq_true rfl) dX5_cool_23
  · replace hf := (if_pos hc6).symm.trans hf
    refine J.bipush (v := (-2)) dX5_cool_8 (by decide) ?_
    obtain ⟨rfl, rfl⟩ := jso hf
    exact J.iret hE (Nat.le_of_ble_eq_true rfl) (Nat.le_of_ble_eq_true rfl) dX5_cool_10
def rm_X5_nitride : Room := { frames := 2, cells := 0, slots := 0, locals := 46 }
theorem hd_X5_nitride : yX5_nitride.cls = RX5 ∧ yX5_nitride.cls ≠ "java/lang/invoke/MethodHandle" ∧ yX5_nitride.cls ≠ "java/lang/invoke/VarHandle" ∧ (parseMethodDescriptor yX5_nitride.desc).map (fun d => d.parameters.length) = some 1 := by decide +kernel
set_option maxHeartbeats 4000000 in
set_option maxRecDepth 100000 in
theorem w_X5_nitride {D : va_G} {l : Launch} {hp hpE : jH} {rE : Int32} {this : Nat} {p1 : Int32} (hf : f_X5_nitride this p1 hp = some (rE, hpE)) : jM D l yX5_nitride (ws_ yX5_nitride cX5_nitride 3 (some .int)) rm_X5_nitride hp [.ref this, .int p1] (some (.int rE)) hpE := by
  refine jM.of (lv0 := [some (.ref this), some (.int p1), none]) (by decide) (Nat.le_of_ble_eq_true rfl) rfl (fun X hDl hRm hE hX0 => ?_)
  rw [f_X5_nitride] at hf
  refine J.aload_n (i := 0) dX5_nitride_0 rfl rfl ?_
  refine J.iload_n (i := 1) dX5_nitride_1 rfl rfl ?_
  replace hf := jbd hf
  obtain ⟨u1, h2, hf⟩ := hf
  replace hf := jbs hf
  obtain ⟨v5, hp4, h3, hf⟩ := hf
  refine J.callV (As := [.int p1]) (k2 := 0) (n2 := 0) 9 hDl hRm (w_X5_isDie h3) (lw_V q1052 q1054 qs22 q44 q1055) hd_X5_isDie rfl ⟨_, h2⟩ rfl (Nat.le_of_ble_eq_true rfl) (Nat.le_of_ble_eq_true rfl) (Nat.le_of_ble_eq_true rfl) (Nat.le_of_ble_eq_true rfl) (Nat.le_of_ble_eq_true rfl) (Nat.le_of_ble_eq_true rfl) (Nat.le_of_ble_eq_true rfl) rfl dX5_nitride_2 ?_
  refine J.if_ne (tgt := 11) dX5_nitride_5 (by decide) (fun hc6 => ?_) (fun hc6 => ?_)
  · replace hf := (if_neg hc6).symm.trans hf
    refine J.aload_n (i := 0) dX5_nitride_11 rfl rfl ?_
    replace hf := jbd hf
    obtain ⟨a7, h8, hf⟩ := hf
    refine J.getA 9 11 in_X5 rfl (Nat.le_of_ble_eq_true rfl) (Or.inl q878) (Or.inl rfl) h8 dX5_nitride_12 ?_
    refine J.iload_n (i := 1) dX5_nitride_15 rfl rfl ?_
    replace hf := jbd hf
    obtain ⟨v9, h10, hf⟩ := hf
    refine J.iald h10 dX5_nitride_16 ?_
    refine J.iconst (v := (-1)) dX5_nitride_17 (by decide) ?_
    refine J.icmp_eq (tgt := 24) dX5_nitride_18 (by decide) (fun hc11 => ?_) (fun hc11 => ?_)
    · replace hf := (if_pos hc11).symm.trans hf
      refine J.aload_n (i := 0) dX5_nitride_24 rfl rfl ?_
      replace hf := jbd hf
      obtain ⟨a12, h13, hf⟩ := hf
      refine J.getA 9 9 in_X5 rfl (Nat.le_of_ble_eq_true rfl) (Or.inl q876) (Or.inl rfl) h13 dX5_nitride_25 ?_
      refine J.iload_n (i := 1) dX5_nitride_28 rfl rfl ?_
      replace hf := jbd hf
      obtain ⟨v14, h15, hf⟩ := hf
      refine J.iald h15 dX5_nitride_29 ?_
      refine J.istore_n (i := 2) (lv' := [some (.ref this), some (.int p1), some (.int v14)]) dX5_nitride_30 rfl (Nat.le_of_ble_eq_true rfl) rfl ?_
      refine J.aload_n (i := 0) dX5_nitride_31 rfl rfl ?_
      replace hf := jbd hf
      obtain ⟨a16, h17, hf⟩ := hf
      refine J.getA 9 9 in_X5 rfl (Nat.le_of_ble_eq_true rfl) (Or.inl q876) (Or.inl rfl) h17 dX5_nitride_32 ?_
      refine J.iload_n (i := 1) dX5_nitride_35 rfl rfl ?_
      refine J.iconst (v := 0) dX5_nitride_36 (by decide) ?_
      replace hf := jbd hf
      obtain ⟨hp18, h19, hf⟩ := hf
      refine J.iast h19 dX5_nitride_37 ?_
      refine J.iload_n (i := 2) dX5_nitride_38 rfl rfl ?_
      obtain ⟨rfl, rfl⟩ := jso hf
      exact J.iret hE (Nat.le_of_ble_eq_true rfl) (Nat.le_of_ble_eq_true rfl) dX5_nitride_39
    · replace hf := (if_neg hc11).symm.trans hf
      refine J.bipush (v := (-3)) dX5_nitride_21 (by decide) ?_
      obtain ⟨rfl, rfl⟩ := jso hf
      exact J.iret hE (Nat.le_of_ble_eq_true rfl) (Nat.le_of_ble_eq_true rfl) dX5_nitride_23
  · replace hf := (if_pos hc6).symm.trans hf
    refine J.bipush (v := (-2)) dX5_nitride_8 (by decide) ?_
    obtain ⟨rfl, rfl⟩ := jso hf
    exact J.iret hE (Nat.le_of_ble_eq_true rfl) (Nat.le_of_ble_eq_true rfl) dX5_nitride_10
def rm_X5_mayPress : Room := { frames := 1, cells := 0, slots := 0, locals := 25 }
theorem hd_X5_mayPress : yX5_mayPress.cls = RX5 ∧ yX5_mayPress.cls ≠ "java/lang/invoke/MethodHandle" ∧ yX5_mayPress.cls ≠ "java/lang/invoke/VarHandle" ∧ (parseMethodDescriptor yX5_mayPress.desc).map (fun d => d.parameters.length) = some 1 := by decide +kernel
set_option maxHeartbeats 4000000 in
set_option maxRecDepth 100000 in
theorem w_X5_mayPress {D : va_G} {l : Launch} {hp hpE : jH} {rE : Int32} {this : Nat} {p1 : Int32} (hf : f_X5_mayPress this p1 hp = some (rE, hpE)) : jM D l yX5_mayPress (ws_ yX5_mayPress cX5_mayPress 2 (some .boolean)) rm_X5_mayPress hp [.ref this, .int p1] (some (.int rE)) hpE := by
  refine jM.of (lv0 := [some (.ref this), some (.int p1)]) (by decide) (Nat.le_of_ble_eq_true rfl) rfl (fun X hDl hRm hE hX0 => ?_)
  rw [f_X5_mayPress] at hf
  refine J.aload_n (i := 0) dX5_mayPress_0 rfl rfl ?_
  replace hf := jbd hf
  obtain ⟨a1, h2, hf⟩ := hf
  refine J.getA 9 11 in_X5 rfl (Nat.le_of_ble_eq_true rfl) (Or.inl q878) (Or.inl rfl) h2 dX5_mayPress_1 ?_
  refine J.iload_n (i := 1) dX5_mayPress_4 rfl rfl ?_
  replace hf := jbd hf
  obtain ⟨v3, h4, hf⟩ := hf
  refine J.iald h4 dX5_mayPress_5 ?_
  refine J.iconst (v := (-1)) dX5_mayPress_6 (by decide) ?_
  refine J.icmp_eq (tgt := 53) dX5_mayPress_7 (by decide) (fun hc5 => ?_) (fun hc5 => ?_)
  · replace hf := (if_pos hc5).symm.trans hf
    refine J.iconst (v := 0) dX5_mayPress_53 (by decide) ?_
    obtain ⟨rfl, rfl⟩ := jso hf
    exact J.zret hE narrow_b0 (Nat.le_of_ble_eq_true rfl) (Nat.le_of_ble_eq_true rfl) dX5_mayPress_54
  · replace hf := (if_neg hc5).symm.trans hf
    refine J.aload_n (i := 0) dX5_mayPress_10 rfl rfl ?_
    replace hf := jbd hf
    obtain ⟨v6, h7, hf⟩ := hf
    refine J.getI 9 12 in_X5 rfl (Nat.le_of_ble_eq_true rfl) (Or.inl q879) (Or.inl rfl) h7 dX5_mayPress_11 ?_
    refine J.aload_n (i := 0) dX5_mayPress_14 rfl rfl ?_
    replace hf := jbd hf
    obtain ⟨a8, h9, hf⟩ := hf
    refine J.getA 9 11 in_X5 rfl (Nat.le_of_ble_eq_true rfl) (Or.inl q878) (Or.inl rfl) h9 dX5_mayPress_15 ?_
    refine J.iload_n (i := 1) dX5_mayPress_18 rfl rfl ?_
    replace hf := jbd hf
    obtain ⟨v10, h11, hf⟩ := hf
    refine J.iald h11 dX5_mayPress_19 ?_
    refine J.isub dX5_mayPress_20 ?_
    refine J.i2l dX5_mayPress_21 ?_
    refine J.ldc2 q1036 dX5_mayPress_22 ?_
    refine J.ldc2 q1072 dX5_mayPress_25 ?_
    replace hf := jbs hf
    obtain ⟨v14, hp13, h12, hf⟩ := hf
    refine J.callS (As := [.long ((v6 - v10).toInt64), .long (3 : Int64), .long (12 : Int64)]) (k2 := 0) (n2 := 0) hDl hRm (w_X5_in h12) (lw_S q1031 q1032 q44 q1033) hs_X5_in rfl (Nat.le_of_ble_eq_true rfl) (Nat.le_of_ble_eq_true rfl) (Nat.le_of_ble_eq_true rfl) (Nat.le_of_ble_eq_true rfl) (Nat.le_of_ble_eq_true rfl) (Nat.le_of_ble_eq_true rfl) (Nat.le_of_ble_eq_true rfl) rfl dX5_mayPress_28 ?_
    refine J.if_eq (tgt := 53) dX5_mayPress_31 (by decide) (fun hc15 => ?_) (fun hc15 => ?_)
    · replace hf := (if_pos hc15).symm.trans hf
      refine J.iconst (v := 0) dX5_mayPress_53 (by decide) ?_
      obtain ⟨rfl, rfl⟩ := jso hf
      exact J.zret hE narrow_b0 (Nat.le_of_ble_eq_true rfl) (Nat.le_of_ble_eq_true rfl) dX5_mayPress_54
    · replace hf := (if_neg hc15).symm.trans hf
      refine J.aload_n (i := 0) dX5_mayPress_34 rfl rfl ?_
      replace hf := jbd hf
      obtain ⟨a16, h17, hf⟩ := hf
      refine J.getA 9 9 in_X5 rfl (Nat.le_of_ble_eq_true rfl) (Or.inl q876) (Or.inl rfl) h17 dX5_mayPress_35 ?_
      refine J.iload_n (i := 1) dX5_mayPress_38 rfl rfl ?_
      replace hf := jbd hf
      obtain ⟨v18, h19, hf⟩ := hf
      refine J.iald h19 dX5_mayPress_39 ?_
      refine J.aload_n (i := 0) dX5_mayPress_40 rfl rfl ?_
      replace hf := jbd hf
      obtain ⟨a20, h21, hf⟩ := hf
      refine J.getA 9 8 in_X5 rfl (Nat.le_of_ble_eq_true rfl) (Or.inl q875) (Or.inl rfl) h21 dX5_mayPress_41 ?_
      refine J.iload_n (i := 1) dX5_mayPress_44 rfl rfl ?_
      replace hf := jbd hf
      obtain ⟨v22, h23, hf⟩ := hf
      refine J.iald h23 dX5_mayPress_45 ?_
      refine J.icmp_ge (tgt := 53) dX5_mayPress_46 (by decide) (fun hc24 => ?_) (fun hc24 => ?_)
      · replace hf := (if_pos hc24).symm.trans hf
        refine J.iconst (v := 0) dX5_mayPress_53 (by decide) ?_
        obtain ⟨rfl, rfl⟩ := jso hf
        exact J.zret hE narrow_b0 (Nat.le_of_ble_eq_true rfl) (Nat.le_of_ble_eq_true rfl) dX5_mayPress_54
      · replace hf := (if_neg hc24).symm.trans hf
        refine J.iconst (v := 1) dX5_mayPress_49 (by decide) ?_
        refine J.goto (tgt := 54) dX5_mayPress_50 (by decide) ?_
        obtain ⟨rfl, rfl⟩ := jso hf
        exact J.zret hE narrow_b1 (Nat.le_of_ble_eq_true rfl) (Nat.le_of_ble_eq_true rfl) dX5_mayPress_54
def rm_X5_about : Room := { frames := 2, cells := 0, slots := 0, locals := 46 }
theorem hd_X5_about : yX5_about.cls = RX5 ∧ yX5_about.cls ≠ "java/lang/invoke/MethodHandle" ∧ yX5_about.cls ≠ "java/lang/invoke/VarHandle" ∧ (parseMethodDescriptor yX5_about.desc).map (fun d => d.parameters.length) = some 2 := by decide +kernel
set_option maxHeartbeats 4000000 in
set_option maxRecDepth 100000 in
theorem w_X5_about {D : va_G} {l : Launch} {hp hpE : jH} {rE : Int32} {this : Nat} {p1 : Int32} {p2 : Int32} (hf : f_X5_about this p1 p2 hp = some (rE, hpE)) : jM D l yX5_about (ws_ yX5_about cX5_about 3 (some .int)) rm_X5_about hp [.ref this, .int p1, .int p2] (some (.int rE)) hpE := by
  refine jM.of (lv0 := [some (.ref this), some (.int p1), some (.int p2)]) (by decide) (Nat.le_of_ble_eq_true rfl) rfl (fun X hDl hRm hE hX0 => ?_)
  rw [f_X5_about] at hf
  refine J.aload_n (i := 0) dX5_about_0 rfl rfl ?_
  refine J.iload_n (i := 1) dX5_about_1 rfl rfl ?_
  replace hf := jbd hf
  obtain ⟨u1, h2, hf⟩ := hf
  replace hf := jbs hf
  obtain ⟨v5, hp4, h3, hf⟩ := hf
  refine J.callV (As := [.int p1]) (k2 := 0) (n2 := 0) 9 hDl hRm (w_X5_isDie h3) (lw_V q1052 q1054 qs22 q44 q1055) hd_X5_isDie rfl ⟨_, h2⟩ rfl (Nat.le_of_ble_eq_true rfl) (Nat.le_of_ble_eq_true rfl) (Nat.le_of_ble_eq_true rfl) (Nat.le_of_ble_eq_true rfl) (Nat.le_of_ble_eq_true rfl) (Nat.le_of_ble_eq_true rfl) (Nat.le_of_ble_eq_true rfl) rfl dX5_about_2 ?_
  refine J.if_ne (tgt := 11) dX5_about_5 (by decide) (fun hc6 => ?_) (fun hc6 => ?_)
  · replace hf := (if_neg hc6).symm.trans hf
    refine J.iload_n (i := 2) dX5_about_11 rfl rfl ?_
    by_cases hc7 : p2 = (0 : Int32)
    · replace hf := (if_pos hc7).symm.trans hf
      refine J.tableIn (tgt := 52) dX5_about_12 (by rw [hc7]; decide) (by rw [hc7]; decide) (by rw [hc7]; rfl) (by decide) ?_
      refine J.aload_n (i := 0) dX5_about_52 rfl rfl ?_
      replace hf := jbd hf
      obtain ⟨a8, h9, hf⟩ := hf
      refine J.getA 9 7 in_X5 rfl (Nat.le_of_ble_eq_true rfl) (Or.inl q874) (Or.inl rfl) h9 dX5_about_53 ?_
      refine J.iload_n (i := 1) dX5_about_56 rfl rfl ?_
      replace hf := jbd hf
      obtain ⟨v10, h11, hf⟩ := hf
      refine J.iald h11 dX5_about_57 ?_
      obtain ⟨rfl, rfl⟩ := jso hf
      exact J.iret hE (Nat.le_of_ble_eq_true rfl) (Nat.le_of_ble_eq_true rfl) dX5_about_58
    replace hf := (if_neg hc7).symm.trans hf
    by_cases hc12 : p2 = (1 : Int32)
    · replace hf := (if_pos hc12).symm.trans hf
      refine J.tableIn (tgt := 59) dX5_about_12 (by rw [hc12]; decide) (by rw [hc12]; decide) (by rw [hc12]; rfl) (by decide) ?_
      refine J.aload_n (i := 0) dX5_about_59 rfl rfl ?_
      replace hf := jbd hf
      obtain ⟨a13, h14, hf⟩ := hf
      refine J.getA 9 8 in_X5 rfl (Nat.le_of_ble_eq_true rfl) (Or.inl q875) (Or.inl rfl) h14 dX5_about_60 ?_
      refine J.iload_n (i := 1) dX5_about_63 rfl rfl ?_
      replace hf := jbd hf
      obtain ⟨v15, h16, hf⟩ := hf
      refine J.iald h16 dX5_about_64 ?_
      obtain ⟨rfl, rfl⟩ := jso hf
      exact J.iret hE (Nat.le_of_ble_eq_true rfl) (Nat.le_of_ble_eq_true rfl) dX5_about_65
    replace hf := (if_neg hc12).symm.trans hf
    by_cases hc17 : p2 = (2 : Int32)
    · replace hf := (if_pos hc17).symm.trans hf
      refine J.tableIn (tgt := 66) dX5_about_12 (by rw [hc17]; decide) (by rw [hc17]; decide) (by rw [hc17]; rfl) (by decide) ?_
      refine J.aload_n (i := 0) dX5_about_66 rfl rfl ?_
      replace hf := jbd hf
      obtain ⟨a18, h19, hf⟩ := hf
      refine J.getA 9 9 in_X5 rfl (Nat.le_of_ble_eq_true rfl) (Or.inl q876) (Or.inl rfl) h19 dX5_about_67 ?_
      refine J.iload_n (i := 1) dX5_about_70 rfl rfl ?_
      replace hf := jbd hf
      obtain ⟨v20, h21, hf⟩ := hf
      refine J.iald h21 dX5_about_71 ?_
      obtain ⟨rfl, rfl⟩ := jso hf
      exact J.iret hE (Nat.le_of_ble_eq_true rfl) (Nat.le_of_ble_eq_true rfl) dX5_about_72
    replace hf := (if_neg hc17).symm.trans hf
    by_cases hc22 : p2 = (3 : Int32)
    · replace hf := (if_pos hc22).symm.trans hf
      refine J.tableIn (tgt := 73) dX5_about_12 (by rw [hc22]; decide) (by rw [hc22]; decide) (by rw [hc22]; rfl) (by decide) ?_
      refine J.aload_n (i := 0) dX5_about_73 rfl rfl ?_
      replace hf := jbd hf
      obtain ⟨a23, h24, hf⟩ := hf
      refine J.getA 9 11 in_X5 rfl (Nat.le_of_ble_eq_true rfl) (Or.inl q878) (Or.inl rfl) h24 dX5_about_74 ?_
      refine J.iload_n (i := 1) dX5_about_77 rfl rfl ?_
      replace hf := jbd hf
      obtain ⟨v25, h26, hf⟩ := hf
      refine J.iald h26 dX5_about_78 ?_
      refine J.iconst (v := (-1)) dX5_about_79 (by decide) ?_
      refine J.icmp_ne (tgt := 87) dX5_about_80 (by decide) (fun hc27 => ?_) (fun hc27 => ?_)
      · replace hf := (if_neg hc27).symm.trans hf
        refine J.aload_n (i := 0) dX5_about_87 rfl rfl ?_
        replace hf := jbd hf
        obtain ⟨v28, h29, hf⟩ := hf
        refine J.getI 9 12 in_X5 rfl (Nat.le_of_ble_eq_true rfl) (Or.inl q879) (Or.inl rfl) h29 dX5_about_88 ?_
        refine J.aload_n (i := 0) dX5_about_91 rfl rfl ?_
        replace hf := jbd hf
        obtain ⟨a30, h31, hf⟩ := hf
        refine J.getA 9 11 in_X5 rfl (Nat.le_of_ble_eq_true rfl) (Or.inl q878) (Or.inl rfl) h31 dX5_about_92 ?_
        refine J.iload_n (i := 1) dX5_about_95 rfl rfl ?_
        replace hf := jbd hf
        obtain ⟨v32, h33, hf⟩ := hf
        refine J.iald h33 dX5_about_96 ?_
        refine J.isub dX5_about_97 ?_
        obtain ⟨rfl, rfl⟩ := jso hf
        exact J.iret hE (Nat.le_of_ble_eq_true rfl) (Nat.le_of_ble_eq_true rfl) dX5_about_98
      · replace hf := (if_pos hc27).symm.trans hf
        refine J.iconst (v := (-1)) dX5_about_83 (by decide) ?_
        refine J.goto (tgt := 98) dX5_about_84 (by decide) ?_
        obtain ⟨rfl, rfl⟩ := jso hf
        exact J.iret hE (Nat.le_of_ble_eq_true rfl) (Nat.le_of_ble_eq_true rfl) dX5_about_98
    replace hf := (if_neg hc22).symm.trans hf
    by_cases hc34 : p2 = (4 : Int32)
    · replace hf := (if_pos hc34).symm.trans hf
      refine J.tableIn (tgt := 99) dX5_about_12 (by rw [hc34]; decide) (by rw [hc34]; decide) (by rw [hc34]; rfl) (by decide) ?_
      refine J.aload_n (i := 0) dX5_about_99 rfl rfl ?_
      refine J.iload_n (i := 1) dX5_about_100 rfl rfl ?_
      replace hf := jbd hf
      obtain ⟨u35, h36, hf⟩ := hf
      replace hf := jbs hf
      obtain ⟨v39, hp38, h37, hf⟩ := hf
      refine J.callV (As := [.int p1]) (k2 := 0) (n2 := 0) 9 hDl hRm (w_X5_mayPress h37) (lw_V q1068 q1070 qs23 q44 q1071) hd_X5_mayPress rfl ⟨_, h36⟩ rfl (Nat.le_of_ble_eq_true rfl) (Nat.le_of_ble_eq_true rfl) (Nat.le_of_ble_eq_true rfl) (Nat.le_of_ble_eq_true rfl) (Nat.le_of_ble_eq_true rfl) (Nat.le_of_ble_eq_true rfl) (Nat.le_of_ble_eq_true rfl) rfl dX5_about_101 ?_
      refine J.if_eq (tgt := 111) dX5_about_104 (by decide) (fun hc40 => ?_) (fun hc40 => ?_)
      · replace hf := (if_pos hc40).symm.trans hf
        refine J.iconst (v := 0) dX5_about_111 (by decide) ?_
        obtain ⟨rfl, rfl⟩ := jso hf
        exact J.iret hE (Nat.le_of_ble_eq_true rfl) (Nat.le_of_ble_eq_true rfl) dX5_about_112
      · replace hf := (if_neg hc40).symm.trans hf
        refine J.iconst (v := 1) dX5_about_107 (by decide) ?_
        refine J.goto (tgt := 112) dX5_about_108 (by decide) ?_
        obtain ⟨rfl, rfl⟩ := jso hf
        exact J.iret hE (Nat.le_of_ble_eq_true rfl) (Nat.le_of_ble_eq_true rfl) dX5_about_112
    replace hf := (if_neg hc34).symm.trans hf
    by_cases hc41 : p2 = (5 : Int32)
    · replace hf := (if_pos hc41).symm.trans hf
      refine J.tableIn (tgt := 113) dX5_about_12 (by rw [hc41]; decide) (by rw [hc41]; decide) (by rw [hc41]; rfl) (by decide) ?_
      refine J.aload_n (i := 0) dX5_about_113 rfl rfl ?_
      replace hf := jbd hf
      obtain ⟨a42, h43, hf⟩ := hf
      refine J.getA 9 10 in_X5 rfl (Nat.le_of_ble_eq_true rfl) (Or.inl q877) (Or.inl rfl) h43 dX5_about_114 ?_
      refine J.iload_n (i := 1) dX5_about_117 rfl rfl ?_
      replace hf := jbd hf
      obtain ⟨v44, h45, hf⟩ := hf
      refine J.iald h45 dX5_about_118 ?_
      obtain ⟨rfl, rfl⟩ := jso hf
      exact J.iret hE (Nat.le_of_ble_eq_true rfl) (Nat.le_of_ble_eq_true rfl) dX5_about_119
    replace hf := (if_neg hc41).symm.trans hf
    refine J.tableOut (tgt := 120) dX5_about_12 (by have ehc7 := lv_neT hc7 (show (0 : Int32).toInt = 0 from rfl); have ehc12 := lv_neT hc12 (show (1 : Int32).toInt = 1 from rfl); have ehc17 := lv_neT hc17 (show (2 : Int32).toInt = 2 from rfl); have ehc22 := lv_neT hc22 (show (3 : Int32).toInt = 3 from rfl); have ehc34 := lv_neT hc34 (show (4 : Int32).toInt = 4 from rfl); have ehc41 := lv_neT hc41 (show (5 : Int32).toInt = 5 from rfl); omega) (by decide) ?_
    refine J.bipush (v := (-2)) dX5_about_120 (by decide) ?_
    obtain ⟨rfl, rfl⟩ := jso hf
    exact J.iret hE (Nat.le_of_ble_eq_true rfl) (Nat.le_of_ble_eq_true rfl) dX5_about_122
  · replace hf := (if_pos hc6).symm.trans hf
    refine J.bipush (v := (-2)) dX5_about_8 (by decide) ?_
    obtain ⟨rfl, rfl⟩ := jso hf
    exact J.iret hE (Nat.le_of_ble_eq_true rfl) (Nat.le_of_ble_eq_true rfl) dX5_about_10
def rm_X5_ready : Room := { frames := 2, cells := 0, slots := 0, locals := 46 }
theorem hd_X5_ready : yX5_ready.cls = RX5 ∧ yX5_ready.cls ≠ "java/lang/invoke/MethodHandle" ∧ yX5_ready.cls ≠ "java/lang/invoke/VarHandle" ∧ (parseMethodDescriptor yX5_ready.desc).map (fun d => d.parameters.length) = some 1 := by decide +kernel
set_option maxHeartbeats 4000000 in
set_option maxRecDepth 100000 in
theorem w_X5_ready_j63 {D : va_G} {l : Launch} {X : jX} {hp0 hpE : jH} {rE : Int32} (hDl : jDl X D l) (hRm : jRoom X rm_X5_ready.frames rm_X5_ready.locals rm_X5_ready.cells rm_X5_ready.slots) (hE : jEnds X (some .int) (some (.int rE)) hpE rm_X5_ready.cells rm_X5_ready.slots) (hX0 : jX0 X hp0) {K15 : Nat → Int32 → Int32 → Int32 → jH → Option (Int32 × jH)} (hK15 : ∀ (xa_0 : Nat) (xi_1 : Int32) (xi_2 : Int32) (xi_3 : Int32) (hp : jH), K15 xa_0 xi_1 xi_2 xi_3 hp = some (rE, hpE) → J X cX5_ready 4 yX5_ready 0 0 15 [some (.ref xa_0), some (.int xi_1), some (.int xi_2), some (.int xi_3)] [] hp) {xa_0 : Nat} {xi_1 : Int32} {xi_2 : Int32} {xi_3 : Int32} {hp : jH} (hf : f_X5_ready_j63 K15 xa_0 xi_1 xi_2 xi_3 hp = some (rE, hpE)) : J X cX5_ready 4 yX5_ready 0 0 63 [some (.ref xa_0), some (.int xi_1), some (.int xi_2), some (.int xi_3)] [] hp := by
  rw [f_X5_ready_j63] at hf
  refine J.iinc (i := 3) (v := (xi_3 + 1)) (lv' := [some (.ref xa_0), some (.int xi_1), some (.int xi_2), some (.int (xi_3 + 1))]) dX5_ready_63 rfl rfl (Nat.le_of_ble_eq_true rfl) rfl ?_
  refine J.goto (tgt := 15) dX5_ready_66 (by decide) ?_
  exact hK15 _ _ _ _ _ hf
set_option maxHeartbeats 4000000 in
set_option maxRecDepth 100000 in
theorem w_X5_ready_j61 {D : va_G} {l : Launch} {X : jX} {hp0 hpE : jH} {rE : Int32} (hDl : jDl X D l) (hRm : jRoom X rm_X5_ready.frames rm_X5_ready.locals rm_X5_ready.cells rm_X5_ready.slots) (hE : jEnds X (some .int) (some (.int rE)) hpE rm_X5_ready.cells rm_X5_ready.slots) (hX0 : jX0 X hp0) {K15 : Nat → Int32 → Int32 → Int32 → jH → Option (Int32 × jH)} (hK15 : ∀ (xa_0 : Nat) (xi_1 : Int32) (xi_2 : Int32) (xi_3 : Int32) (hp : jH), K15 xa_0 xi_1 xi_2 xi_3 hp = some (rE, hpE) → J X cX5_ready 4 yX5_ready 0 0 15 [some (.ref xa_0), some (.int xi_1), some (.int xi_2), some (.int xi_3)] [] hp) {xa_0 : Nat} {xi_1 : Int32} {xi_3 : Int32} {hp : jH} (hf : f_X5_ready_j61 K15 xa_0 xi_1 xi_3 hp = some (rE, hpE)) : J X cX5_ready 4 yX5_ready 0 0 61 [some (.ref xa_0), some (.int xi_1), none, some (.int xi_3)] [] hp := by
  rw [f_X5_ready_j61] at hf
  refine J.iload_n (i := 3) dX5_ready_61 rfl rfl ?_
  refine J.istore_n (i := 2) (lv' := [some (.ref xa_0), some (.int xi_1), some (.int xi_3), some (.int xi_3)]) dX5_ready_62 rfl (Nat.le_of_ble_eq_true rfl) rfl ?_
  exact w_X5_ready_j63 hDl hRm hE hX0 hK15 hf
set_option maxHeartbeats 4000000 in
set_option maxRecDepth 100000 in
theorem w_X5_ready_L15 {D : va_G} {l : Launch} {X : jX} {hp0 hpE : jH} {rE : Int32} (hDl : jDl X D l) (hRm : jRoom X rm_X5_ready.frames rm_X5_ready.locals rm_X5_ready.cells rm_X5_ready.slots) (hE : jEnds X (some .int) (some (.int rE)) hpE rm_X5_ready.cells rm_X5_ready.slots) (hX0 : jX0 X hp0) : ∀ (N : Nat) (xa_0 : Nat) (xi_1 : Int32) (xi_2 : Int32) (xi_3 : Int32) (hp : jH), f_X5_ready_L15 N xa_0 xi_1 xi_2 xi_3 hp = some (rE, hpE) → J X cX5_ready 4 yX5_ready 0 0 15 [some (.ref xa_0), some (.int xi_1), some (.int xi_2), some (.int xi_3)] [] hp := by
  intro N
  induction N with
  | zero =>
    intro xa_0 xi_1 xi_2 xi_3 hp hf
    rw [f_X5_ready_L15] at hf
    cases hf
  | succ N ih15 =>
    intro xa_0 xi_1 xi_2 xi_3 hp hf
    rw [f_X5_ready_L15] at hf
    refine J.iload_n (i := 3) dX5_ready_15 rfl rfl ?_
    refine J.aload_n (i := 0) dX5_ready_16 rfl rfl ?_
    replace hf := jbd hf
    obtain ⟨v7, h8, hf⟩ := hf
    refine J.getI 9 6 in_X5 rfl (Nat.le_of_ble_eq_true rfl) (Or.inl q873) (Or.inl rfl) h8 dX5_ready_17 ?_
    refine J.icmp_ge (tgt := 69) dX5_ready_20 (by decide) (fun hc9 => ?_) (fun hc9 => ?_)
    · replace hf := (if_pos hc9).symm.trans hf
      refine J.iload_n (i := 2) dX5_ready_69 rfl rfl ?_
      obtain ⟨rfl, rfl⟩ := jso hf
      exact J.iret hE (Nat.le_of_ble_eq_true rfl) (Nat.le_of_ble_eq_true rfl) dX5_ready_70
    · replace hf := (if_neg hc9).symm.trans hf
      refine J.aload_n (i := 0) dX5_ready_23 rfl rfl ?_
      replace hf := jbd hf
      obtain ⟨a10, h11, hf⟩ := hf
      refine J.getA 9 7 in_X5 rfl (Nat.le_of_ble_eq_true rfl) (Or.inl q874) (Or.inl rfl) h11 dX5_ready_24 ?_
      refine J.iload_n (i := 3) dX5_ready_27 rfl rfl ?_
      replace hf := jbd hf
      obtain ⟨v12, h13, hf⟩ := hf
      refine J.iald h13 dX5_ready_28 ?_
      refine J.iload_n (i := 1) dX5_ready_29 rfl rfl ?_
      refine J.icmp_ne (tgt := 63) dX5_ready_30 (by decide) (fun hc14 => ?_) (fun hc14 => ?_)
      · replace hf := (if_neg hc14).symm.trans hf
        exact w_X5_ready_j63 hDl hRm hE hX0 (fun z0 z1 z2 z3 z4 hz => ih15 z0 z1 z2 z3 z4 hz) hf
      · replace hf := (if_pos hc14).symm.trans hf
        refine J.aload_n (i := 0) dX5_ready_33 rfl rfl ?_
        refine J.iload_n (i := 3) dX5_ready_34 rfl rfl ?_
        replace hf := jbd hf
        obtain ⟨u15, h16, hf⟩ := hf
        replace hf := jbs hf
        obtain ⟨v19, hp18, h17, hf⟩ := hf
        refine J.callV (As := [.int xi_3]) (k2 := 0) (n2 := 0) 9 hDl hRm (w_X5_mayPress h17) (lw_V q1068 q1070 qs23 q44 q1071) hd_X5_mayPress rfl ⟨_, h16⟩ rfl (Nat.le_of_ble_eq_true rfl) (Nat.le_of_ble_eq_true rfl) (Nat.le_of_ble_eq_true rfl) (Nat.le_of_ble_eq_true rfl) (Nat.le_of_ble_eq_true rfl) (Nat.le_of_ble_eq_true rfl) (Nat.le_of_ble_eq_true rfl) rfl dX5_ready_35 ?_
        refine J.if_eq (tgt := 63) dX5_ready_38 (by decide) (fun hc20 => ?_) (fun hc20 => ?_)
        · replace hf := (if_pos hc20).symm.trans hf
          exact w_X5_ready_j63 hDl hRm hE hX0 (fun z0 z1 z2 z3 z4 hz => ih15 z0 z1 z2 z3 z4 hz) hf
        · replace hf := (if_neg hc20).symm.trans hf
          refine J.iload_n (i := 2) dX5_ready_41 rfl rfl ?_
          refine J.iconst (v := (-1)) dX5_ready_42 (by decide) ?_
          refine J.icmp_eq (tgt := 61) dX5_ready_43 (by decide) (fun hc21 => ?_) (fun hc21 => ?_)
          · replace hf := (if_pos hc21).symm.trans hf
            refine J.mask (lv' := [some (.ref xa_0), some (.int xi_1), none, some (.int xi_3)]) [true, true, false, true] rfl ?_
            exact w_X5_ready_j61 hDl hRm hE hX0 (fun z0 z1 z2 z3 z4 hz => ih15 z0 z1 z2 z3 z4 hz) hf
          · replace hf := (if_neg hc21).symm.trans hf
            refine J.aload_n (i := 0) dX5_ready_46 rfl rfl ?_
            replace hf := jbd hf
            obtain ⟨a22, h23, hf⟩ := hf
            refine J.getA 9 9 in_X5 rfl (Nat.le_of_ble_eq_true rfl) (Or.inl q876) (Or.inl rfl) h23 dX5_ready_47 ?_
            refine J.iload_n (i := 3) dX5_ready_50 rfl rfl ?_
            replace hf := jbd hf
            obtain ⟨v24, h25, hf⟩ := hf
            refine J.iald h25 dX5_ready_51 ?_
            refine J.aload_n (i := 0) dX5_ready_52 rfl rfl ?_
            replace hf := jbd hf
            obtain ⟨a26, h27, hf⟩ := hf
            refine J.getA 9 9 in_X5 rfl (Nat.le_of_ble_eq_true rfl) (Or.inl q876) (Or.inl rfl) h27 dX5_ready_53 ?_
            refine J.iload_n (i := 2) dX5_ready_56 rfl rfl ?_
            replace hf := jbd hf
            obtain ⟨v28, h29, hf⟩ := hf
            refine J.iald h29 dX5_ready_57 ?_
            refine J.icmp_ge (tgt := 63) dX5_ready_58 (by decide) (fun hc30 => ?_) (fun hc30 => ?_)
            · replace hf := (if_pos hc30).symm.trans hf
              exact w_X5_ready_j63 hDl hRm hE hX0 (fun z0 z1 z2 z3 z4 hz => ih15 z0 z1 z2 z3 z4 hz) hf
            · replace hf := (if_neg hc30).symm.trans hf
              refine J.mask (lv' := [some (.ref xa_0), some (.int xi_1), none, some (.int xi_3)]) [true, true, false, true] rfl ?_
              exact w_X5_ready_j61 hDl hRm hE hX0 (fun z0 z1 z2 z3 z4 hz => ih15 z0 z1 z2 z3 z4 hz) hf
set_option maxHeartbeats 4000000 in
set_option maxRecDepth 100000 in
theorem w_X5_ready {D : va_G} {l : Launch} {hp hpE : jH} {rE : Int32} {this : Nat} {p1 : Int32} (hf : f_X5_ready this p1 hp = some (rE, hpE)) : jM D l yX5_ready (ws_ yX5_ready cX5_ready 4 (some .int)) rm_X5_ready hp [.ref this, .int p1] (some (.int rE)) hpE := by
  refine jM.of (lv0 := [some (.ref this), some (.int p1), none, none]) (by decide) (Nat.le_of_ble_eq_true rfl) rfl (fun X hDl hRm hE hX0 => ?_)
  rw [f_X5_ready] at hf
  refine J.aload_n (i := 0) dX5_ready_0 rfl rfl ?_
  refine J.iload_n (i := 1) dX5_ready_1 rfl rfl ?_
  replace hf := jbd hf
  obtain ⟨u1, h2, hf⟩ := hf
  replace hf := jbs hf
  obtain ⟨v5, hp4, h3, hf⟩ := hf
  refine J.callV (As := [.int p1]) (k2 := 0) (n2 := 0) 9 hDl hRm (w_X5_isProfile h3) (lw_V q1043 q1045 qs21 q44 q1046) hd_X5_isProfile rfl ⟨_, h2⟩ rfl (Nat.le_of_ble_eq_true rfl) (Nat.le_of_ble_eq_true rfl) (Nat.le_of_ble_eq_true rfl) (Nat.le_of_ble_eq_true rfl) (Nat.le_of_ble_eq_true rfl) (Nat.le_of_ble_eq_true rfl) (Nat.le_of_ble_eq_true rfl) rfl dX5_ready_2 ?_
  refine J.if_ne (tgt := 11) dX5_ready_5 (by decide) (fun hc6 => ?_) (fun hc6 => ?_)
  · replace hf := (if_neg hc6).symm.trans hf
    refine J.iconst (v := (-1)) dX5_ready_11 (by decide) ?_
    refine J.istore_n (i := 2) (lv' := [some (.ref this), some (.int p1), some (.int (-1)), none]) dX5_ready_12 rfl (Nat.le_of_ble_eq_true rfl) rfl ?_
    refine J.iconst (v := 0) dX5_ready_13 (by decide) ?_
    refine J.istore_n (i := 3) (lv' := [some (.ref this), some (.int p1), some (.int (-1)), some (.int 0)]) dX5_ready_14 rfl (Nat.le_of_ble_eq_true rfl) rfl ?_
    exact w_X5_ready_L15 hDl hRm hE hX0 _ _ _ _ _ _ hf
  · replace hf := (if_pos hc6).symm.trans hf
    refine J.bipush (v := (-2)) dX5_ready_8 (by decide) ?_
    obtain ⟨rfl, rfl⟩ := jso hf
    exact J.iret hE (Nat.le_of_ble_eq_true rfl) (Nat.le_of_ble_eq_true rfl) dX5_ready_10
def rm_X5_pass : Room := { frames := 1, cells := 0, slots := 0, locals := 25 }
theorem hd_X5_pass : yX5_pass.cls = RX5 ∧ yX5_pass.cls ≠ "java/lang/invoke/MethodHandle" ∧ yX5_pass.cls ≠ "java/lang/invoke/VarHandle" ∧ (parseMethodDescriptor yX5_pass.desc).map (fun d => d.parameters.length) = some 1 := by decide +kernel
set_option maxHeartbeats 4000000 in
set_option maxRecDepth 100000 in
theorem w_X5_pass {D : va_G} {l : Launch} {hp hpE : jH} {rE : Int32} {this : Nat} {p1 : Int32} (hf : f_X5_pass this p1 hp = some (rE, hpE)) : jM D l yX5_pass (ws_ yX5_pass cX5_pass 2 (some .int)) rm_X5_pass hp [.ref this, .int p1] (some (.int rE)) hpE := by
  refine jM.of (lv0 := [some (.ref this), some (.int p1)]) (by decide) (Nat.le_of_ble_eq_true rfl) rfl (fun X hDl hRm hE hX0 => ?_)
  rw [f_X5_pass] at hf
  refine J.iload_n (i := 1) dX5_pass_0 rfl rfl ?_
  refine J.i2l dX5_pass_1 ?_
  refine J.lconst (v := 1) dX5_pass_2 (by decide) ?_
  refine J.ldc2 q1037 dX5_pass_3 ?_
  replace hf := jbs hf
  obtain ⟨v3, hp2, h1, hf⟩ := hf
  refine J.callS (As := [.long p1.toInt64, .long (1 : Int64), .long (100 : Int64)]) (k2 := 0) (n2 := 0) hDl hRm (w_X5_in h1) (lw_S q1031 q1032 q44 q1033) hs_X5_in rfl (Nat.le_of_ble_eq_true rfl) (Nat.le_of_ble_eq_true rfl) (Nat.le_of_ble_eq_true rfl) (Nat.le_of_ble_eq_true rfl) (Nat.le_of_ble_eq_true rfl) (Nat.le_of_ble_eq_true rfl) (Nat.le_of_ble_eq_true rfl) rfl dX5_pass_6 ?_
  refine J.if_ne (tgt := 15) dX5_pass_9 (by decide) (fun hc4 => ?_) (fun hc4 => ?_)
  · replace hf := (if_neg hc4).symm.trans hf
    refine J.aload_n (i := 0) dX5_pass_15 rfl rfl ?_
    refine J.dup dX5_pass_16 rfl ?_
    replace hf := jbd hf
    obtain ⟨v5, h6, hf⟩ := hf
    refine J.getI 9 12 in_X5 rfl (Nat.le_of_ble_eq_true rfl) (Or.inl q879) (Or.inl rfl) h6 dX5_pass_17 ?_
    refine J.iload_n (i := 1) dX5_pass_20 rfl rfl ?_
    refine J.iadd dX5_pass_21 ?_
    replace hf := jbd hf
    obtain ⟨hp7, h8, hf⟩ := hf
    refine J.put (ty := .int) 9 12 in_X5 ap9 rfl (Nat.le_of_ble_eq_true rfl) (Or.inl q879) (Or.inl rfl) rfl (by decide +kernel) (fun _ => ⟨rfl, rfl⟩) h8 dX5_pass_22 ?_
    refine J.aload_n (i := 0) dX5_pass_25 rfl rfl ?_
    replace hf := jbd hf
    obtain ⟨v9, h10, hf⟩ := hf
    refine J.getI 9 12 in_X5 rfl (Nat.le_of_ble_eq_true rfl) (Or.inl q879) (Or.inl rfl) h10 dX5_pass_26 ?_
    obtain ⟨rfl, rfl⟩ := jso hf
    exact J.iret hE (Nat.le_of_ble_eq_true rfl) (Nat.le_of_ble_eq_true rfl) dX5_pass_29
  · replace hf := (if_pos hc4).symm.trans hf
    refine J.bipush (v := (-2)) dX5_pass_12 (by decide) ?_
    obtain ⟨rfl, rfl⟩ := jso hf
    exact J.iret hE (Nat.le_of_ble_eq_true rfl) (Nat.le_of_ble_eq_true rfl) dX5_pass_14
def rm_X5_law : Room := { frames := 1, cells := 0, slots := 0, locals := 25 }
theorem hd_X5_law : yX5_law.cls = RX5 ∧ yX5_law.cls ≠ "java/lang/invoke/MethodHandle" ∧ yX5_law.cls ≠ "java/lang/invoke/VarHandle" ∧ (parseMethodDescriptor yX5_law.desc).map (fun d => d.parameters.length) = some 2 := by decide +kernel
set_option maxHeartbeats 4000000 in
set_option maxRecDepth 100000 in
theorem w_X5_law_j39 {D : va_G} {l : Launch} {X : jX} {hp0 hpE : jH} {rE : Int32} (hDl : jDl X D l) (hRm : jRoom X rm_X5_law.frames rm_X5_law.locals rm_X5_law.cells rm_X5_law.slots) (hE : jEnds X (some .int) (some (.int rE)) hpE rm_X5_law.cells rm_X5_law.slots) (hX0 : jX0 X hp0) {xa_0 : Nat} {xi_1 : Int32} {xi_2 : Int32} {xl_s0 : Int64} {xl_s1 : Int64} {xl_s2 : Int64} {hp : jH} (hf : f_X5_law_j39 xa_0 xi_1 xi_2 xl_s0 xl_s1 xl_s2 hp = some (rE, hpE)) : J X cX5_law 4 yX5_law 0 0 39 [some (.ref xa_0), some (.int xi_1), some (.int xi_2), none] [.long xl_s2, .long xl_s1, .long xl_s0] hp := by
  rw [f_X5_law_j39] at hf
  replace hf := jbs hf
  obtain ⟨v9, hp8, h7, hf⟩ := hf
  refine J.callS (As := [.long xl_s0, .long xl_s1, .long xl_s2]) (k2 := 0) (n2 := 0) hDl hRm (w_X5_in h7) (lw_S q1031 q1032 q44 q1033) hs_X5_in rfl (Nat.le_of_ble_eq_true rfl) (Nat.le_of_ble_eq_true rfl) (Nat.le_of_ble_eq_true rfl) (Nat.le_of_ble_eq_true rfl) (Nat.le_of_ble_eq_true rfl) (Nat.le_of_ble_eq_true rfl) (Nat.le_of_ble_eq_true rfl) rfl dX5_law_39 ?_
  refine J.if_ne (tgt := 48) dX5_law_42 (by decide) (fun hc10 => ?_) (fun hc10 => ?_)
  · replace hf := (if_neg hc10).symm.trans hf
    refine J.aload_n (i := 0) dX5_law_48 rfl rfl ?_
    replace hf := jbd hf
    obtain ⟨a11, h12, hf⟩ := hf
    refine J.getA 9 0 in_X5 rfl (Nat.le_of_ble_eq_true rfl) (Or.inl q867) (Or.inl rfl) h12 dX5_law_49 ?_
    refine J.iload_n (i := 1) dX5_law_52 rfl rfl ?_
    replace hf := jbd hf
    obtain ⟨v13, h14, hf⟩ := hf
    refine J.iald h14 dX5_law_53 ?_
    refine J.istore_n (i := 3) (lv' := [some (.ref xa_0), some (.int xi_1), some (.int xi_2), some (.int v13)]) dX5_law_54 rfl (Nat.le_of_ble_eq_true rfl) rfl ?_
    refine J.aload_n (i := 0) dX5_law_55 rfl rfl ?_
    replace hf := jbd hf
    obtain ⟨a15, h16, hf⟩ := hf
    refine J.getA 9 0 in_X5 rfl (Nat.le_of_ble_eq_true rfl) (Or.inl q867) (Or.inl rfl) h16 dX5_law_56 ?_
    refine J.iload_n (i := 1) dX5_law_59 rfl rfl ?_
    refine J.iload_n (i := 2) dX5_law_60 rfl rfl ?_
    replace hf := jbd hf
    obtain ⟨hp17, h18, hf⟩ := hf
    refine J.iast h18 dX5_law_61 ?_
    refine J.iload_n (i := 3) dX5_law_62 rfl rfl ?_
    obtain ⟨rfl, rfl⟩ := jso hf
    exact J.iret hE (Nat.le_of_ble_eq_true rfl) (Nat.le_of_ble_eq_true rfl) dX5_law_63
  · replace hf := (if_pos hc10).symm.trans hf
    refine J.bipush (v := (-2)) dX5_law_45 (by decide) ?_
    obtain ⟨rfl, rfl⟩ := jso hf
    exact J.iret hE (Nat.le_of_ble_eq_true rfl) (Nat.le_of_ble_eq_true rfl) dX5_law_47
set_option maxHeartbeats 4000000 in
set_option maxRecDepth 100000 in
theorem w_X5_law {D : va_G} {l : Launch} {hp hpE : jH} {rE : Int32} {this : Nat} {p1 : Int32} {p2 : Int32} (hf : f_X5_law this p1 p2 hp = some (rE, hpE)) : jM D l yX5_law (ws_ yX5_law cX5_law 4 (some .int)) rm_X5_law hp [.ref this, .int p1, .int p2] (some (.int rE)) hpE := by
  refine jM.of (lv0 := [some (.ref this), some (.int p1), some (.int p2), none]) (by decide) (Nat.le_of_ble_eq_true rfl) rfl (fun X hDl hRm hE hX0 => ?_)
  rw [f_X5_law] at hf
  refine J.iload_n (i := 1) dX5_law_0 rfl rfl ?_
  refine J.i2l dX5_law_1 ?_
  refine J.lconst (v := 0) dX5_law_2 (by decide) ?_
  refine J.ldc2 q1034 dX5_law_3 ?_
  replace hf := jbs hf
  obtain ⟨v3, hp2, h1, hf⟩ := hf
  refine J.callS (As := [.long p1.toInt64, .long (0 : Int64), .long (5 : Int64)]) (k2 := 0) (n2 := 0) hDl hRm (w_X5_in h1) (lw_S q1031 q1032 q44 q1033) hs_X5_in rfl (Nat.le_of_ble_eq_true rfl) (Nat.le_of_ble_eq_true rfl) (Nat.le_of_ble_eq_true rfl) (Nat.le_of_ble_eq_true rfl) (Nat.le_of_ble_eq_true rfl) (Nat.le_of_ble_eq_true rfl) (Nat.le_of_ble_eq_true rfl) rfl dX5_law_6 ?_
  refine J.if_eq (tgt := 45) dX5_law_9 (by decide) (fun hc4 => ?_) (fun hc4 => ?_)
  · replace hf := (if_pos hc4).symm.trans hf
    refine J.bipush (v := (-2)) dX5_law_45 (by decide) ?_
    obtain ⟨rfl, rfl⟩ := jso hf
    exact J.iret hE (Nat.le_of_ble_eq_true rfl) (Nat.le_of_ble_eq_true rfl) dX5_law_47
  · replace hf := (if_neg hc4).symm.trans hf
    refine J.iload_n (i := 2) dX5_law_12 rfl rfl ?_
    refine J.i2l dX5_law_13 ?_
    refine J.lconst (v := 0) dX5_law_14 (by decide) ?_
    refine J.iload_n (i := 1) dX5_law_15 rfl rfl ?_
    refine J.if_ne (tgt := 25) dX5_law_16 (by decide) (fun hc5 => ?_) (fun hc5 => ?_)
    · replace hf := (if_neg hc5).symm.trans hf
      refine J.iload_n (i := 1) dX5_law_25 rfl rfl ?_
      refine J.iconst (v := 4) dX5_law_26 (by decide) ?_
      refine J.icmp_ge (tgt := 36) dX5_law_27 (by decide) (fun hc6 => ?_) (fun hc6 => ?_)
      · replace hf := (if_pos hc6).symm.trans hf
        refine J.ldc2 q1086 dX5_law_36 ?_
        exact w_X5_law_j39 hDl hRm hE hX0 hf
      · replace hf := (if_neg hc6).symm.trans hf
        refine J.ldc2 q1085 dX5_law_30 ?_
        refine J.goto (tgt := 39) dX5_law_33 (by decide) ?_
        exact w_X5_law_j39 hDl hRm hE hX0 hf
    · replace hf := (if_pos hc5).symm.trans hf
      refine J.ldc2 q1037 dX5_law_19 ?_
      refine J.goto (tgt := 39) dX5_law_22 (by decide) ?_
      exact w_X5_law_j39 hDl hRm hE hX0 hf
def rm_X5_most : Room := { frames := 0, cells := 0, slots := 0, locals := 0 }
theorem hd_X5_most : yX5_most.cls = RX5 ∧ yX5_most.cls ≠ "java/lang/invoke/MethodHandle" ∧ yX5_most.cls ≠ "java/lang/invoke/VarHandle" ∧ (parseMethodDescriptor yX5_most.desc).map (fun d => d.parameters.length) = some 2 := by decide +kernel
set_option maxHeartbeats 4000000 in
set_option maxRecDepth 100000 in
theorem w_X5_most {D : va_G} {l : Launch} {hp hpE : jH} {rE : Int32} {this : Nat} {p1 : Int32} {p2 : Int32} (hf : f_X5_most this p1 p2 hp = some (rE, hpE)) : jM D l yX5_most (ws_ yX5_most cX5_most 3 (some .int)) rm_X5_most hp [.ref this, .int p1, .int p2] (some (.int rE)) hpE := by
  refine jM.of (lv0 := [some (.ref this), some (.int p1), some (.int p2)]) (by decide) (Nat.le_of_ble_eq_true rfl) rfl (fun X hDl hRm hE hX0 => ?_)
  rw [f_X5_most] at hf
  refine J.iload_n (i := 2) dX5_most_0 rfl rfl ?_
  refine J.aload_n (i := 0) dX5_most_1 rfl rfl ?_
  replace hf := jbd hf
  obtain ⟨a1, h2, hf⟩ := hf
  refine J.getA 9 25 in_X5 rfl (Nat.le_of_ble_eq_true rfl) (Or.inl q892) (Or.inl rfl) h2 dX5_most_2 ?_
  refine J.iload_n (i := 1) dX5_most_5 rfl rfl ?_
  replace hf := jbd hf
  obtain ⟨v3, h4, hf⟩ := hf
  refine J.iald h4 dX5_most_6 ?_
  refine J.icmp_lt (tgt := 12) dX5_most_7 (by decide) (fun hc5 => ?_) (fun hc5 => ?_)
  · replace hf := (if_pos hc5).symm.trans hf
    refine J.aload_n (i := 0) dX5_most_12 rfl rfl ?_
    replace hf := jbd hf
    obtain ⟨a6, h7, hf⟩ := hf
    refine J.getA 9 27 in_X5 rfl (Nat.le_of_ble_eq_true rfl) (Or.inl q894) (Or.inl rfl) h7 dX5_most_13 ?_
    refine J.iconst (v := 3) dX5_most_16 (by decide) ?_
    refine J.iload_n (i := 1) dX5_most_17 rfl rfl ?_
    refine J.imul dX5_most_18 ?_
    refine J.iload_n (i := 2) dX5_most_19 rfl rfl ?_
    refine J.iadd dX5_most_20 ?_
    replace hf := jbd hf
    obtain ⟨v8, h9, hf⟩ := hf
    refine J.iald h9 dX5_most_21 ?_
    refine J.bipush (v := 60) dX5_most_22 (by decide) ?_
    refine J.icmp_le (tgt := 32) dX5_most_24 (by decide) (fun hc10 => ?_) (fun hc10 => ?_)
    · replace hf := (if_pos hc10).symm.trans hf
      refine J.aload_n (i := 0) dX5_most_32 rfl rfl ?_
      replace hf := jbd hf
      obtain ⟨a11, h12, hf⟩ := hf
      refine J.getA 9 27 in_X5 rfl (Nat.le_of_ble_eq_true rfl) (Or.inl q894) (Or.inl rfl) h12 dX5_most_33 ?_
      refine J.iconst (v := 3) dX5_most_36 (by decide) ?_
      refine J.iload_n (i := 1) dX5_most_37 rfl rfl ?_
      refine J.imul dX5_most_38 ?_
      refine J.iload_n (i := 2) dX5_most_39 rfl rfl ?_
      refine J.iadd dX5_most_40 ?_
      replace hf := jbd hf
      obtain ⟨v13, h14, hf⟩ := hf
      refine J.iald h14 dX5_most_41 ?_
      obtain ⟨rfl, rfl⟩ := jso hf
      exact J.iret hE (Nat.le_of_ble_eq_true rfl) (Nat.le_of_ble_eq_true rfl) dX5_most_42
    · replace hf := (if_neg hc10).symm.trans hf
      refine J.bipush (v := 60) dX5_most_27 (by decide) ?_
      refine J.goto (tgt := 42) dX5_most_29 (by decide) ?_
      obtain ⟨rfl, rfl⟩ := jso hf
      exact J.iret hE (Nat.le_of_ble_eq_true rfl) (Nat.le_of_ble_eq_true rfl) dX5_most_42
  · replace hf := (if_neg hc5).symm.trans hf
    refine J.iconst (v := 0) dX5_most_10 (by decide) ?_
    obtain ⟨rfl, rfl⟩ := jso hf
    exact J.iret hE (Nat.le_of_ble_eq_true rfl) (Nat.le_of_ble_eq_true rfl) dX5_most_11
def rm_X5_lengthOf : Room := { frames := 0, cells := 0, slots := 0, locals := 0 }
theorem hd_X5_lengthOf : yX5_lengthOf.cls = RX5 ∧ yX5_lengthOf.cls ≠ "java/lang/invoke/MethodHandle" ∧ yX5_lengthOf.cls ≠ "java/lang/invoke/VarHandle" ∧ (parseMethodDescriptor yX5_lengthOf.desc).map (fun d => d.parameters.length) = some 2 := by decide +kernel
set_option maxHeartbeats 4000000 in
set_option maxRecDepth 100000 in
theorem w_X5_lengthOf {D : va_G} {l : Launch} {hp hpE : jH} {rE : Int32} {this : Nat} {p1 : Int32} {p2 : Int32} (hf : f_X5_lengthOf this p1 p2 hp = some (rE, hpE)) : jM D l yX5_lengthOf (ws_ yX5_lengthOf cX5_lengthOf 3 (some .int)) rm_X5_lengthOf hp [.ref this, .int p1, .int p2] (some (.int rE)) hpE := by
  refine jM.of (lv0 := [some (.ref this), some (.int p1), some (.int p2)]) (by decide) (Nat.le_of_ble_eq_true rfl) rfl (fun X hDl hRm hE hX0 => ?_)
  rw [f_X5_lengthOf] at hf
  refine J.iload_n (i := 2) dX5_lengthOf_0 rfl rfl ?_
  refine J.aload_n (i := 0) dX5_lengthOf_1 rfl rfl ?_
  replace hf := jbd hf
  obtain ⟨a1, h2, hf⟩ := hf
  refine J.getA 9 25 in_X5 rfl (Nat.le_of_ble_eq_true rfl) (Or.inl q892) (Or.inl rfl) h2 dX5_lengthOf_2 ?_
  refine J.iload_n (i := 1) dX5_lengthOf_5 rfl rfl ?_
  replace hf := jbd hf
  obtain ⟨v3, h4, hf⟩ := hf
  refine J.iald h4 dX5_lengthOf_6 ?_
  refine J.icmp_ge (tgt := 23) dX5_lengthOf_7 (by decide) (fun hc5 => ?_) (fun hc5 => ?_)
  · replace hf := (if_pos hc5).symm.trans hf
    refine J.iconst (v := 0) dX5_lengthOf_23 (by decide) ?_
    obtain ⟨rfl, rfl⟩ := jso hf
    exact J.iret hE (Nat.le_of_ble_eq_true rfl) (Nat.le_of_ble_eq_true rfl) dX5_lengthOf_24
  · replace hf := (if_neg hc5).symm.trans hf
    refine J.aload_n (i := 0) dX5_lengthOf_10 rfl rfl ?_
    replace hf := jbd hf
    obtain ⟨a6, h7, hf⟩ := hf
    refine J.getA 9 26 in_X5 rfl (Nat.le_of_ble_eq_true rfl) (Or.inl q893) (Or.inl rfl) h7 dX5_lengthOf_11 ?_
    refine J.iconst (v := 3) dX5_lengthOf_14 (by decide) ?_
    refine J.iload_n (i := 1) dX5_lengthOf_15 rfl rfl ?_
    refine J.imul dX5_lengthOf_16 ?_
    refine J.iload_n (i := 2) dX5_lengthOf_17 rfl rfl ?_
    refine J.iadd dX5_lengthOf_18 ?_
    replace hf := jbd hf
    obtain ⟨v8, h9, hf⟩ := hf
    refine J.iald h9 dX5_lengthOf_19 ?_
    refine J.goto (tgt := 24) dX5_lengthOf_20 (by decide) ?_
    obtain ⟨rfl, rfl⟩ := jso hf
    exact J.iret hE (Nat.le_of_ble_eq_true rfl) (Nat.le_of_ble_eq_true rfl) dX5_lengthOf_24
def rm_X5_findPattern : Room := { frames := 1, cells := 0, slots := 0, locals := 22 }
theorem hd_X5_findPattern : yX5_findPattern.cls = RX5 ∧ yX5_findPattern.cls ≠ "java/lang/invoke/MethodHandle" ∧ yX5_findPattern.cls ≠ "java/lang/invoke/VarHandle" ∧ (parseMethodDescriptor yX5_findPattern.desc).map (fun d => d.parameters.length) = some 2 := by decide +kernel
set_option maxHeartbeats 4000000 in
set_option maxRecDepth 100000 in
theorem w_X5_findPattern_j243 {D : va_G} {l : Launch} {X : jX} {hp0 hpE : jH} (hDl : jDl X D l) (hRm : jRoom X rm_X5_findPattern.frames rm_X5_findPattern.locals rm_X5_findPattern.cells rm_X5_findPattern.slots) (hE : jEnds X none none hpE rm_X5_findPattern.cells rm_X5_findPattern.slots) (hX0 : jX0 X hp0) {K25 : Nat → Int32 → Int32 → Int32 → Int32 → jH → Option jH} (hK25 : ∀ (xa_0 : Nat) (xi_1 : Int32) (xi_3 : Int32) (xi_4 : Int32) (xi_5 : Int32) (hp : jH), K25 xa_0 xi_1 xi_3 xi_4 xi_5 hp = some hpE → J X cX5_findPattern 10 yX5_findPattern 0 0 25 [some (.ref xa_0), some (.int xi_1), none, some (.int xi_3), some (.int xi_4), some (.int xi_5), none, none, none, none] [] hp) {K38 : Nat → Int32 → Int32 → Int32 → Int32 → Int32 → jH → Option jH} (hK38 : ∀ (xa_0 : Nat) (xi_1 : Int32) (xi_3 : Int32) (xi_4 : Int32) (xi_5 : Int32) (xi_6 : Int32) (hp : jH), K38 xa_0 xi_1 xi_3 xi_4 xi_5 xi_6 hp = some hpE → J X cX5_findPattern 10 yX5_findPattern 0 0 38 [some (.ref xa_0), some (.int xi_1), none, some (.int xi_3), some (.int xi_4), some (.int xi_5), some (.int xi_6), none, none, none] [] hp) {xa_0 : Nat} {xi_1 : Int32} {xi_3 : Int32} {xi_4 : Int32} {xi_5 : Int32} {xi_6 : Int32} {hp : jH} (hf : f_X5_findPattern_j243 K25 K38 xa_0 xi_1 xi_3 xi_4 xi_5 xi_6 hp = some hpE) : J X cX5_findPattern 10 yX5_findPattern 0 0 243 [some (.ref xa_0), some (.int xi_1), none, some (.int xi_3), some (.int xi_4), some (.int xi_5), some (.int xi_6), none, none, none] [] hp := by
  rw [f_X5_findPattern_j243] at hf
  refine J.iinc (i := 6) (v := (xi_6 + (-1))) (lv' := [some (.ref xa_0), some (.int xi_1), none, some (.int xi_3), some (.int xi_4), some (.int xi_5), some (.int (xi_6 + (-1))), none, none, none]) dX5_findPattern_243 rfl rfl (Nat.le_of_ble_eq_true rfl) rfl ?_
  refine J.goto (tgt := 38) dX5_findPattern_246 (by decide) ?_
  exact hK38 _ _ _ _ _ _ _ hf
set_option maxHeartbeats 4000000 in
set_option maxRecDepth 100000 in
theorem w_X5_findPattern_j203 {D : va_G} {l : Launch} {X : jX} {hp0 hpE : jH} (hDl : jDl X D l) (hRm : jRoom X rm_X5_findPattern.frames rm_X5_findPattern.locals rm_X5_findPattern.cells rm_X5_findPattern.slots) (hE : jEnds X none none hpE rm_X5_findPattern.cells rm_X5_findPattern.slots) (hX0 : jX0 X hp0) {K25 : Nat → Int32 → Int32 → Int32 → Int32 → jH → Option jH} (hK25 : ∀ (xa_0 : Nat) (xi_1 : Int32) (xi_3 : Int32) (xi_4 : Int32) (xi_5 : Int32) (hp : jH), K25 xa_0 xi_1 xi_3 xi_4 xi_5 hp = some hpE → J X cX5_findPattern 10 yX5_findPattern 0 0 25 [some (.ref xa_0), some (.int xi_1), none, some (.int xi_3), some (.int xi_4), some (.int xi_5), none, none, none, none] [] hp) {K38 : Nat → Int32 → Int32 → Int32 → Int32 → Int32 → jH → Option jH} (hK38 : ∀ (xa_0 : Nat) (xi_1 : Int32) (xi_3 : Int32) (xi_4 : Int32) (xi_5 : Int32) (xi_6 : Int32) (hp : jH), K38 xa_0 xi_1 xi_3 xi_4 xi_5 xi_6 hp = some hpE → J X cX5_findPattern 10 yX5_findPattern 0 0 38 [some (.ref xa_0), some (.int xi_1), none, some (.int xi_3), some (.int xi_4), some (.int xi_5), some (.int xi_6), none, none, none] [] hp) {xa_0 : Nat} {xi_1 : Int32} {xi_3 : Int32} {xi_5 : Int32} {xi_6 : Int32} {xi_8 : Int32} {xi_9 : Int32} {hp : jH} (hf : f_X5_findPattern_j203 K25 K38 xa_0 xi_1 xi_3 xi_5 xi_6 xi_8 xi_9 hp = some hpE) : J X cX5_findPattern 10 yX5_findPattern 0 0 203 [some (.ref xa_0), some (.int xi_1), none, some (.int xi_3), none, some (.int xi_5), some (.int xi_6), none, some (.int xi_8), some (.int xi_9)] [] hp := by
  rw [f_X5_findPattern_j203] at hf
  refine J.aload_n (i := 0) dX5_findPattern_203 rfl rfl ?_
  refine J.iload dX5_findPattern_204 rfl ?_
  replace hf := jbd hf
  obtain ⟨hp77, h78, hf⟩ := hf
  refine J.put (ty := .int) 9 29 in_X5 ap9 rfl (Nat.le_of_ble_eq_true rfl) (Or.inl q896) (Or.inl rfl) rfl (by decide +kernel) (fun _ => ⟨rfl, rfl⟩) h78 dX5_findPattern_206 ?_
  refine J.iload dX5_findPattern_209 rfl ?_
  refine J.iload dX5_findPattern_211 rfl ?_
  refine J.iadd dX5_findPattern_213 ?_
  refine J.iload dX5_findPattern_214 rfl ?_
  refine J.iadd dX5_findPattern_216 ?_
  refine J.istore (i := 4) (lv' := [some (.ref xa_0), some (.int xi_1), none, some (.int xi_3), some (.int ((xi_5 + xi_6) + xi_8)), some (.int xi_5), some (.int xi_6), none, some (.int xi_8), some (.int xi_9)]) dX5_findPattern_217 (Nat.le_of_ble_eq_true rfl) rfl ?_
  refine J.aload_n (i := 0) dX5_findPattern_219 rfl rfl ?_
  replace hf := jbd hf
  obtain ⟨a79, h80, hf⟩ := hf
  refine J.getA 9 28 in_X5 rfl (Nat.le_of_ble_eq_true rfl) (Or.inl q895) (Or.inl rfl) h80 dX5_findPattern_220 ?_
  refine J.iconst (v := 0) dX5_findPattern_223 (by decide) ?_
  refine J.iload dX5_findPattern_224 rfl ?_
  replace hf := jbd hf
  obtain ⟨hp81, h82, hf⟩ := hf
  refine J.iast h82 dX5_findPattern_226 ?_
  refine J.aload_n (i := 0) dX5_findPattern_227 rfl rfl ?_
  replace hf := jbd hf
  obtain ⟨a83, h84, hf⟩ := hf
  refine J.getA 9 28 in_X5 rfl (Nat.le_of_ble_eq_true rfl) (Or.inl q895) (Or.inl rfl) h84 dX5_findPattern_228 ?_
  refine J.iconst (v := 1) dX5_findPattern_231 (by decide) ?_
  refine J.iload dX5_findPattern_232 rfl ?_
  replace hf := jbd hf
  obtain ⟨hp85, h86, hf⟩ := hf
  refine J.iast h86 dX5_findPattern_234 ?_
  refine J.aload_n (i := 0) dX5_findPattern_235 rfl rfl ?_
  replace hf := jbd hf
  obtain ⟨a87, h88, hf⟩ := hf
  refine J.getA 9 28 in_X5 rfl (Nat.le_of_ble_eq_true rfl) (Or.inl q895) (Or.inl rfl) h88 dX5_findPattern_236 ?_
  refine J.iconst (v := 2) dX5_findPattern_239 (by decide) ?_
  refine J.iload dX5_findPattern_240 rfl ?_
  replace hf := jbd hf
  obtain ⟨hp89, h90, hf⟩ := hf
  refine J.iast h90 dX5_findPattern_242 ?_
  refine J.mask (lv' := [some (.ref xa_0), some (.int xi_1), none, some (.int xi_3), some (.int ((xi_5 + xi_6) + xi_8)), some (.int xi_5), some (.int xi_6), none, none, none]) [true, true, false, true, true, true, true, false, false, false] rfl ?_
  exact w_X5_findPattern_j243 hDl hRm hE hX0 hK25 hK38 hf
set_option maxHeartbeats 4000000 in
set_option maxRecDepth 100000 in
theorem w_X5_findPattern_j139 {D : va_G} {l : Launch} {X : jX} {hp0 hpE : jH} (hDl : jDl X D l) (hRm : jRoom X rm_X5_findPattern.frames rm_X5_findPattern.locals rm_X5_findPattern.cells rm_X5_findPattern.slots) (hE : jEnds X none none hpE rm_X5_findPattern.cells rm_X5_findPattern.slots) (hX0 : jX0 X hp0) {K25 : Nat → Int32 → Int32 → Int32 → Int32 → jH → Option jH} (hK25 : ∀ (xa_0 : Nat) (xi_1 : Int32) (xi_3 : Int32) (xi_4 : Int32) (xi_5 : Int32) (hp : jH), K25 xa_0 xi_1 xi_3 xi_4 xi_5 hp = some hpE → J X cX5_findPattern 10 yX5_findPattern 0 0 25 [some (.ref xa_0), some (.int xi_1), none, some (.int xi_3), some (.int xi_4), some (.int xi_5), none, none, none, none] [] hp) {K38 : Nat → Int32 → Int32 → Int32 → Int32 → Int32 → jH → Option jH} (hK38 : ∀ (xa_0 : Nat) (xi_1 : Int32) (xi_3 : Int32) (xi_4 : Int32) (xi_5 : Int32) (xi_6 : Int32) (hp : jH), K38 xa_0 xi_1 xi_3 xi_4 xi_5 xi_6 hp = some hpE → J X cX5_findPattern 10 yX5_findPattern 0 0 38 [some (.ref xa_0), some (.int xi_1), none, some (.int xi_3), some (.int xi_4), some (.int xi_5), some (.int xi_6), none, none, none] [] hp) {xa_0 : Nat} {xi_1 : Int32} {xi_3 : Int32} {xi_4 : Int32} {xi_5 : Int32} {xi_6 : Int32} {xi_s0 : Int32} {hp : jH} (hf : f_X5_findPattern_j139 K25 K38 xa_0 xi_1 xi_3 xi_4 xi_5 xi_6 xi_s0 hp = some hpE) : J X cX5_findPattern 10 yX5_findPattern 0 0 139 [some (.ref xa_0), some (.int xi_1), none, some (.int xi_3), some (.int xi_4), some (.int xi_5), some (.int xi_6), none, none, none] [.int xi_s0] hp := by
  rw [f_X5_findPattern_j139] at hf
  refine J.istore (i := 8) (lv' := [some (.ref xa_0), some (.int xi_1), none, some (.int xi_3), some (.int xi_4), some (.int xi_5), some (.int xi_6), none, some (.int xi_s0), none]) dX5_findPattern_139 (Nat.le_of_ble_eq_true rfl) rfl ?_
  refine J.iload dX5_findPattern_141 rfl ?_
  refine J.aload_n (i := 0) dX5_findPattern_143 rfl rfl ?_
  refine J.iload_n (i := 1) dX5_findPattern_144 rfl rfl ?_
  refine J.iconst (v := 0) dX5_findPattern_145 (by decide) ?_
  replace hf := jbd hf
  obtain ⟨u59, h60, hf⟩ := hf
  replace hf := jbs hf
  obtain ⟨v63, hp62, h61, hf⟩ := hf
  refine J.callV (As := [.int xi_1, .int 0]) (k2 := 0) (n2 := 0) 9 hDl hRm (w_X5_lengthOf h61) (lw_V q1106 q1108 qs27 q44 q1109) hd_X5_lengthOf rfl ⟨_, h60⟩ rfl (Nat.le_of_ble_eq_true rfl) (Nat.le_of_ble_eq_true rfl) (Nat.le_of_ble_eq_true rfl) (Nat.le_of_ble_eq_true rfl) (Nat.le_of_ble_eq_true rfl) (Nat.le_of_ble_eq_true rfl) (Nat.le_of_ble_eq_true rfl) rfl dX5_findPattern_146 ?_
  refine J.imul dX5_findPattern_149 ?_
  refine J.iload dX5_findPattern_150 rfl ?_
  refine J.aload_n (i := 0) dX5_findPattern_152 rfl rfl ?_
  refine J.iload_n (i := 1) dX5_findPattern_153 rfl rfl ?_
  refine J.iconst (v := 1) dX5_findPattern_154 (by decide) ?_
  replace hf := jbd hf
  obtain ⟨u64, h65, hf⟩ := hf
  replace hf := jbs hf
  obtain ⟨v68, hp67, h66, hf⟩ := hf
  refine J.callV (As := [.int xi_1, .int 1]) (k2 := 0) (n2 := 0) 9 hDl hRm (w_X5_lengthOf h66) (lw_V q1106 q1108 qs27 q44 q1109) hd_X5_lengthOf rfl ⟨_, h65⟩ rfl (Nat.le_of_ble_eq_true rfl) (Nat.le_of_ble_eq_true rfl) (Nat.le_of_ble_eq_true rfl) (Nat.le_of_ble_eq_true rfl) (Nat.le_of_ble_eq_true rfl) (Nat.le_of_ble_eq_true rfl) (Nat.le_of_ble_eq_true rfl) rfl dX5_findPattern_155 ?_
  refine J.imul dX5_findPattern_158 ?_
  refine J.iadd dX5_findPattern_159 ?_
  refine J.iload dX5_findPattern_160 rfl ?_
  refine J.aload_n (i := 0) dX5_findPattern_162 rfl rfl ?_
  refine J.iload_n (i := 1) dX5_findPattern_163 rfl rfl ?_
  refine J.iconst (v := 2) dX5_findPattern_164 (by decide) ?_
  replace hf := jbd hf
  obtain ⟨u69, h70, hf⟩ := hf
  replace hf := jbs hf
  obtain ⟨v73, hp72, h71, hf⟩ := hf
  refine J.callV (As := [.int xi_1, .int 2]) (k2 := 0) (n2 := 0) 9 hDl hRm (w_X5_lengthOf h71) (lw_V q1106 q1108 qs27 q44 q1109) hd_X5_lengthOf rfl ⟨_, h70⟩ rfl (Nat.le_of_ble_eq_true rfl) (Nat.le_of_ble_eq_true rfl) (Nat.le_of_ble_eq_true rfl) (Nat.le_of_ble_eq_true rfl) (Nat.le_of_ble_eq_true rfl) (Nat.le_of_ble_eq_true rfl) (Nat.le_of_ble_eq_true rfl) rfl dX5_findPattern_165 ?_
  refine J.imul dX5_findPattern_168 ?_
  refine J.iadd dX5_findPattern_169 ?_
  refine J.istore (i := 9) (lv' := [some (.ref xa_0), some (.int xi_1), none, some (.int xi_3), some (.int xi_4), some (.int xi_5), some (.int xi_6), none, some (.int xi_s0), some (.int (((xi_5 * v63) + (xi_6 * v68)) + (xi_s0 * v73)))]) dX5_findPattern_170 (Nat.le_of_ble_eq_true rfl) rfl ?_
  refine J.iload dX5_findPattern_172 rfl ?_
  refine J.aload_n (i := 0) dX5_findPattern_174 rfl rfl ?_
  replace hf := jbd hf
  obtain ⟨v74, h75, hf⟩ := hf
  refine J.getI 9 29 in_X5 rfl (Nat.le_of_ble_eq_true rfl) (Or.inl q896) (Or.inl rfl) h75 dX5_findPattern_175 ?_
  refine J.icmp_gt (tgt := 203) dX5_findPattern_178 (by decide) (fun hc76 => ?_) (fun hc76 => ?_)
  · replace hf := (if_pos hc76).symm.trans hf
    refine J.mask (lv' := [some (.ref xa_0), some (.int xi_1), none, some (.int xi_3), none, some (.int xi_5), some (.int xi_6), none, some (.int xi_s0), some (.int (((xi_5 * v63) + (xi_6 * v68)) + (xi_s0 * v73)))]) [true, true, false, true, false, true, true, false, true, true] rfl ?_
    exact w_X5_findPattern_j203 hDl hRm hE hX0 hK25 hK38 hf
  · replace hf := (if_neg hc76).symm.trans hf
    refine J.iload dX5_findPattern_181 rfl ?_
    refine J.aload_n (i := 0) dX5_findPattern_183 rfl rfl ?_
    replace hf := jbd hf
    obtain ⟨v91, h92, hf⟩ := hf
    refine J.getI 9 29 in_X5 rfl (Nat.le_of_ble_eq_true rfl) (Or.inl q896) (Or.inl rfl) h92 dX5_findPattern_184 ?_
    refine J.icmp_ne (tgt := 243) dX5_findPattern_187 (by decide) (fun hc93 => ?_) (fun hc93 => ?_)
    · replace hf := (if_neg hc93).symm.trans hf
      refine J.mask (lv' := [some (.ref xa_0), some (.int xi_1), none, some (.int xi_3), some (.int xi_4), some (.int xi_5), some (.int xi_6), none, none, none]) [true, true, false, true, true, true, true, false, false, false] rfl ?_
      exact w_X5_findPattern_j243 hDl hRm hE hX0 hK25 hK38 hf
    · replace hf := (if_pos hc93).symm.trans hf
      refine J.iload dX5_findPattern_190 rfl ?_
      refine J.iload dX5_findPattern_192 rfl ?_
      refine J.iadd dX5_findPattern_194 ?_
      refine J.iload dX5_findPattern_195 rfl ?_
      refine J.iadd dX5_findPattern_197 ?_
      refine J.iload dX5_findPattern_198 rfl ?_
      refine J.icmp_ge (tgt := 243) dX5_findPattern_200 (by decide) (fun hc94 => ?_) (fun hc94 => ?_)
      · replace hf := (if_pos hc94).symm.trans hf
        refine J.mask (lv' := [some (.ref xa_0), some (.int xi_1), none, some (.int xi_3), some (.int xi_4), some (.int xi_5), some (.int xi_6), none, none, none]) [true, true, false, true, true, true, true, false, false, false] rfl ?_
        exact w_X5_findPattern_j243 hDl hRm hE hX0 hK25 hK38 hf
      · replace hf := (if_neg hc94).symm.trans hf
        refine J.mask (lv' := [some (.ref xa_0), some (.int xi_1), none, some (.int xi_3), none, some (.int xi_5), some (.int xi_6), none, some (.int xi_s0), some (.int (((xi_5 * v63) + (xi_6 * v68)) + (xi_s0 * v73)))]) [true, true, false, true, false, true, true, false, true, true] rfl ?_
        exact w_X5_findPattern_j203 hDl hRm hE hX0 hK25 hK38 hf
set_option maxHeartbeats 4000000 in
set_option maxRecDepth 100000 in
theorem w_X5_findPattern_j115 {D : va_G} {l : Launch} {X : jX} {hp0 hpE : jH} (hDl : jDl X D l) (hRm : jRoom X rm_X5_findPattern.frames rm_X5_findPattern.locals rm_X5_findPattern.cells rm_X5_findPattern.slots) (hE : jEnds X none none hpE rm_X5_findPattern.cells rm_X5_findPattern.slots) (hX0 : jX0 X hp0) {K25 : Nat → Int32 → Int32 → Int32 → Int32 → jH → Option jH} (hK25 : ∀ (xa_0 : Nat) (xi_1 : Int32) (xi_3 : Int32) (xi_4 : Int32) (xi_5 : Int32) (hp : jH), K25 xa_0 xi_1 xi_3 xi_4 xi_5 hp = some hpE → J X cX5_findPattern 10 yX5_findPattern 0 0 25 [some (.ref xa_0), some (.int xi_1), none, some (.int xi_3), some (.int xi_4), some (.int xi_5), none, none, none, none] [] hp) {K38 : Nat → Int32 → Int32 → Int32 → Int32 → Int32 → jH → Option jH} (hK38 : ∀ (xa_0 : Nat) (xi_1 : Int32) (xi_3 : Int32) (xi_4 : Int32) (xi_5 : Int32) (xi_6 : Int32) (hp : jH), K38 xa_0 xi_1 xi_3 xi_4 xi_5 xi_6 hp = some hpE → J X cX5_findPattern 10 yX5_findPattern 0 0 38 [some (.ref xa_0), some (.int xi_1), none, some (.int xi_3), some (.int xi_4), some (.int xi_5), some (.int xi_6), none, none, none] [] hp) {xa_0 : Nat} {xi_1 : Int32} {xi_3 : Int32} {xi_4 : Int32} {xi_5 : Int32} {xi_6 : Int32} {xi_s0 : Int32} {hp : jH} (hf : f_X5_findPattern_j115 K25 K38 xa_0 xi_1 xi_3 xi_4 xi_5 xi_6 xi_s0 hp = some hpE) : J X cX5_findPattern 10 yX5_findPattern 0 0 115 [some (.ref xa_0), some (.int xi_1), none, some (.int xi_3), some (.int xi_4), some (.int xi_5), some (.int xi_6), none, none, none] [.int xi_s0] hp := by
  rw [f_X5_findPattern_j115] at hf
  refine J.istore (i := 8) (lv' := [some (.ref xa_0), some (.int xi_1), none, some (.int xi_3), some (.int xi_4), some (.int xi_5), some (.int xi_6), none, some (.int xi_s0), none]) dX5_findPattern_115 (Nat.le_of_ble_eq_true rfl) rfl ?_
  refine J.iload dX5_findPattern_117 rfl ?_
  refine J.aload_n (i := 0) dX5_findPattern_119 rfl rfl ?_
  refine J.iload_n (i := 1) dX5_findPattern_120 rfl rfl ?_
  refine J.iconst (v := 2) dX5_findPattern_121 (by decide) ?_
  replace hf := jbd hf
  obtain ⟨u53, h54, hf⟩ := hf
  replace hf := jbs hf
  obtain ⟨v57, hp56, h55, hf⟩ := hf
  refine J.callV (As := [.int xi_1, .int 2]) (k2 := 0) (n2 := 0) 9 hDl hRm (w_X5_most h55) (lw_V q1102 q1104 qs26 q44 q1105) hd_X5_most rfl ⟨_, h54⟩ rfl (Nat.le_of_ble_eq_true rfl) (Nat.le_of_ble_eq_true rfl) (Nat.le_of_ble_eq_true rfl) (Nat.le_of_ble_eq_true rfl) (Nat.le_of_ble_eq_true rfl) (Nat.le_of_ble_eq_true rfl) (Nat.le_of_ble_eq_true rfl) rfl dX5_findPattern_122 ?_
  refine J.icmp_le (tgt := 137) dX5_findPattern_125 (by decide) (fun hc58 => ?_) (fun hc58 => ?_)
  · replace hf := (if_pos hc58).symm.trans hf
    refine J.iload dX5_findPattern_137 rfl ?_
    refine J.mask (lv' := [some (.ref xa_0), some (.int xi_1), none, some (.int xi_3), some (.int xi_4), some (.int xi_5), some (.int xi_6), none, none, none]) [true, true, false, true, true, true, true, false, false, false] rfl ?_
    exact w_X5_findPattern_j139 hDl hRm hE hX0 hK25 hK38 hf
  · replace hf := (if_neg hc58).symm.trans hf
    refine J.aload_n (i := 0) dX5_findPattern_128 rfl rfl ?_
    refine J.iload_n (i := 1) dX5_findPattern_129 rfl rfl ?_
    refine J.iconst (v := 2) dX5_findPattern_130 (by decide) ?_
    replace hf := jbd hf
    obtain ⟨u95, h96, hf⟩ := hf
    replace hf := jbs hf
    obtain ⟨v99, hp98, h97, hf⟩ := hf
    refine J.callV (As := [.int xi_1, .int 2]) (k2 := 0) (n2 := 0) 9 hDl hRm (w_X5_most h97) (lw_V q1102 q1104 qs26 q44 q1105) hd_X5_most rfl ⟨_, h96⟩ rfl (Nat.le_of_ble_eq_true rfl) (Nat.le_of_ble_eq_true rfl) (Nat.le_of_ble_eq_true rfl) (Nat.le_of_ble_eq_true rfl) (Nat.le_of_ble_eq_true rfl) (Nat.le_of_ble_eq_true rfl) (Nat.le_of_ble_eq_true rfl) rfl dX5_findPattern_131 ?_
    refine J.goto (tgt := 139) dX5_findPattern_134 (by decide) ?_
    refine J.mask (lv' := [some (.ref xa_0), some (.int xi_1), none, some (.int xi_3), some (.int xi_4), some (.int xi_5), some (.int xi_6), none, none, none]) [true, true, false, true, true, true, true, false, false, false] rfl ?_
    exact w_X5_findPattern_j139 hDl hRm hE hX0 hK25 hK38 hf
set_option maxHeartbeats 4000000 in
set_option maxRecDepth 100000 in
theorem w_X5_findPattern_L38 {D : va_G} {l : Launch} {X : jX} {hp0 hpE : jH} (hDl : jDl X D l) (hRm : jRoom X rm_X5_findPattern.frames rm_X5_findPattern.locals rm_X5_findPattern.cells rm_X5_findPattern.slots) (hE : jEnds X none none hpE rm_X5_findPattern.cells rm_X5_findPattern.slots) (hX0 : jX0 X hp0) {K25 : Nat → Int32 → Int32 → Int32 → Int32 → jH → Option jH} (hK25 : ∀ (xa_0 : Nat) (xi_1 : Int32) (xi_3 : Int32) (xi_4 : Int32) (xi_5 : Int32) (hp : jH), K25 xa_0 xi_1 xi_3 xi_4 xi_5 hp = some hpE → J X cX5_findPattern 10 yX5_findPattern 0 0 25 [some (.ref xa_0), some (.int xi_1), none, some (.int xi_3), some (.int xi_4), some (.int xi_5), none, none, none, none] [] hp) : ∀ (N : Nat) (xa_0 : Nat) (xi_1 : Int32) (xi_3 : Int32) (xi_4 : Int32) (xi_5 : Int32) (xi_6 : Int32) (hp : jH), f_X5_findPattern_L38 K25 N xa_0 xi_1 xi_3 xi_4 xi_5 xi_6 hp = some hpE → J X cX5_findPattern 10 yX5_findPattern 0 0 38 [some (.ref xa_0), some (.int xi_1), none, some (.int xi_3), some (.int xi_4), some (.int xi_5), some (.int xi_6), none, none, none] [] hp := by
  intro N
  induction N with
  | zero =>
    intro xa_0 xi_1 xi_3 xi_4 xi_5 xi_6 hp hf
    rw [f_X5_findPattern_L38] at hf
    cases hf
  | succ N ih38 =>
    intro xa_0 xi_1 xi_3 xi_4 xi_5 xi_6 hp hf
    rw [f_X5_findPattern_L38] at hf
    refine J.iload dX5_findPattern_38 rfl ?_
    refine J.if_lt (tgt := 249) dX5_findPattern_40 (by decide) (fun hc18 => ?_) (fun hc18 => ?_)
    · replace hf := (if_pos hc18).symm.trans hf
      refine J.iinc (i := 5) (v := (xi_5 + (-1))) (lv' := [some (.ref xa_0), some (.int xi_1), none, some (.int xi_3), some (.int xi_4), some (.int (xi_5 + (-1))), some (.int xi_6), none, none, none]) dX5_findPattern_249 rfl rfl (Nat.le_of_ble_eq_true rfl) rfl ?_
      refine J.goto (tgt := 25) dX5_findPattern_252 (by decide) ?_
      refine J.mask (lv' := [some (.ref xa_0), some (.int xi_1), none, some (.int xi_3), some (.int xi_4), some (.int (xi_5 + (-1))), none, none, none, none]) [true, true, false, true, true, true, false, false, false, false] rfl ?_
      exact hK25 _ _ _ _ _ _ hf
    · replace hf := (if_neg hc18).symm.trans hf
      refine J.iload_n (i := 3) dX5_findPattern_43 rfl rfl ?_
      refine J.iload dX5_findPattern_44 rfl ?_
      refine J.aload_n (i := 0) dX5_findPattern_46 rfl rfl ?_
      refine J.iload_n (i := 1) dX5_findPattern_47 rfl rfl ?_
      refine J.iconst (v := 0) dX5_findPattern_48 (by decide) ?_
      replace hf := jbd hf
      obtain ⟨u19, h20, hf⟩ := hf
      replace hf := jbs hf
      obtain ⟨v23, hp22, h21, hf⟩ := hf
      refine J.callV (As := [.int xi_1, .int 0]) (k2 := 0) (n2 := 0) 9 hDl hRm (w_X5_lengthOf h21) (lw_V q1106 q1108 qs27 q44 q1109) hd_X5_lengthOf rfl ⟨_, h20⟩ rfl (Nat.le_of_ble_eq_true rfl) (Nat.le_of_ble_eq_true rfl) (Nat.le_of_ble_eq_true rfl) (Nat.le_of_ble_eq_true rfl) (Nat.le_of_ble_eq_true rfl) (Nat.le_of_ble_eq_true rfl) (Nat.le_of_ble_eq_true rfl) rfl dX5_findPattern_49 ?_
      refine J.aload_n (i := 0) dX5_findPattern_52 rfl rfl ?_
      replace hf := jbd hf
      obtain ⟨a24, h25, hf⟩ := hf
      refine J.getA 9 0 in_X5 rfl (Nat.le_of_ble_eq_true rfl) (Or.inl q867) (Or.inl rfl) h25 dX5_findPattern_53 ?_
      refine J.iconst (v := 4) dX5_findPattern_56 (by decide) ?_
      replace hf := jbd hf
      obtain ⟨v26, h27, hf⟩ := hf
      refine J.iald h27 dX5_findPattern_57 ?_
      refine J.iadd dX5_findPattern_58 ?_
      refine J.imul dX5_findPattern_59 ?_
      refine J.isub dX5_findPattern_60 ?_
      refine J.iload dX5_findPattern_61 rfl ?_
      refine J.aload_n (i := 0) dX5_findPattern_63 rfl rfl ?_
      refine J.iload_n (i := 1) dX5_findPattern_64 rfl rfl ?_
      refine J.iconst (v := 1) dX5_findPattern_65 (by decide) ?_
      replace hf := jbd hf
      obtain ⟨u28, h29, hf⟩ := hf
      replace hf := jbs hf
      obtain ⟨v32, hp31, h30, hf⟩ := hf
      refine J.callV (As := [.int xi_1, .int 1]) (k2 := 0) (n2 := 0) 9 hDl hRm (w_X5_lengthOf h30) (lw_V q1106 q1108 qs27 q44 q1109) hd_X5_lengthOf rfl ⟨_, h29⟩ rfl (Nat.le_of_ble_eq_true rfl) (Nat.le_of_ble_eq_true rfl) (Nat.le_of_ble_eq_true rfl) (Nat.le_of_ble_eq_true rfl) (Nat.le_of_ble_eq_true rfl) (Nat.le_of_ble_eq_true rfl) (Nat.le_of_ble_eq_true rfl) rfl dX5_findPattern_66 ?_
      refine J.aload_n (i := 0) dX5_findPattern_69 rfl rfl ?_
      replace hf := jbd hf
      obtain ⟨a33, h34, hf⟩ := hf
      refine J.getA 9 0 in_X5 rfl (Nat.le_of_ble_eq_true rfl) (Or.inl q867) (Or.inl rfl) h34 dX5_findPattern_70 ?_
      refine J.iconst (v := 4) dX5_findPattern_73 (by decide) ?_
      replace hf := jbd hf
      obtain ⟨v35, h36, hf⟩ := hf
      refine J.iald h36 dX5_findPattern_74 ?_
      refine J.iadd dX5_findPattern_75 ?_
      refine J.imul dX5_findPattern_76 ?_
      refine J.isub dX5_findPattern_77 ?_
      refine J.istore (i := 7) (lv' := [some (.ref xa_0), some (.int xi_1), none, some (.int xi_3), some (.int xi_4), some (.int xi_5), some (.int xi_6), some (.int ((xi_3 - (xi_5 * (v23 + v26))) - (xi_6 * (v32 + v35)))), none, none]) dX5_findPattern_78 (Nat.le_of_ble_eq_true rfl) rfl ?_
      refine J.iload dX5_findPattern_80 rfl ?_
      refine J.if_lt (tgt := 243) dX5_findPattern_82 (by decide) (fun hc37 => ?_) (fun hc37 => ?_)
      · replace hf := (if_pos hc37).symm.trans hf
        refine J.mask (lv' := [some (.ref xa_0), some (.int xi_1), none, some (.int xi_3), some (.int xi_4), some (.int xi_5), some (.int xi_6), none, none, none]) [true, true, false, true, true, true, true, false, false, false] rfl ?_
        exact w_X5_findPattern_j243 hDl hRm hE hX0 hK25 (fun z0 z1 z2 z3 z4 z5 z6 hz => ih38 z0 z1 z2 z3 z4 z5 z6 hz) hf
      · replace hf := (if_neg hc37).symm.trans hf
        refine J.aload_n (i := 0) dX5_findPattern_85 rfl rfl ?_
        replace hf := jbd hf
        obtain ⟨a38, h39, hf⟩ := hf
        refine J.getA 9 25 in_X5 rfl (Nat.le_of_ble_eq_true rfl) (Or.inl q892) (Or.inl rfl) h39 dX5_findPattern_86 ?_
        refine J.iload_n (i := 1) dX5_findPattern_89 rfl rfl ?_
        replace hf := jbd hf
        obtain ⟨v40, h41, hf⟩ := hf
        refine J.iald h41 dX5_findPattern_90 ?_
        refine J.iconst (v := 3) dX5_findPattern_91 (by decide) ?_
        refine J.icmp_ge (tgt := 99) dX5_findPattern_92 (by decide) (fun hc42 => ?_) (fun hc42 => ?_)
        · replace hf := (if_pos hc42).symm.trans hf
          refine J.iload dX5_findPattern_99 rfl ?_
          refine J.aload_n (i := 0) dX5_findPattern_101 rfl rfl ?_
          refine J.iload_n (i := 1) dX5_findPattern_102 rfl rfl ?_
          refine J.iconst (v := 2) dX5_findPattern_103 (by decide) ?_
          replace hf := jbd hf
          obtain ⟨u43, h44, hf⟩ := hf
          replace hf := jbs hf
          obtain ⟨v47, hp46, h45, hf⟩ := hf
          refine J.callV (As := [.int xi_1, .int 2]) (k2 := 0) (n2 := 0) 9 hDl hRm (w_X5_lengthOf h45) (lw_V q1106 q1108 qs27 q44 q1109) hd_X5_lengthOf rfl ⟨_, h44⟩ rfl (Nat.le_of_ble_eq_true rfl) (Nat.le_of_ble_eq_true rfl) (Nat.le_of_ble_eq_true rfl) (Nat.le_of_ble_eq_true rfl) (Nat.le_of_ble_eq_true rfl) (Nat.le_of_ble_eq_true rfl) (Nat.le_of_ble_eq_true rfl) rfl dX5_findPattern_104 ?_
          refine J.aload_n (i := 0) dX5_findPattern_107 rfl rfl ?_
          replace hf := jbd hf
          obtain ⟨a48, h49, hf⟩ := hf
          refine J.getA 9 0 in_X5 rfl (Nat.le_of_ble_eq_true rfl) (Or.inl q867) (Or.inl rfl) h49 dX5_findPattern_108 ?_
          refine J.iconst (v := 4) dX5_findPattern_111 (by decide) ?_
          replace hf := jbd hf
          obtain ⟨v50, h51, hf⟩ := hf
          refine J.iald h51 dX5_findPattern_112 ?_
          refine J.iadd dX5_findPattern_113 ?_
          by_cases hz52 : (v47 + v50) = (0 : Int32)
          · replace hf := (if_pos hz52).symm.trans hf
            cases hf
          replace hf := (if_neg hz52).symm.trans hf
          refine J.idiv dX5_findPattern_114 hz52 ?_
          refine J.mask (lv' := [some (.ref xa_0), some (.int xi_1), none, some (.int xi_3), some (.int xi_4), some (.int xi_5), some (.int xi_6), none, none, none]) [true, true, false, true, true, true, true, false, false, false] rfl ?_
          exact w_X5_findPattern_j115 hDl hRm hE hX0 hK25 (fun z0 z1 z2 z3 z4 z5 z6 hz => ih38 z0 z1 z2 z3 z4 z5 z6 hz) hf
        · replace hf := (if_neg hc42).symm.trans hf
          refine J.iconst (v := 0) dX5_findPattern_95 (by decide) ?_
          refine J.goto (tgt := 115) dX5_findPattern_96 (by decide) ?_
          refine J.mask (lv' := [some (.ref xa_0), some (.int xi_1), none, some (.int xi_3), some (.int xi_4), some (.int xi_5), some (.int xi_6), none, none, none]) [true, true, false, true, true, true, true, false, false, false] rfl ?_
          exact w_X5_findPattern_j115 hDl hRm hE hX0 hK25 (fun z0 z1 z2 z3 z4 z5 z6 hz => ih38 z0 z1 z2 z3 z4 z5 z6 hz) hf
set_option maxHeartbeats 4000000 in
set_option maxRecDepth 100000 in
theorem w_X5_findPattern_L25 {D : va_G} {l : Launch} {X : jX} {hp0 hpE : jH} (hDl : jDl X D l) (hRm : jRoom X rm_X5_findPattern.frames rm_X5_findPattern.locals rm_X5_findPattern.cells rm_X5_findPattern.slots) (hE : jEnds X none none hpE rm_X5_findPattern.cells rm_X5_findPattern.slots) (hX0 : jX0 X hp0) : ∀ (N : Nat) (xa_0 : Nat) (xi_1 : Int32) (xi_3 : Int32) (xi_4 : Int32) (xi_5 : Int32) (hp : jH), f_X5_findPattern_L25 N xa_0 xi_1 xi_3 xi_4 xi_5 hp = some hpE → J X cX5_findPattern 10 yX5_findPattern 0 0 25 [some (.ref xa_0), some (.int xi_1), none, some (.int xi_3), some (.int xi_4), some (.int xi_5), none, none, none, none] [] hp := by
  intro N
  induction N with
  | zero =>
    intro xa_0 xi_1 xi_3 xi_4 xi_5 hp hf
    rw [f_X5_findPattern_L25] at hf
    cases hf
  | succ N ih25 =>
    intro xa_0 xi_1 xi_3 xi_4 xi_5 hp hf
    rw [f_X5_findPattern_L25] at hf
    refine J.iload dX5_findPattern_25 rfl ?_
    refine J.if_lt (tgt := 255) dX5_findPattern_27 (by decide) (fun hc12 => ?_) (fun hc12 => ?_)
    · replace hf := (if_pos hc12).symm.trans hf
      obtain rfl := Option.some.inj hf
      exact J.vret hE (Nat.le_of_ble_eq_true rfl) (Nat.le_of_ble_eq_true rfl) dX5_findPattern_255
    · replace hf := (if_neg hc12).symm.trans hf
      refine J.aload_n (i := 0) dX5_findPattern_30 rfl rfl ?_
      refine J.iload_n (i := 1) dX5_findPattern_31 rfl rfl ?_
      refine J.iconst (v := 1) dX5_findPattern_32 (by decide) ?_
      replace hf := jbd hf
      obtain ⟨u13, h14, hf⟩ := hf
      replace hf := jbs hf
      obtain ⟨v17, hp16, h15, hf⟩ := hf
      refine J.callV (As := [.int xi_1, .int 1]) (k2 := 0) (n2 := 0) 9 hDl hRm (w_X5_most h15) (lw_V q1102 q1104 qs26 q44 q1105) hd_X5_most rfl ⟨_, h14⟩ rfl (Nat.le_of_ble_eq_true rfl) (Nat.le_of_ble_eq_true rfl) (Nat.le_of_ble_eq_true rfl) (Nat.le_of_ble_eq_true rfl) (Nat.le_of_ble_eq_true rfl) (Nat.le_of_ble_eq_true rfl) (Nat.le_of_ble_eq_true rfl) rfl dX5_findPattern_33 ?_
      refine J.istore (i := 6) (lv' := [some (.ref xa_0), some (.int xi_1), none, some (.int xi_3), some (.int xi_4), some (.int xi_5), some (.int v17), none, none, none]) dX5_findPattern_36 (Nat.le_of_ble_eq_true rfl) rfl ?_
      exact w_X5_findPattern_L38 hDl hRm hE hX0 (fun z0 z1 z2 z3 z4 z5 hz => ih25 z0 z1 z2 z3 z4 z5 hz) _ _ _ _ _ _ _ _ hf
set_option maxHeartbeats 4000000 in
set_option maxRecDepth 100000 in
theorem w_X5_findPattern {D : va_G} {l : Launch} {hp hpE : jH} {this : Nat} {p1 : Int32} {p2 : Int32} (hf : f_X5_findPattern this p1 p2 hp = some hpE) : jM D l yX5_findPattern (ws_ yX5_findPattern cX5_findPattern 10 none) rm_X5_findPattern hp [.ref this, .int p1, .int p2] none hpE := by
  refine jM.of (lv0 := [some (.ref this), some (.int p1), some (.int p2), none, none, none, none, none, none, none]) (by decide) (Nat.le_of_ble_eq_true rfl) rfl (fun X hDl hRm hE hX0 => ?_)
  rw [f_X5_findPattern] at hf
  refine J.iload_n (i := 2) dX5_findPattern_0 rfl rfl ?_
  refine J.aload_n (i := 0) dX5_findPattern_1 rfl rfl ?_
  replace hf := jbd hf
  obtain ⟨a1, h2, hf⟩ := hf
  refine J.getA 9 0 in_X5 rfl (Nat.le_of_ble_eq_true rfl) (Or.inl q867) (Or.inl rfl) h2 dX5_findPattern_2 ?_
  refine J.iconst (v := 4) dX5_findPattern_5 (by decide) ?_
  replace hf := jbd hf
  obtain ⟨v3, h4, hf⟩ := hf
  refine J.iald h4 dX5_findPattern_6 ?_
  refine J.iadd dX5_findPattern_7 ?_
  refine J.istore_n (i := 3) (lv' := [some (.ref this), some (.int p1), some (.int p2), some (.int (p2 + v3)), none, none, none, none, none, none]) dX5_findPattern_8 rfl (Nat.le_of_ble_eq_true rfl) rfl ?_
  refine J.aload_n (i := 0) dX5_findPattern_9 rfl rfl ?_
  refine J.iconst (v := (-1)) dX5_findPattern_10 (by decide) ?_
  replace hf := jbd hf
  obtain ⟨hp5, h6, hf⟩ := hf
  refine J.put (ty := .int) 9 29 in_X5 ap9 rfl (Nat.le_of_ble_eq_true rfl) (Or.inl q896) (Or.inl rfl) rfl (by decide +kernel) (fun _ => ⟨rfl, rfl⟩) h6 dX5_findPattern_11 ?_
  refine J.iconst (v := 0) dX5_findPattern_14 (by decide) ?_
  refine J.istore (i := 4) (lv' := [some (.ref this), some (.int p1), some (.int p2), some (.int (p2 + v3)), some (.int 0), none, none, none, none, none]) dX5_findPattern_15 (Nat.le_of_ble_eq_true rfl) rfl ?_
  refine J.aload_n (i := 0) dX5_findPattern_17 rfl rfl ?_
  refine J.iload_n (i := 1) dX5_findPattern_18 rfl rfl ?_
  refine J.iconst (v := 0) dX5_findPattern_19 (by decide) ?_
  replace hf := jbd hf
  obtain ⟨u7, h8, hf⟩ := hf
  replace hf := jbs hf
  obtain ⟨v11, hp10, h9, hf⟩ := hf
  refine J.callV (As := [.int p1, .int 0]) (k2 := 0) (n2 := 0) 9 hDl hRm (w_X5_most h9) (lw_V q1102 q1104 qs26 q44 q1105) hd_X5_most rfl ⟨_, h8⟩ rfl (Nat.le_of_ble_eq_true rfl) (Nat.le_of_ble_eq_true rfl) (Nat.le_of_ble_eq_true rfl) (Nat.le_of_ble_eq_true rfl) (Nat.le_of_ble_eq_true rfl) (Nat.le_of_ble_eq_true rfl) (Nat.le_of_ble_eq_true rfl) rfl dX5_findPattern_20 ?_
  refine J.istore (i := 5) (lv' := [some (.ref this), some (.int p1), some (.int p2), some (.int (p2 + v3)), some (.int 0), some (.int v11), none, none, none, none]) dX5_findPattern_23 (Nat.le_of_ble_eq_true rfl) rfl ?_
  refine J.mask (lv' := [some (.ref this), some (.int p1), none, some (.int (p2 + v3)), some (.int 0), some (.int v11), none, none, none, none]) [true, true, false, true, true, true, false, false, false, false] rfl ?_
  exact w_X5_findPattern_L25 hDl hRm hE hX0 _ _ _ _ _ _ _ hf
def rm_X5_findBar : Room := { frames := 2, cells := 0, slots := 0, locals := 51 }
theorem hd_X5_findBar : yX5_findBar.cls = RX5 ∧ yX5_findBar.cls ≠ "java/lang/invoke/MethodHandle" ∧ yX5_findBar.cls ≠ "java/lang/invoke/VarHandle" ∧ (parseMethodDescriptor yX5_findBar.desc).map (fun d => d.parameters.length) = some 3 := by decide +kernel
set_option maxHeartbeats 4000000 in
set_option maxRecDepth 100000 in
theorem w_X5_findBar_j173 {D : va_G} {l : Launch} {X : jX} {hp0 hpE : jH} (hDl : jDl X D l) (hRm : jRoom X rm_X5_findBar.frames rm_X5_findBar.locals rm_X5_findBar.cells rm_X5_findBar.slots) (hE : jEnds X none none hpE rm_X5_findBar.cells rm_X5_findBar.slots) (hX0 : jX0 X hp0) {xa_0 : Nat} {xi_1 : Int32} {xi_5 : Int32} {xa_s0 : Nat} {xi_s1 : Int32} {hp : jH} (hf : f_X5_findBar_j173 xa_0 xi_1 xi_5 xa_s0 xi_s1 hp = some hpE) : J X cX5_findBar 6 yX5_findBar 0 0 173 [some (.ref xa_0), some (.int xi_1), none, none, none, some (.int xi_5)] [.int xi_s1, .ref xa_s0] hp := by
  rw [f_X5_findBar_j173] at hf
  replace hf := jbd hf
  obtain ⟨hp54, h55, hf⟩ := hf
  refine J.put (ty := .int) 9 33 in_X5 ap9 rfl (Nat.le_of_ble_eq_true rfl) (Or.inl q900) (Or.inl rfl) rfl (by decide +kernel) (fun _ => ⟨rfl, rfl⟩) h55 dX5_findBar_173 ?_
  refine J.aload_n (i := 0) dX5_findBar_176 rfl rfl ?_
  refine J.iload dX5_findBar_177 rfl ?_
  refine J.aload_n (i := 0) dX5_findBar_179 rfl rfl ?_
  replace hf := jbd hf
  obtain ⟨v56, h57, hf⟩ := hf
  refine J.getI 9 33 in_X5 rfl (Nat.le_of_ble_eq_true rfl) (Or.inl q900) (Or.inl rfl) h57 dX5_findBar_180 ?_
  refine J.isub dX5_findBar_183 ?_
  replace hf := jbd hf
  obtain ⟨hp58, h59, hf⟩ := hf
  refine J.put (ty := .int) 9 34 in_X5 ap9 rfl (Nat.le_of_ble_eq_true rfl) (Or.inl q901) (Or.inl rfl) rfl (by decide +kernel) (fun _ => ⟨rfl, rfl⟩) h59 dX5_findBar_184 ?_
  refine J.aload_n (i := 0) dX5_findBar_187 rfl rfl ?_
  refine J.iload_n (i := 1) dX5_findBar_188 rfl rfl ?_
  refine J.aload_n (i := 0) dX5_findBar_189 rfl rfl ?_
  replace hf := jbd hf
  obtain ⟨v60, h61, hf⟩ := hf
  refine J.getI 9 34 in_X5 rfl (Nat.le_of_ble_eq_true rfl) (Or.inl q901) (Or.inl rfl) h61 dX5_findBar_190 ?_
  replace hf := jbd hf
  obtain ⟨u62, h63, hf⟩ := hf
  replace hf := jbd hf
  obtain ⟨hp65, h64, hf⟩ := hf
  refine J.callV (As := [.int xi_1, .int v60]) (k2 := 0) (n2 := 0) 9 hDl hRm (w_X5_findPattern h64) (lw_V q1098 q1100 qs25 q44 q1101) hd_X5_findPattern rfl ⟨_, h63⟩ rfl (Nat.le_of_ble_eq_true rfl) (Nat.le_of_ble_eq_true rfl) (Nat.le_of_ble_eq_true rfl) (Nat.le_of_ble_eq_true rfl) (Nat.le_of_ble_eq_true rfl) (Nat.le_of_ble_eq_true rfl) (Nat.le_of_ble_eq_true rfl) rfl dX5_findBar_193 ?_
  obtain rfl := Option.some.inj hf
  exact J.vret hE (Nat.le_of_ble_eq_true rfl) (Nat.le_of_ble_eq_true rfl) dX5_findBar_196
set_option maxHeartbeats 4000000 in
set_option maxRecDepth 100000 in
theorem w_X5_findBar_j123 {D : va_G} {l : Launch} {X : jX} {hp0 hpE : jH} (hDl : jDl X D l) (hRm : jRoom X rm_X5_findBar.frames rm_X5_findBar.locals rm_X5_findBar.cells rm_X5_findBar.slots) (hE : jEnds X none none hpE rm_X5_findBar.cells rm_X5_findBar.slots) (hX0 : jX0 X hp0) {xa_0 : Nat} {xi_1 : Int32} {xi_3 : Int32} {xa_s0 : Nat} {xi_s1 : Int32} {hp : jH} (hf : f_X5_findBar_j123 xa_0 xi_1 xi_3 xa_s0 xi_s1 hp = some hpE) : J X cX5_findBar 6 yX5_findBar 0 0 123 [some (.ref xa_0), some (.int xi_1), none, some (.int xi_3), none, none] [.int xi_s1, .ref xa_s0] hp := by
  rw [f_X5_findBar_j123] at hf
  replace hf := jbd hf
  obtain ⟨hp40, h41, hf⟩ := hf
  refine J.put (ty := .int) 9 32 in_X5 ap9 rfl (Nat.le_of_ble_eq_true rfl) (Or.inl q899) (Or.inl rfl) rfl (by decide +kernel) (fun _ => ⟨rfl, rfl⟩) h41 dX5_findBar_123 ?_
  refine J.aload_n (i := 0) dX5_findBar_126 rfl rfl ?_
  replace hf := jbd hf
  obtain ⟨v42, h43, hf⟩ := hf
  refine J.getI 9 30 in_X5 rfl (Nat.le_of_ble_eq_true rfl) (Or.inl q897) (Or.inl rfl) h43 dX5_findBar_127 ?_
  refine J.aload_n (i := 0) dX5_findBar_130 rfl rfl ?_
  replace hf := jbd hf
  obtain ⟨v44, h45, hf⟩ := hf
  refine J.getI 9 31 in_X5 rfl (Nat.le_of_ble_eq_true rfl) (Or.inl q898) (Or.inl rfl) h45 dX5_findBar_131 ?_
  refine J.isub dX5_findBar_134 ?_
  refine J.aload_n (i := 0) dX5_findBar_135 rfl rfl ?_
  replace hf := jbd hf
  obtain ⟨v46, h47, hf⟩ := hf
  refine J.getI 9 32 in_X5 rfl (Nat.le_of_ble_eq_true rfl) (Or.inl q899) (Or.inl rfl) h47 dX5_findBar_136 ?_
  refine J.isub dX5_findBar_139 ?_
  refine J.istore (i := 5) (lv' := [some (.ref xa_0), some (.int xi_1), none, some (.int xi_3), none, some (.int ((v42 - v44) - v46))]) dX5_findBar_140 (Nat.le_of_ble_eq_true rfl) rfl ?_
  refine J.aload_n (i := 0) dX5_findBar_142 rfl rfl ?_
  refine J.iload_n (i := 3) dX5_findBar_143 rfl rfl ?_
  refine J.if_ne (tgt := 151) dX5_findBar_144 (by decide) (fun hc48 => ?_) (fun hc48 => ?_)
  · replace hf := (if_neg hc48).symm.trans hf
    refine J.aload_n (i := 0) dX5_findBar_151 rfl rfl ?_
    replace hf := jbd hf
    obtain ⟨a49, h50, hf⟩ := hf
    refine J.getA 9 0 in_X5 rfl (Nat.le_of_ble_eq_true rfl) (Or.inl q867) (Or.inl rfl) h50 dX5_findBar_152 ?_
    refine J.iconst (v := 3) dX5_findBar_155 (by decide) ?_
    replace hf := jbd hf
    obtain ⟨v51, h52, hf⟩ := hf
    refine J.iald h52 dX5_findBar_156 ?_
    refine J.iload dX5_findBar_157 rfl ?_
    refine J.icmp_ge (tgt := 171) dX5_findBar_159 (by decide) (fun hc53 => ?_) (fun hc53 => ?_)
    · replace hf := (if_pos hc53).symm.trans hf
      refine J.iload dX5_findBar_171 rfl ?_
      refine J.mask (lv' := [some (.ref xa_0), some (.int xi_1), none, none, none, some (.int ((v42 - v44) - v46))]) [true, true, false, false, false, true] rfl ?_
      exact w_X5_findBar_j173 hDl hRm hE hX0 hf
    · replace hf := (if_neg hc53).symm.trans hf
      refine J.aload_n (i := 0) dX5_findBar_162 rfl rfl ?_
      replace hf := jbd hf
      obtain ⟨a66, h67, hf⟩ := hf
      refine J.getA 9 0 in_X5 rfl (Nat.le_of_ble_eq_true rfl) (Or.inl q867) (Or.inl rfl) h67 dX5_findBar_163 ?_
      refine J.iconst (v := 3) dX5_findBar_166 (by decide) ?_
      replace hf := jbd hf
      obtain ⟨v68, h69, hf⟩ := hf
      refine J.iald h69 dX5_findBar_167 ?_
      refine J.goto (tgt := 173) dX5_findBar_168 (by decide) ?_
      refine J.mask (lv' := [some (.ref xa_0), some (.int xi_1), none, none, none, some (.int ((v42 - v44) - v46))]) [true, true, false, false, false, true] rfl ?_
      exact w_X5_findBar_j173 hDl hRm hE hX0 hf
  · replace hf := (if_pos hc48).symm.trans hf
    refine J.iconst (v := 0) dX5_findBar_147 (by decide) ?_
    refine J.goto (tgt := 173) dX5_findBar_148 (by decide) ?_
    refine J.mask (lv' := [some (.ref xa_0), some (.int xi_1), none, none, none, some (.int ((v42 - v44) - v46))]) [true, true, false, false, false, true] rfl ?_
    exact w_X5_findBar_j173 hDl hRm hE hX0 hf
set_option maxHeartbeats 4000000 in
set_option maxRecDepth 100000 in
theorem w_X5_findBar_j83 {D : va_G} {l : Launch} {X : jX} {hp0 hpE : jH} (hDl : jDl X D l) (hRm : jRoom X rm_X5_findBar.frames rm_X5_findBar.locals rm_X5_findBar.cells rm_X5_findBar.slots) (hE : jEnds X none none hpE rm_X5_findBar.cells rm_X5_findBar.slots) (hX0 : jX0 X hp0) {xa_0 : Nat} {xi_1 : Int32} {xi_3 : Int32} {xa_s0 : Nat} {xi_s1 : Int32} {hp : jH} (hf : f_X5_findBar_j83 xa_0 xi_1 xi_3 xa_s0 xi_s1 hp = some hpE) : J X cX5_findBar 6 yX5_findBar 0 0 83 [some (.ref xa_0), some (.int xi_1), none, some (.int xi_3), none, none] [.int xi_s1, .ref xa_s0] hp := by
  rw [f_X5_findBar_j83] at hf
  replace hf := jbd hf
  obtain ⟨hp25, h26, hf⟩ := hf
  refine J.put (ty := .int) 9 31 in_X5 ap9 rfl (Nat.le_of_ble_eq_true rfl) (Or.inl q898) (Or.inl rfl) rfl (by decide +kernel) (fun _ => ⟨rfl, rfl⟩) h26 dX5_findBar_83 ?_
  refine J.aload_n (i := 0) dX5_findBar_86 rfl rfl ?_
  refine J.aload_n (i := 0) dX5_findBar_87 rfl rfl ?_
  replace hf := jbd hf
  obtain ⟨a27, h28, hf⟩ := hf
  refine J.getA 9 0 in_X5 rfl (Nat.le_of_ble_eq_true rfl) (Or.inl q867) (Or.inl rfl) h28 dX5_findBar_88 ?_
  refine J.iconst (v := 2) dX5_findBar_91 (by decide) ?_
  replace hf := jbd hf
  obtain ⟨v29, h30, hf⟩ := hf
  refine J.iald h30 dX5_findBar_92 ?_
  refine J.aload_n (i := 0) dX5_findBar_93 rfl rfl ?_
  replace hf := jbd hf
  obtain ⟨v31, h32, hf⟩ := hf
  refine J.getI 9 30 in_X5 rfl (Nat.le_of_ble_eq_true rfl) (Or.inl q897) (Or.inl rfl) h32 dX5_findBar_94 ?_
  refine J.aload_n (i := 0) dX5_findBar_97 rfl rfl ?_
  replace hf := jbd hf
  obtain ⟨v33, h34, hf⟩ := hf
  refine J.getI 9 31 in_X5 rfl (Nat.le_of_ble_eq_true rfl) (Or.inl q898) (Or.inl rfl) h34 dX5_findBar_98 ?_
  refine J.isub dX5_findBar_101 ?_
  refine J.icmp_ge (tgt := 114) dX5_findBar_102 (by decide) (fun hc35 => ?_) (fun hc35 => ?_)
  · replace hf := (if_pos hc35).symm.trans hf
    refine J.aload_n (i := 0) dX5_findBar_114 rfl rfl ?_
    replace hf := jbd hf
    obtain ⟨v36, h37, hf⟩ := hf
    refine J.getI 9 30 in_X5 rfl (Nat.le_of_ble_eq_true rfl) (Or.inl q897) (Or.inl rfl) h37 dX5_findBar_115 ?_
    refine J.aload_n (i := 0) dX5_findBar_118 rfl rfl ?_
    replace hf := jbd hf
    obtain ⟨v38, h39, hf⟩ := hf
    refine J.getI 9 31 in_X5 rfl (Nat.le_of_ble_eq_true rfl) (Or.inl q898) (Or.inl rfl) h39 dX5_findBar_119 ?_
    refine J.isub dX5_findBar_122 ?_
    exact w_X5_findBar_j123 hDl hRm hE hX0 hf
  · replace hf := (if_neg hc35).symm.trans hf
    refine J.aload_n (i := 0) dX5_findBar_105 rfl rfl ?_
    replace hf := jbd hf
    obtain ⟨a70, h71, hf⟩ := hf
    refine J.getA 9 0 in_X5 rfl (Nat.le_of_ble_eq_true rfl) (Or.inl q867) (Or.inl rfl) h71 dX5_findBar_106 ?_
    refine J.iconst (v := 2) dX5_findBar_109 (by decide) ?_
    replace hf := jbd hf
    obtain ⟨v72, h73, hf⟩ := hf
    refine J.iald h73 dX5_findBar_110 ?_
    refine J.goto (tgt := 123) dX5_findBar_111 (by decide) ?_
    exact w_X5_findBar_j123 hDl hRm hE hX0 hf
set_option maxHeartbeats 4000000 in
set_option maxRecDepth 100000 in
theorem w_X5_findBar_j22 {D : va_G} {l : Launch} {X : jX} {hp0 hpE : jH} (hDl : jDl X D l) (hRm : jRoom X rm_X5_findBar.frames rm_X5_findBar.locals rm_X5_findBar.cells rm_X5_findBar.slots) (hE : jEnds X none none hpE rm_X5_findBar.cells rm_X5_findBar.slots) (hX0 : jX0 X hp0) {xa_0 : Nat} {xi_1 : Int32} {xi_3 : Int32} {xi_s0 : Int32} {hp : jH} (hf : f_X5_findBar_j22 xa_0 xi_1 xi_3 xi_s0 hp = some hpE) : J X cX5_findBar 6 yX5_findBar 0 0 22 [some (.ref xa_0), some (.int xi_1), none, some (.int xi_3), none, none] [.int xi_s0] hp := by
  rw [f_X5_findBar_j22] at hf
  refine J.istore (i := 4) (lv' := [some (.ref xa_0), some (.int xi_1), none, some (.int xi_3), some (.int xi_s0), none]) dX5_findBar_22 (Nat.le_of_ble_eq_true rfl) rfl ?_
  refine J.aload_n (i := 0) dX5_findBar_24 rfl rfl ?_
  refine J.iload dX5_findBar_25 rfl ?_
  refine J.i2l dX5_findBar_27 ?_
  refine J.aload_n (i := 0) dX5_findBar_28 rfl rfl ?_
  replace hf := jbd hf
  obtain ⟨a6, h7, hf⟩ := hf
  refine J.getA 9 3 in_X5 rfl (Nat.le_of_ble_eq_true rfl) (Or.inl q870) (Or.inl rfl) h7 dX5_findBar_29 ?_
  refine J.iload_n (i := 1) dX5_findBar_32 rfl rfl ?_
  replace hf := jbd hf
  obtain ⟨v8, h9, hf⟩ := hf
  refine J.iald h9 dX5_findBar_33 ?_
  refine J.i2l dX5_findBar_34 ?_
  refine J.lmul dX5_findBar_35 ?_
  refine J.sipush (v := 1000) dX5_findBar_36 (by decide) ?_
  refine J.aload_n (i := 0) dX5_findBar_39 rfl rfl ?_
  replace hf := jbd hf
  obtain ⟨a10, h11, hf⟩ := hf
  refine J.getA 9 0 in_X5 rfl (Nat.le_of_ble_eq_true rfl) (Or.inl q867) (Or.inl rfl) h11 dX5_findBar_40 ?_
  refine J.iconst (v := 5) dX5_findBar_43 (by decide) ?_
  replace hf := jbd hf
  obtain ⟨v12, h13, hf⟩ := hf
  refine J.iald h13 dX5_findBar_44 ?_
  refine J.iadd dX5_findBar_45 ?_
  refine J.i2l dX5_findBar_46 ?_
  refine J.lmul dX5_findBar_47 ?_
  refine J.ldc2 q1097 dX5_findBar_48 ?_
  refine J.ldiv dX5_findBar_51 (by decide) ?_
  refine J.l2i dX5_findBar_52 ?_
  replace hf := jbd hf
  obtain ⟨hp14, h15, hf⟩ := hf
  refine J.put (ty := .int) 9 30 in_X5 ap9 rfl (Nat.le_of_ble_eq_true rfl) (Or.inl q897) (Or.inl rfl) rfl (by decide +kernel) (fun _ => ⟨rfl, rfl⟩) h15 dX5_findBar_53 ?_
  refine J.aload_n (i := 0) dX5_findBar_56 rfl rfl ?_
  refine J.aload_n (i := 0) dX5_findBar_57 rfl rfl ?_
  replace hf := jbd hf
  obtain ⟨a16, h17, hf⟩ := hf
  refine J.getA 9 0 in_X5 rfl (Nat.le_of_ble_eq_true rfl) (Or.inl q867) (Or.inl rfl) h17 dX5_findBar_58 ?_
  refine J.iconst (v := 1) dX5_findBar_61 (by decide) ?_
  replace hf := jbd hf
  obtain ⟨v18, h19, hf⟩ := hf
  refine J.iald h19 dX5_findBar_62 ?_
  refine J.aload_n (i := 0) dX5_findBar_63 rfl rfl ?_
  replace hf := jbd hf
  obtain ⟨v20, h21, hf⟩ := hf
  refine J.getI 9 30 in_X5 rfl (Nat.le_of_ble_eq_true rfl) (Or.inl q897) (Or.inl rfl) h21 dX5_findBar_64 ?_
  refine J.icmp_ge (tgt := 79) dX5_findBar_67 (by decide) (fun hc22 => ?_) (fun hc22 => ?_)
  · replace hf := (if_pos hc22).symm.trans hf
    refine J.aload_n (i := 0) dX5_findBar_79 rfl rfl ?_
    replace hf := jbd hf
    obtain ⟨v23, h24, hf⟩ := hf
    refine J.getI 9 30 in_X5 rfl (Nat.le_of_ble_eq_true rfl) (Or.inl q897) (Or.inl rfl) h24 dX5_findBar_80 ?_
    refine J.mask (lv' := [some (.ref xa_0), some (.int xi_1), none, some (.int xi_3), none, none]) [true, true, false, true, false, false] rfl ?_
    exact w_X5_findBar_j83 hDl hRm hE hX0 hf
  · replace hf := (if_neg hc22).symm.trans hf
    refine J.aload_n (i := 0) dX5_findBar_70 rfl rfl ?_
    replace hf := jbd hf
    obtain ⟨a74, h75, hf⟩ := hf
    refine J.getA 9 0 in_X5 rfl (Nat.le_of_ble_eq_true rfl) (Or.inl q867) (Or.inl rfl) h75 dX5_findBar_71 ?_
    refine J.iconst (v := 1) dX5_findBar_74 (by decide) ?_
    replace hf := jbd hf
    obtain ⟨v76, h77, hf⟩ := hf
    refine J.iald h77 dX5_findBar_75 ?_
    refine J.goto (tgt := 83) dX5_findBar_76 (by decide) ?_
    refine J.mask (lv' := [some (.ref xa_0), some (.int xi_1), none, some (.int xi_3), none, none]) [true, true, false, true, false, false] rfl ?_
    exact w_X5_findBar_j83 hDl hRm hE hX0 hf
set_option maxHeartbeats 4000000 in
set_option maxRecDepth 100000 in
theorem w_X5_findBar {D : va_G} {l : Launch} {hp hpE : jH} {this : Nat} {p1 : Int32} {p2 : Int32} {p3 : Int32} (hf : f_X5_findBar this p1 p2 p3 hp = some hpE) : jM D l yX5_findBar (ws_ yX5_findBar cX5_findBar 6 none) rm_X5_findBar hp [.ref this, .int p1, .int p2, .int p3] none hpE := by
  refine jM.of (lv0 := [some (.ref this), some (.int p1), some (.int p2), some (.int p3), none, none]) (by decide) (Nat.le_of_ble_eq_true rfl) rfl (fun X hDl hRm hE hX0 => ?_)
  rw [f_X5_findBar] at hf
  refine J.iload_n (i := 2) dX5_findBar_0 rfl rfl ?_
  refine J.aload_n (i := 0) dX5_findBar_1 rfl rfl ?_
  replace hf := jbd hf
  obtain ⟨a1, h2, hf⟩ := hf
  refine J.getA 9 0 in_X5 rfl (Nat.le_of_ble_eq_true rfl) (Or.inl q867) (Or.inl rfl) h2 dX5_findBar_2 ?_
  refine J.iconst (v := 0) dX5_findBar_5 (by decide) ?_
  replace hf := jbd hf
  obtain ⟨v3, h4, hf⟩ := hf
  refine J.iald h4 dX5_findBar_6 ?_
  refine J.icmp_le (tgt := 21) dX5_findBar_7 (by decide) (fun hc5 => ?_) (fun hc5 => ?_)
  · replace hf := (if_pos hc5).symm.trans hf
    refine J.iconst (v := 0) dX5_findBar_21 (by decide) ?_
    refine J.mask (lv' := [some (.ref this), some (.int p1), none, some (.int p3), none, none]) [true, true, false, true, false, false] rfl ?_
    exact w_X5_findBar_j22 hDl hRm hE hX0 hf
  · replace hf := (if_neg hc5).symm.trans hf
    refine J.iload_n (i := 2) dX5_findBar_10 rfl rfl ?_
    refine J.aload_n (i := 0) dX5_findBar_11 rfl rfl ?_
    replace hf := jbd hf
    obtain ⟨a78, h79, hf⟩ := hf
    refine J.getA 9 0 in_X5 rfl (Nat.le_of_ble_eq_true rfl) (Or.inl q867) (Or.inl rfl) h79 dX5_findBar_12 ?_
    refine J.iconst (v := 0) dX5_findBar_15 (by decide) ?_
    replace hf := jbd hf
    obtain ⟨v80, h81, hf⟩ := hf
    refine J.iald h81 dX5_findBar_16 ?_
    refine J.isub dX5_findBar_17 ?_
    refine J.goto (tgt := 22) dX5_findBar_18 (by decide) ?_
    refine J.mask (lv' := [some (.ref this), some (.int p1), none, some (.int p3), none, none]) [true, true, false, true, false, false] rfl ?_
    exact w_X5_findBar_j22 hDl hRm hE hX0 hf
def rm_X5_press : Room := { frames := 3, cells := 0, slots := 0, locals := 76 }
theorem hd_X5_press : yX5_press.cls = RX5 ∧ yX5_press.cls ≠ "java/lang/invoke/MethodHandle" ∧ yX5_press.cls ≠ "java/lang/invoke/VarHandle" ∧ (parseMethodDescriptor yX5_press.desc).map (fun d => d.parameters.length) = some 2 := by decide +kernel
set_option maxHeartbeats 4000000 in
set_option maxRecDepth 100000 in
theorem w_X5_press_L91 {D : va_G} {l : Launch} {X : jX} {hp0 hpE : jH} {rE : Int32} (hDl : jDl X D l) (hRm : jRoom X rm_X5_press.frames rm_X5_press.locals rm_X5_press.cells rm_X5_press.slots) (hE : jEnds X (some .int) (some (.int rE)) hpE rm_X5_press.cells rm_X5_press.slots) (hX0 : jX0 X hp0) : ∀ (N : Nat) (xa_0 : Nat) (xi_1 : Int32) (xi_2 : Int32) (xi_3 : Int32) (xi_4 : Int32) (hp : jH), f_X5_press_L91 N xa_0 xi_1 xi_2 xi_3 xi_4 hp = some (rE, hpE) → J X cX5_press 5 yX5_press 0 0 91 [some (.ref xa_0), some (.int xi_1), some (.int xi_2), some (.int xi_3), some (.int xi_4)] [] hp := by
  intro N
  induction N with
  | zero =>
    intro xa_0 xi_1 xi_2 xi_3 xi_4 hp hf
    rw [f_X5_press_L91] at hf
    cases hf
  | succ N ih91 =>
    intro xa_0 xi_1 xi_2 xi_3 xi_4 hp hf
    rw [f_X5_press_L91] at hf
    refine J.iload dX5_press_91 rfl ?_
    refine J.aload_n (i := 0) dX5_press_93 rfl rfl ?_
    replace hf := jbd hf
    obtain ⟨a31, h32, hf⟩ := hf
    refine J.getA 9 25 in_X5 rfl (Nat.le_of_ble_eq_true rfl) (Or.inl q892) (Or.inl rfl) h32 dX5_press_94 ?_
    refine J.iload_n (i := 3) dX5_press_97 rfl rfl ?_
    replace hf := jbd hf
    obtain ⟨v33, h34, hf⟩ := hf
    refine J.iald h34 dX5_press_98 ?_
    refine J.icmp_ge (tgt := 129) dX5_press_99 (by decide) (fun hc35 => ?_) (fun hc35 => ?_)
    · replace hf := (if_pos hc35).symm.trans hf
      refine J.aload_n (i := 0) dX5_press_129 rfl rfl ?_
      replace hf := jbd hf
      obtain ⟨a36, h37, hf⟩ := hf
      refine J.getA 9 14 in_X5 rfl (Nat.le_of_ble_eq_true rfl) (Or.inl q881) (Or.inl rfl) h37 dX5_press_130 ?_
      refine J.aload_n (i := 0) dX5_press_133 rfl rfl ?_
      replace hf := jbd hf
      obtain ⟨v38, h39, hf⟩ := hf
      refine J.getI 9 13 in_X5 rfl (Nat.le_of_ble_eq_true rfl) (Or.inl q880) (Or.inl rfl) h39 dX5_press_134 ?_
      refine J.iload_n (i := 1) dX5_press_137 rfl rfl ?_
      replace hf := jbd hf
      obtain ⟨hp40, h41, hf⟩ := hf
      refine J.iast h41 dX5_press_138 ?_
      refine J.aload_n (i := 0) dX5_press_139 rfl rfl ?_
      replace hf := jbd hf
      obtain ⟨a42, h43, hf⟩ := hf
      refine J.getA 9 15 in_X5 rfl (Nat.le_of_ble_eq_true rfl) (Or.inl q882) (Or.inl rfl) h43 dX5_press_140 ?_
      refine J.aload_n (i := 0) dX5_press_143 rfl rfl ?_
      replace hf := jbd hf
      obtain ⟨v44, h45, hf⟩ := hf
      refine J.getI 9 13 in_X5 rfl (Nat.le_of_ble_eq_true rfl) (Or.inl q880) (Or.inl rfl) h45 dX5_press_144 ?_
      refine J.iload_n (i := 2) dX5_press_147 rfl rfl ?_
      replace hf := jbd hf
      obtain ⟨hp46, h47, hf⟩ := hf
      refine J.iast h47 dX5_press_148 ?_
      refine J.aload_n (i := 0) dX5_press_149 rfl rfl ?_
      replace hf := jbd hf
      obtain ⟨a48, h49, hf⟩ := hf
      refine J.getA 9 16 in_X5 rfl (Nat.le_of_ble_eq_true rfl) (Or.inl q883) (Or.inl rfl) h49 dX5_press_150 ?_
      refine J.aload_n (i := 0) dX5_press_153 rfl rfl ?_
      replace hf := jbd hf
      obtain ⟨v50, h51, hf⟩ := hf
      refine J.getI 9 13 in_X5 rfl (Nat.le_of_ble_eq_true rfl) (Or.inl q880) (Or.inl rfl) h51 dX5_press_154 ?_
      refine J.aload_n (i := 0) dX5_press_157 rfl rfl ?_
      replace hf := jbd hf
      obtain ⟨v52, h53, hf⟩ := hf
      refine J.getI 9 30 in_X5 rfl (Nat.le_of_ble_eq_true rfl) (Or.inl q897) (Or.inl rfl) h53 dX5_press_158 ?_
      replace hf := jbd hf
      obtain ⟨hp54, h55, hf⟩ := hf
      refine J.iast h55 dX5_press_161 ?_
      refine J.aload_n (i := 0) dX5_press_162 rfl rfl ?_
      replace hf := jbd hf
      obtain ⟨a56, h57, hf⟩ := hf
      refine J.getA 9 17 in_X5 rfl (Nat.le_of_ble_eq_true rfl) (Or.inl q884) (Or.inl rfl) h57 dX5_press_163 ?_
      refine J.aload_n (i := 0) dX5_press_166 rfl rfl ?_
      replace hf := jbd hf
      obtain ⟨v58, h59, hf⟩ := hf
      refine J.getI 9 13 in_X5 rfl (Nat.le_of_ble_eq_true rfl) (Or.inl q880) (Or.inl rfl) h59 dX5_press_167 ?_
      refine J.aload_n (i := 0) dX5_press_170 rfl rfl ?_
      replace hf := jbd hf
      obtain ⟨v60, h61, hf⟩ := hf
      refine J.getI 9 29 in_X5 rfl (Nat.le_of_ble_eq_true rfl) (Or.inl q896) (Or.inl rfl) h61 dX5_press_171 ?_
      replace hf := jbd hf
      obtain ⟨hp62, h63, hf⟩ := hf
      refine J.iast h63 dX5_press_174 ?_
      refine J.aload_n (i := 0) dX5_press_175 rfl rfl ?_
      replace hf := jbd hf
      obtain ⟨a64, h65, hf⟩ := hf
      refine J.getA 9 18 in_X5 rfl (Nat.le_of_ble_eq_true rfl) (Or.inl q885) (Or.inl rfl) h65 dX5_press_176 ?_
      refine J.aload_n (i := 0) dX5_press_179 rfl rfl ?_
      replace hf := jbd hf
      obtain ⟨v66, h67, hf⟩ := hf
      refine J.getI 9 13 in_X5 rfl (Nat.le_of_ble_eq_true rfl) (Or.inl q880) (Or.inl rfl) h67 dX5_press_180 ?_
      refine J.aload_n (i := 0) dX5_press_183 rfl rfl ?_
      replace hf := jbd hf
      obtain ⟨v68, h69, hf⟩ := hf
      refine J.getI 9 34 in_X5 rfl (Nat.le_of_ble_eq_true rfl) (Or.inl q901) (Or.inl rfl) h69 dX5_press_184 ?_
      refine J.aload_n (i := 0) dX5_press_187 rfl rfl ?_
      replace hf := jbd hf
      obtain ⟨v70, h71, hf⟩ := hf
      refine J.getI 9 29 in_X5 rfl (Nat.le_of_ble_eq_true rfl) (Or.inl q896) (Or.inl rfl) h71 dX5_press_188 ?_
      refine J.isub dX5_press_191 ?_
      replace hf := jbd hf
      obtain ⟨hp72, h73, hf⟩ := hf
      refine J.iast h73 dX5_press_192 ?_
      refine J.aload_n (i := 0) dX5_press_193 rfl rfl ?_
      replace hf := jbd hf
      obtain ⟨a74, h75, hf⟩ := hf
      refine J.getA 9 19 in_X5 rfl (Nat.le_of_ble_eq_true rfl) (Or.inl q886) (Or.inl rfl) h75 dX5_press_194 ?_
      refine J.aload_n (i := 0) dX5_press_197 rfl rfl ?_
      replace hf := jbd hf
      obtain ⟨v76, h77, hf⟩ := hf
      refine J.getI 9 13 in_X5 rfl (Nat.le_of_ble_eq_true rfl) (Or.inl q880) (Or.inl rfl) h77 dX5_press_198 ?_
      refine J.aload_n (i := 0) dX5_press_201 rfl rfl ?_
      replace hf := jbd hf
      obtain ⟨v78, h79, hf⟩ := hf
      refine J.getI 9 33 in_X5 rfl (Nat.le_of_ble_eq_true rfl) (Or.inl q900) (Or.inl rfl) h79 dX5_press_202 ?_
      replace hf := jbd hf
      obtain ⟨hp80, h81, hf⟩ := hf
      refine J.iast h81 dX5_press_205 ?_
      refine J.aload_n (i := 0) dX5_press_206 rfl rfl ?_
      replace hf := jbd hf
      obtain ⟨a82, h83, hf⟩ := hf
      refine J.getA 9 20 in_X5 rfl (Nat.le_of_ble_eq_true rfl) (Or.inl q887) (Or.inl rfl) h83 dX5_press_207 ?_
      refine J.aload_n (i := 0) dX5_press_210 rfl rfl ?_
      replace hf := jbd hf
      obtain ⟨v84, h85, hf⟩ := hf
      refine J.getI 9 13 in_X5 rfl (Nat.le_of_ble_eq_true rfl) (Or.inl q880) (Or.inl rfl) h85 dX5_press_211 ?_
      refine J.iconst (v := (-1)) dX5_press_214 (by decide) ?_
      replace hf := jbd hf
      obtain ⟨hp86, h87, hf⟩ := hf
      refine J.iast h87 dX5_press_215 ?_
      refine J.aload_n (i := 0) dX5_press_216 rfl rfl ?_
      replace hf := jbd hf
      obtain ⟨a88, h89, hf⟩ := hf
      refine J.getA 9 21 in_X5 rfl (Nat.le_of_ble_eq_true rfl) (Or.inl q888) (Or.inl rfl) h89 dX5_press_217 ?_
      refine J.aload_n (i := 0) dX5_press_220 rfl rfl ?_
      replace hf := jbd hf
      obtain ⟨v90, h91, hf⟩ := hf
      refine J.getI 9 13 in_X5 rfl (Nat.le_of_ble_eq_true rfl) (Or.inl q880) (Or.inl rfl) h91 dX5_press_221 ?_
      refine J.iconst (v := (-1)) dX5_press_224 (by decide) ?_
      replace hf := jbd hf
      obtain ⟨hp92, h93, hf⟩ := hf
      refine J.iast h93 dX5_press_225 ?_
      refine J.aload_n (i := 0) dX5_press_226 rfl rfl ?_
      refine J.dup dX5_press_227 rfl ?_
      replace hf := jbd hf
      obtain ⟨v94, h95, hf⟩ := hf
      refine J.getI 9 13 in_X5 rfl (Nat.le_of_ble_eq_true rfl) (Or.inl q880) (Or.inl rfl) h95 dX5_press_228 ?_
      refine J.iconst (v := 1) dX5_press_231 (by decide) ?_
      refine J.iadd dX5_press_232 ?_
      replace hf := jbd hf
      obtain ⟨hp96, h97, hf⟩ := hf
      refine J.put (ty := .int) 9 13 in_X5 ap9 rfl (Nat.le_of_ble_eq_true rfl) (Or.inl q880) (Or.inl rfl) rfl (by decide +kernel) (fun _ => ⟨rfl, rfl⟩) h97 dX5_press_233 ?_
      refine J.aload_n (i := 0) dX5_press_236 rfl rfl ?_
      replace hf := jbd hf
      obtain ⟨a98, h99, hf⟩ := hf
      refine J.getA 9 24 in_X5 rfl (Nat.le_of_ble_eq_true rfl) (Or.inl q891) (Or.inl rfl) h99 dX5_press_237 ?_
      refine J.iconst (v := 0) dX5_press_240 (by decide) ?_
      refine J.dup2 dX5_press_241 rfl rfl ?_
      replace hf := jbd hf
      obtain ⟨v100, h101, hf⟩ := hf
      refine J.lald h101 dX5_press_242 ?_
      refine J.aload_n (i := 0) dX5_press_243 rfl rfl ?_
      replace hf := jbd hf
      obtain ⟨v102, h103, hf⟩ := hf
      refine J.getI 9 31 in_X5 rfl (Nat.le_of_ble_eq_true rfl) (Or.inl q898) (Or.inl rfl) h103 dX5_press_244 ?_
      refine J.i2l dX5_press_247 ?_
      refine J.ladd dX5_press_248 ?_
      replace hf := jbd hf
      obtain ⟨hp104, h105, hf⟩ := hf
      refine J.last h105 dX5_press_249 ?_
      refine J.aload_n (i := 0) dX5_press_250 rfl rfl ?_
      replace hf := jbd hf
      obtain ⟨a106, h107, hf⟩ := hf
      refine J.getA 9 24 in_X5 rfl (Nat.le_of_ble_eq_true rfl) (Or.inl q891) (Or.inl rfl) h107 dX5_press_251 ?_
      refine J.iconst (v := 1) dX5_press_254 (by decide) ?_
      refine J.dup2 dX5_press_255 rfl rfl ?_
      replace hf := jbd hf
      obtain ⟨v108, h109, hf⟩ := hf
      refine J.lald h109 dX5_press_256 ?_
      refine J.aload_n (i := 0) dX5_press_257 rfl rfl ?_
      replace hf := jbd hf
      obtain ⟨v110, h111, hf⟩ := hf
      refine J.getI 9 32 in_X5 rfl (Nat.le_of_ble_eq_true rfl) (Or.inl q899) (Or.inl rfl) h111 dX5_press_258 ?_
      refine J.i2l dX5_press_261 ?_
      refine J.ladd dX5_press_262 ?_
      replace hf := jbd hf
      obtain ⟨hp112, h113, hf⟩ := hf
      refine J.last h113 dX5_press_263 ?_
      refine J.aload_n (i := 0) dX5_press_264 rfl rfl ?_
      replace hf := jbd hf
      obtain ⟨a114, h115, hf⟩ := hf
      refine J.getA 9 24 in_X5 rfl (Nat.le_of_ble_eq_true rfl) (Or.inl q891) (Or.inl rfl) h115 dX5_press_265 ?_
      refine J.iconst (v := 2) dX5_press_268 (by decide) ?_
      refine J.dup2 dX5_press_269 rfl rfl ?_
      replace hf := jbd hf
      obtain ⟨v116, h117, hf⟩ := hf
      refine J.lald h117 dX5_press_270 ?_
      refine J.aload_n (i := 0) dX5_press_271 rfl rfl ?_
      replace hf := jbd hf
      obtain ⟨v118, h119, hf⟩ := hf
      refine J.getI 9 33 in_X5 rfl (Nat.le_of_ble_eq_true rfl) (Or.inl q900) (Or.inl rfl) h119 dX5_press_272 ?_
      refine J.i2l dX5_press_275 ?_
      refine J.ladd dX5_press_276 ?_
      replace hf := jbd hf
      obtain ⟨hp120, h121, hf⟩ := hf
      refine J.last h121 dX5_press_277 ?_
      refine J.aload_n (i := 0) dX5_press_278 rfl rfl ?_
      replace hf := jbd hf
      obtain ⟨a122, h123, hf⟩ := hf
      refine J.getA 9 24 in_X5 rfl (Nat.le_of_ble_eq_true rfl) (Or.inl q891) (Or.inl rfl) h123 dX5_press_279 ?_
      refine J.iconst (v := 3) dX5_press_282 (by decide) ?_
      refine J.dup2 dX5_press_283 rfl rfl ?_
      replace hf := jbd hf
      obtain ⟨v124, h125, hf⟩ := hf
      refine J.lald h125 dX5_press_284 ?_
      refine J.aload_n (i := 0) dX5_press_285 rfl rfl ?_
      replace hf := jbd hf
      obtain ⟨v126, h127, hf⟩ := hf
      refine J.getI 9 29 in_X5 rfl (Nat.le_of_ble_eq_true rfl) (Or.inl q896) (Or.inl rfl) h127 dX5_press_286 ?_
      refine J.i2l dX5_press_289 ?_
      refine J.ladd dX5_press_290 ?_
      replace hf := jbd hf
      obtain ⟨hp128, h129, hf⟩ := hf
      refine J.last h129 dX5_press_291 ?_
      refine J.aload_n (i := 0) dX5_press_292 rfl rfl ?_
      replace hf := jbd hf
      obtain ⟨a130, h131, hf⟩ := hf
      refine J.getA 9 24 in_X5 rfl (Nat.le_of_ble_eq_true rfl) (Or.inl q891) (Or.inl rfl) h131 dX5_press_293 ?_
      refine J.iconst (v := 4) dX5_press_296 (by decide) ?_
      refine J.dup2 dX5_press_297 rfl rfl ?_
      replace hf := jbd hf
      obtain ⟨v132, h133, hf⟩ := hf
      refine J.lald h133 dX5_press_298 ?_
      refine J.aload_n (i := 0) dX5_press_299 rfl rfl ?_
      replace hf := jbd hf
      obtain ⟨v134, h135, hf⟩ := hf
      refine J.getI 9 34 in_X5 rfl (Nat.le_of_ble_eq_true rfl) (Or.inl q901) (Or.inl rfl) h135 dX5_press_300 ?_
      refine J.aload_n (i := 0) dX5_press_303 rfl rfl ?_
      replace hf := jbd hf
      obtain ⟨v136, h137, hf⟩ := hf
      refine J.getI 9 29 in_X5 rfl (Nat.le_of_ble_eq_true rfl) (Or.inl q896) (Or.inl rfl) h137 dX5_press_304 ?_
      refine J.isub dX5_press_307 ?_
      refine J.i2l dX5_press_308 ?_
      refine J.ladd dX5_press_309 ?_
      replace hf := jbd hf
      obtain ⟨hp138, h139, hf⟩ := hf
      refine J.last h139 dX5_press_310 ?_
      refine J.aload_n (i := 0) dX5_press_311 rfl rfl ?_
      replace hf := jbd hf
      obtain ⟨a140, h141, hf⟩ := hf
      refine J.getA 9 24 in_X5 rfl (Nat.le_of_ble_eq_true rfl) (Or.inl q891) (Or.inl rfl) h141 dX5_press_312 ?_
      refine J.iconst (v := 5) dX5_press_315 (by decide) ?_
      refine J.dup2 dX5_press_316 rfl rfl ?_
      replace hf := jbd hf
      obtain ⟨v142, h143, hf⟩ := hf
      refine J.lald h143 dX5_press_317 ?_
      refine J.aload_n (i := 0) dX5_press_318 rfl rfl ?_
      replace hf := jbd hf
      obtain ⟨v144, h145, hf⟩ := hf
      refine J.getI 9 30 in_X5 rfl (Nat.le_of_ble_eq_true rfl) (Or.inl q897) (Or.inl rfl) h145 dX5_press_319 ?_
      refine J.i2l dX5_press_322 ?_
      refine J.ladd dX5_press_323 ?_
      replace hf := jbd hf
      obtain ⟨hp146, h147, hf⟩ := hf
      refine J.last h147 dX5_press_324 ?_
      refine J.aload_n (i := 0) dX5_press_325 rfl rfl ?_
      replace hf := jbd hf
      obtain ⟨a148, h149, hf⟩ := hf
      refine J.getA 9 24 in_X5 rfl (Nat.le_of_ble_eq_true rfl) (Or.inl q891) (Or.inl rfl) h149 dX5_press_326 ?_
      refine J.bipush (v := 6) dX5_press_329 (by decide) ?_
      refine J.dup2 dX5_press_331 rfl rfl ?_
      replace hf := jbd hf
      obtain ⟨v150, h151, hf⟩ := hf
      refine J.lald h151 dX5_press_332 ?_
      refine J.iload_n (i := 2) dX5_press_333 rfl rfl ?_
      refine J.i2l dX5_press_334 ?_
      refine J.ladd dX5_press_335 ?_
      replace hf := jbd hf
      obtain ⟨hp152, h153, hf⟩ := hf
      refine J.last h153 dX5_press_336 ?_
      refine J.aload_n (i := 0) dX5_press_337 rfl rfl ?_
      replace hf := jbd hf
      obtain ⟨a154, h155, hf⟩ := hf
      refine J.getA 9 9 in_X5 rfl (Nat.le_of_ble_eq_true rfl) (Or.inl q876) (Or.inl rfl) h155 dX5_press_338 ?_
      refine J.iload_n (i := 1) dX5_press_341 rfl rfl ?_
      refine J.dup2 dX5_press_342 rfl rfl ?_
      replace hf := jbd hf
      obtain ⟨v156, h157, hf⟩ := hf
      refine J.iald h157 dX5_press_343 ?_
      refine J.iconst (v := 1) dX5_press_344 (by decide) ?_
      refine J.iadd dX5_press_345 ?_
      replace hf := jbd hf
      obtain ⟨hp158, h159, hf⟩ := hf
      refine J.iast h159 dX5_press_346 ?_
      refine J.aload_n (i := 0) dX5_press_347 rfl rfl ?_
      replace hf := jbd hf
      obtain ⟨a160, h161, hf⟩ := hf
      refine J.getA 9 10 in_X5 rfl (Nat.le_of_ble_eq_true rfl) (Or.inl q877) (Or.inl rfl) h161 dX5_press_348 ?_
      refine J.iload_n (i := 1) dX5_press_351 rfl rfl ?_
      refine J.dup2 dX5_press_352 rfl rfl ?_
      replace hf := jbd hf
      obtain ⟨v162, h163, hf⟩ := hf
      refine J.iald h163 dX5_press_353 ?_
      refine J.iconst (v := 1) dX5_press_354 (by decide) ?_
      refine J.iadd dX5_press_355 ?_
      replace hf := jbd hf
      obtain ⟨hp164, h165, hf⟩ := hf
      refine J.iast h165 dX5_press_356 ?_
      refine J.aload_n (i := 0) dX5_press_357 rfl rfl ?_
      refine J.iload_n (i := 1) dX5_press_358 rfl rfl ?_
      replace hf := jbd hf
      obtain ⟨hp166, h167, hf⟩ := hf
      refine J.put (ty := .int) 9 22 in_X5 ap9 rfl (Nat.le_of_ble_eq_true rfl) (Or.inl q889) (Or.inl rfl) rfl (by decide +kernel) (fun _ => ⟨rfl, rfl⟩) h167 dX5_press_359 ?_
      refine J.aload_n (i := 0) dX5_press_362 rfl rfl ?_
      refine J.aload_n (i := 0) dX5_press_363 rfl rfl ?_
      replace hf := jbd hf
      obtain ⟨v168, h169, hf⟩ := hf
      refine J.getI 9 12 in_X5 rfl (Nat.le_of_ble_eq_true rfl) (Or.inl q879) (Or.inl rfl) h169 dX5_press_364 ?_
      replace hf := jbd hf
      obtain ⟨hp170, h171, hf⟩ := hf
      refine J.put (ty := .int) 9 23 in_X5 ap9 rfl (Nat.le_of_ble_eq_true rfl) (Or.inl q890) (Or.inl rfl) rfl (by decide +kernel) (fun _ => ⟨rfl, rfl⟩) h171 dX5_press_367 ?_
      refine J.aload_n (i := 0) dX5_press_370 rfl rfl ?_
      refine J.dup dX5_press_371 rfl ?_
      replace hf := jbd hf
      obtain ⟨v172, h173, hf⟩ := hf
      refine J.getI 9 12 in_X5 rfl (Nat.le_of_ble_eq_true rfl) (Or.inl q879) (Or.inl rfl) h173 dX5_press_372 ?_
      refine J.iconst (v := 1) dX5_press_375 (by decide) ?_
      refine J.iadd dX5_press_376 ?_
      replace hf := jbd hf
      obtain ⟨hp174, h175, hf⟩ := hf
      refine J.put (ty := .int) 9 12 in_X5 ap9 rfl (Nat.le_of_ble_eq_true rfl) (Or.inl q879) (Or.inl rfl) rfl (by decide +kernel) (fun _ => ⟨rfl, rfl⟩) h175 dX5_press_377 ?_
      refine J.aload_n (i := 0) dX5_press_380 rfl rfl ?_
      replace hf := jbd hf
      obtain ⟨v176, h177, hf⟩ := hf
      refine J.getI 9 29 in_X5 rfl (Nat.le_of_ble_eq_true rfl) (Or.inl q896) (Or.inl rfl) h177 dX5_press_381 ?_
      obtain ⟨rfl, rfl⟩ := jso hf
      exact J.iret hE (Nat.le_of_ble_eq_true rfl) (Nat.le_of_ble_eq_true rfl) dX5_press_384
    · replace hf := (if_neg hc35).symm.trans hf
      refine J.aload_n (i := 0) dX5_press_102 rfl rfl ?_
      replace hf := jbd hf
      obtain ⟨a178, h179, hf⟩ := hf
      refine J.getA 9 27 in_X5 rfl (Nat.le_of_ble_eq_true rfl) (Or.inl q894) (Or.inl rfl) h179 dX5_press_103 ?_
      refine J.iconst (v := 3) dX5_press_106 (by decide) ?_
      refine J.iload_n (i := 3) dX5_press_107 rfl rfl ?_
      refine J.imul dX5_press_108 ?_
      refine J.iload dX5_press_109 rfl ?_
      refine J.iadd dX5_press_111 ?_
      refine J.dup2 dX5_press_112 rfl rfl ?_
      replace hf := jbd hf
      obtain ⟨v180, h181, hf⟩ := hf
      refine J.iald h181 dX5_press_113 ?_
      refine J.aload_n (i := 0) dX5_press_114 rfl rfl ?_
      replace hf := jbd hf
      obtain ⟨a182, h183, hf⟩ := hf
      refine J.getA 9 28 in_X5 rfl (Nat.le_of_ble_eq_true rfl) (Or.inl q895) (Or.inl rfl) h183 dX5_press_115 ?_
      refine J.iload dX5_press_118 rfl ?_
      replace hf := jbd hf
      obtain ⟨v184, h185, hf⟩ := hf
      refine J.iald h185 dX5_press_120 ?_
      refine J.isub dX5_press_121 ?_
      replace hf := jbd hf
      obtain ⟨hp186, h187, hf⟩ := hf
      refine J.iast h187 dX5_press_122 ?_
      refine J.iinc (i := 4) (v := (xi_4 + 1)) (lv' := [some (.ref xa_0), some (.int xi_1), some (.int xi_2), some (.int xi_3), some (.int (xi_4 + 1))]) dX5_press_123 rfl rfl (Nat.le_of_ble_eq_true rfl) rfl ?_
      refine J.goto (tgt := 91) dX5_press_126 (by decide) ?_
      exact ih91 _ _ _ _ _ _ hf
set_option maxHeartbeats 4000000 in
set_option maxRecDepth 100000 in
theorem w_X5_press_j85 {D : va_G} {l : Launch} {X : jX} {hp0 hpE : jH} {rE : Int32} (hDl : jDl X D l) (hRm : jRoom X rm_X5_press.frames rm_X5_press.locals rm_X5_press.cells rm_X5_press.slots) (hE : jEnds X (some .int) (some (.int rE)) hpE rm_X5_press.cells rm_X5_press.slots) (hX0 : jX0 X hp0) {xa_0 : Nat} {xi_1 : Int32} {xi_2 : Int32} {xi_3 : Int32} {xa_s0 : Nat} {xi_s1 : Int32} {xi_s2 : Int32} {xi_s3 : Int32} {hp : jH} (hf : f_X5_press_j85 xa_0 xi_1 xi_2 xi_3 xa_s0 xi_s1 xi_s2 xi_s3 hp = some (rE, hpE)) : J X cX5_press 5 yX5_press 0 0 85 [some (.ref xa_0), some (.int xi_1), some (.int xi_2), some (.int xi_3), none] [.int xi_s3, .int xi_s2, .int xi_s1, .ref xa_s0] hp := by
  rw [f_X5_press_j85] at hf
  replace hf := jbd hf
  obtain ⟨u27, h28, hf⟩ := hf
  replace hf := jbd hf
  obtain ⟨hp30, h29, hf⟩ := hf
  refine J.callV (As := [.int xi_s1, .int xi_s2, .int xi_s3]) (k2 := 0) (n2 := 0) 9 hDl hRm (w_X5_findBar h29) (lw_V q1093 q1095 qs24 q44 q1096) hd_X5_findBar rfl ⟨_, h28⟩ rfl (Nat.le_of_ble_eq_true rfl) (Nat.le_of_ble_eq_true rfl) (Nat.le_of_ble_eq_true rfl) (Nat.le_of_ble_eq_true rfl) (Nat.le_of_ble_eq_true rfl) (Nat.le_of_ble_eq_true rfl) (Nat.le_of_ble_eq_true rfl) rfl dX5_press_85 ?_
  refine J.iconst (v := 0) dX5_press_88 (by decide) ?_
  refine J.istore (i := 4) (lv' := [some (.ref xa_0), some (.int xi_1), some (.int xi_2), some (.int xi_3), some (.int 0)]) dX5_press_89 (Nat.le_of_ble_eq_true rfl) rfl ?_
  exact w_X5_press_L91 hDl hRm hE hX0 _ _ _ _ _ _ _ hf
set_option maxHeartbeats 4000000 in
set_option maxRecDepth 100000 in
theorem w_X5_press_j84 {D : va_G} {l : Launch} {X : jX} {hp0 hpE : jH} {rE : Int32} (hDl : jDl X D l) (hRm : jRoom X rm_X5_press.frames rm_X5_press.locals rm_X5_press.cells rm_X5_press.slots) (hE : jEnds X (some .int) (some (.int rE)) hpE rm_X5_press.cells rm_X5_press.slots) (hX0 : jX0 X hp0) {xa_0 : Nat} {xi_1 : Int32} {xi_2 : Int32} {xi_3 : Int32} {xa_s0 : Nat} {xi_s1 : Int32} {xi_s2 : Int32} {hp : jH} (hf : f_X5_press_j84 xa_0 xi_1 xi_2 xi_3 xa_s0 xi_s1 xi_s2 hp = some (rE, hpE)) : J X cX5_press 5 yX5_press 0 0 84 [some (.ref xa_0), some (.int xi_1), some (.int xi_2), some (.int xi_3), none] [.int xi_s2, .int xi_s1, .ref xa_s0] hp := by
  rw [f_X5_press_j84] at hf
  refine J.iconst (v := 0) dX5_press_84 (by decide) ?_
  exact w_X5_press_j85 hDl hRm hE hX0 hf
set_option maxHeartbeats 4000000 in
set_option maxRecDepth 100000 in
theorem w_X5_press {D : va_G} {l : Launch} {hp hpE : jH} {rE : Int32} {this : Nat} {p1 : Int32} {p2 : Int32} (hf : f_X5_press this p1 p2 hp = some (rE, hpE)) : jM D l yX5_press (ws_ yX5_press cX5_press 5 (some .int)) rm_X5_press hp [.ref this, .int p1, .int p2] (some (.int rE)) hpE := by
  refine jM.of (lv0 := [some (.ref this), some (.int p1), some (.int p2), none, none]) (by decide) (Nat.le_of_ble_eq_true rfl) rfl (fun X hDl hRm hE hX0 => ?_)
  rw [f_X5_press] at hf
  refine J.aload_n (i := 0) dX5_press_0 rfl rfl ?_
  refine J.iload_n (i := 1) dX5_press_1 rfl rfl ?_
  replace hf := jbd hf
  obtain ⟨u1, h2, hf⟩ := hf
  replace hf := jbs hf
  obtain ⟨v5, hp4, h3, hf⟩ := hf
  refine J.callV (As := [.int p1]) (k2 := 0) (n2 := 0) 9 hDl hRm (w_X5_isDie h3) (lw_V q1052 q1054 qs22 q44 q1055) hd_X5_isDie rfl ⟨_, h2⟩ rfl (Nat.le_of_ble_eq_true rfl) (Nat.le_of_ble_eq_true rfl) (Nat.le_of_ble_eq_true rfl) (Nat.le_of_ble_eq_true rfl) (Nat.le_of_ble_eq_true rfl) (Nat.le_of_ble_eq_true rfl) (Nat.le_of_ble_eq_true rfl) rfl dX5_press_2 ?_
  refine J.if_eq (tgt := 22) dX5_press_5 (by decide) (fun hc6 => ?_) (fun hc6 => ?_)
  · replace hf := (if_pos hc6).symm.trans hf
    refine J.bipush (v := (-2)) dX5_press_22 (by decide) ?_
    obtain ⟨rfl, rfl⟩ := jso hf
    exact J.iret hE (Nat.le_of_ble_eq_true rfl) (Nat.le_of_ble_eq_true rfl) dX5_press_24
  · replace hf := (if_neg hc6).symm.trans hf
    refine J.iload_n (i := 2) dX5_press_8 rfl rfl ?_
    refine J.i2l dX5_press_9 ?_
    refine J.ldc2 q1091 dX5_press_10 ?_
    refine J.ldc2 q1092 dX5_press_13 ?_
    replace hf := jbs hf
    obtain ⟨v9, hp8, h7, hf⟩ := hf
    refine J.callS (As := [.long p2.toInt64, .long (200 : Int64), .long (1200 : Int64)]) (k2 := 0) (n2 := 0) hDl hRm (w_X5_in h7) (lw_S q1031 q1032 q44 q1033) hs_X5_in rfl (Nat.le_of_ble_eq_true rfl) (Nat.le_of_ble_eq_true rfl) (Nat.le_of_ble_eq_true rfl) (Nat.le_of_ble_eq_true rfl) (Nat.le_of_ble_eq_true rfl) (Nat.le_of_ble_eq_true rfl) (Nat.le_of_ble_eq_true rfl) rfl dX5_press_16 ?_
    refine J.if_ne (tgt := 25) dX5_press_19 (by decide) (fun hc10 => ?_) (fun hc10 => ?_)
    · replace hf := (if_neg hc10).symm.trans hf
      refine J.aload_n (i := 0) dX5_press_25 rfl rfl ?_
      refine J.iload_n (i := 1) dX5_press_26 rfl rfl ?_
      replace hf := jbd hf
      obtain ⟨u11, h12, hf⟩ := hf
      replace hf := jbs hf
      obtain ⟨v15, hp14, h13, hf⟩ := hf
      refine J.callV (As := [.int p1]) (k2 := 0) (n2 := 0) 9 hDl hRm (w_X5_mayPress h13) (lw_V q1068 q1070 qs23 q44 q1071) hd_X5_mayPress rfl ⟨_, h12⟩ rfl (Nat.le_of_ble_eq_true rfl) (Nat.le_of_ble_eq_true rfl) (Nat.le_of_ble_eq_true rfl) (Nat.le_of_ble_eq_true rfl) (Nat.le_of_ble_eq_true rfl) (Nat.le_of_ble_eq_true rfl) (Nat.le_of_ble_eq_true rfl) rfl dX5_press_27 ?_
      refine J.if_ne (tgt := 36) dX5_press_30 (by decide) (fun hc16 => ?_) (fun hc16 => ?_)
      · replace hf := (if_neg hc16).symm.trans hf
        refine J.aload_n (i := 0) dX5_press_36 rfl rfl ?_
        replace hf := jbd hf
        obtain ⟨v17, h18, hf⟩ := hf
        refine J.getI 9 13 in_X5 rfl (Nat.le_of_ble_eq_true rfl) (Or.inl q880) (Or.inl rfl) h18 dX5_press_37 ?_
        refine J.sipush (v := 200) dX5_press_40 (by decide) ?_
        refine J.icmp_ne (tgt := 49) dX5_press_43 (by decide) (fun hc19 => ?_) (fun hc19 => ?_)
        · replace hf := (if_neg hc19).symm.trans hf
          refine J.aload_n (i := 0) dX5_press_49 rfl rfl ?_
          replace hf := jbd hf
          obtain ⟨a20, h21, hf⟩ := hf
          refine J.getA 9 7 in_X5 rfl (Nat.le_of_ble_eq_true rfl) (Or.inl q874) (Or.inl rfl) h21 dX5_press_50 ?_
          refine J.iload_n (i := 1) dX5_press_53 rfl rfl ?_
          replace hf := jbd hf
          obtain ⟨v22, h23, hf⟩ := hf
          refine J.iald h23 dX5_press_54 ?_
          refine J.istore_n (i := 3) (lv' := [some (.ref this), some (.int p1), some (.int p2), some (.int v22), none]) dX5_press_55 rfl (Nat.le_of_ble_eq_true rfl) rfl ?_
          refine J.aload_n (i := 0) dX5_press_56 rfl rfl ?_
          refine J.iload_n (i := 3) dX5_press_57 rfl rfl ?_
          refine J.iload_n (i := 2) dX5_press_58 rfl rfl ?_
          refine J.aload_n (i := 0) dX5_press_59 rfl rfl ?_
          replace hf := jbd hf
          obtain ⟨v24, h25, hf⟩ := hf
          refine J.getI 9 22 in_X5 rfl (Nat.le_of_ble_eq_true rfl) (Or.inl q889) (Or.inl rfl) h25 dX5_press_60 ?_
          refine J.iload_n (i := 1) dX5_press_63 rfl rfl ?_
          refine J.icmp_ne (tgt := 84) dX5_press_64 (by decide) (fun hc26 => ?_) (fun hc26 => ?_)
          · replace hf := (if_neg hc26).symm.trans hf
            exact w_X5_press_j84 hDl hRm hE hX0 hf
          · replace hf := (if_pos hc26).symm.trans hf
            refine J.aload_n (i := 0) dX5_press_67 rfl rfl ?_
            replace hf := jbd hf
            obtain ⟨v188, h189, hf⟩ := hf
            refine J.getI 9 23 in_X5 rfl (Nat.le_of_ble_eq_true rfl) (Or.inl q890) (Or.inl rfl) h189 dX5_press_68 ?_
            refine J.aload_n (i := 0) dX5_press_71 rfl rfl ?_
            replace hf := jbd hf
            obtain ⟨v190, h191, hf⟩ := hf
            refine J.getI 9 12 in_X5 rfl (Nat.le_of_ble_eq_true rfl) (Or.inl q879) (Or.inl rfl) h191 dX5_press_72 ?_
            refine J.iconst (v := 1) dX5_press_75 (by decide) ?_
            refine J.isub dX5_press_76 ?_
            refine J.icmp_ne (tgt := 84) dX5_press_77 (by decide) (fun hc192 => ?_) (fun hc192 => ?_)
            · replace hf := (if_neg hc192).symm.trans hf
              exact w_X5_press_j84 hDl hRm hE hX0 hf
            · replace hf := (if_pos hc192).symm.trans hf
              refine J.iconst (v := 1) dX5_press_80 (by decide) ?_
              refine J.goto (tgt := 85) dX5_press_81 (by decide) ?_
              exact w_X5_press_j85 hDl hRm hE hX0 hf
        · replace hf := (if_pos hc19).symm.trans hf
          refine J.bipush (v := (-4)) dX5_press_46 (by decide) ?_
          obtain ⟨rfl, rfl⟩ := jso hf
          exact J.iret hE (Nat.le_of_ble_eq_true rfl) (Nat.le_of_ble_eq_true rfl) dX5_press_48
      · replace hf := (if_pos hc16).symm.trans hf
        refine J.bipush (v := (-3)) dX5_press_33 (by decide) ?_
        obtain ⟨rfl, rfl⟩ := jso hf
        exact J.iret hE (Nat.le_of_ble_eq_true rfl) (Nat.le_of_ble_eq_true rfl) dX5_press_35
    · replace hf := (if_pos hc10).symm.trans hf
      refine J.bipush (v := (-2)) dX5_press_22 (by decide) ?_
      obtain ⟨rfl, rfl⟩ := jso hf
      exact J.iret hE (Nat.le_of_ble_eq_true rfl) (Nat.le_of_ble_eq_true rfl) dX5_press_24
def rm_X5_isBar : Room := { frames := 1, cells := 0, slots := 0, locals := 25 }
theorem hd_X5_isBar : yX5_isBar.cls = RX5 ∧ yX5_isBar.cls ≠ "java/lang/invoke/MethodHandle" ∧ yX5_isBar.cls ≠ "java/lang/invoke/VarHandle" ∧ (parseMethodDescriptor yX5_isBar.desc).map (fun d => d.parameters.length) = some 1 := by decide +kernel
set_option maxHeartbeats 4000000 in
set_option maxRecDepth 100000 in
theorem w_X5_isBar {D : va_G} {l : Launch} {hp hpE : jH} {rE : Int32} {this : Nat} {p1 : Int32} (hf : f_X5_isBar this p1 hp = some (rE, hpE)) : jM D l yX5_isBar (ws_ yX5_isBar cX5_isBar 2 (some .boolean)) rm_X5_isBar hp [.ref this, .int p1] (some (.int rE)) hpE := by
  refine jM.of (lv0 := [some (.ref this), some (.int p1)]) (by decide) (Nat.le_of_ble_eq_true rfl) rfl (fun X hDl hRm hE hX0 => ?_)
  rw [f_X5_isBar] at hf
  refine J.iload_n (i := 1) dX5_isBar_0 rfl rfl ?_
  refine J.i2l dX5_isBar_1 ?_
  refine J.lconst (v := 0) dX5_isBar_2 (by decide) ?_
  refine J.aload_n (i := 0) dX5_isBar_3 rfl rfl ?_
  replace hf := jbd hf
  obtain ⟨v1, h2, hf⟩ := hf
  refine J.getI 9 13 in_X5 rfl (Nat.le_of_ble_eq_true rfl) (Or.inl q880) (Or.inl rfl) h2 dX5_isBar_4 ?_
  refine J.iconst (v := 1) dX5_isBar_7 (by decide) ?_
  refine J.isub dX5_isBar_8 ?_
  refine J.i2l dX5_isBar_9 ?_
  replace hf := jbs hf
  obtain ⟨v5, hp4, h3, hf⟩ := hf
  refine J.callS (As := [.long p1.toInt64, .long (0 : Int64), .long ((v1 - 1).toInt64)]) (k2 := 0) (n2 := 0) hDl hRm (w_X5_in h3) (lw_S q1031 q1032 q44 q1033) hs_X5_in rfl (Nat.le_of_ble_eq_true rfl) (Nat.le_of_ble_eq_true rfl) (Nat.le_of_ble_eq_true rfl) (Nat.le_of_ble_eq_true rfl) (Nat.le_of_ble_eq_true rfl) (Nat.le_of_ble_eq_true rfl) (Nat.le_of_ble_eq_true rfl) rfl dX5_isBar_10 ?_
  by_cases hz6 : ¬ (v5 = (0 : Int32) ∨ v5 = (1 : Int32))
  · replace hf := (if_pos hz6).symm.trans hf
    cases hf
  replace hf := (if_neg hz6).symm.trans hf
  obtain ⟨rfl, rfl⟩ := jso hf
  exact J.zret hE (jz01n (Decidable.not_not.mp hz6)) (Nat.le_of_ble_eq_true rfl) (Nat.le_of_ble_eq_true rfl) dX5_isBar_13
def rm_X5_bar : Room := { frames := 2, cells := 0, slots := 0, locals := 46 }
theorem hd_X5_bar : yX5_bar.cls = RX5 ∧ yX5_bar.cls ≠ "java/lang/invoke/MethodHandle" ∧ yX5_bar.cls ≠ "java/lang/invoke/VarHandle" ∧ (parseMethodDescriptor yX5_bar.desc).map (fun d => d.parameters.length) = some 2 := by decide +kernel
set_option maxHeartbeats 4000000 in
set_option maxRecDepth 100000 in
theorem w_X5_bar {D : va_G} {l : Launch} {hp hpE : jH} {rE : Int32} {this : Nat} {p1 : Int32} {p2 : Int32} (hf : f_X5_bar this p1 p2 hp = some (rE, hpE)) : jM D l yX5_bar (ws_ yX5_bar cX5_bar 3 (some .int)) rm_X5_bar hp [.ref this, .int p1, .int p2] (some (.int rE)) hpE := by
  refine jM.of (lv0 := [some (.ref this), some (.int p1), some (.int p2)]) (by decide) (Nat.le_of_ble_eq_true rfl) rfl (fun X hDl hRm hE hX0 => ?_)
  rw [f_X5_bar] at hf
  refine J.aload_n (i := 0) dX5_bar_0 rfl rfl ?_
  refine J.iload_n (i := 1) dX5_bar_1 rfl rfl ?_
  replace hf := jbd hf
  obtain ⟨u1, h2, hf⟩ := hf
  replace hf := jbs hf
  obtain ⟨v5, hp4, h3, hf⟩ := hf
  refine J.callV (As := [.int p1]) (k2 := 0) (n2 := 0) 9 hDl hRm (w_X5_isBar h3) (lw_V q1114 q1116 qs28 q44 q1117) hd_X5_isBar rfl ⟨_, h2⟩ rfl (Nat.le_of_ble_eq_true rfl) (Nat.le_of_ble_eq_true rfl) (Nat.le_of_ble_eq_true rfl) (Nat.le_of_ble_eq_true rfl) (Nat.le_of_ble_eq_true rfl) (Nat.le_of_ble_eq_true rfl) (Nat.le_of_ble_eq_true rfl) rfl dX5_bar_2 ?_
  refine J.if_ne (tgt := 11) dX5_bar_5 (by decide) (fun hc6 => ?_) (fun hc6 => ?_)
  · replace hf := (if_neg hc6).symm.trans hf
    refine J.iload_n (i := 2) dX5_bar_11 rfl rfl ?_
    by_cases hc7 : p2 = (0 : Int32)
    · replace hf := (if_pos hc7).symm.trans hf
      refine J.tableIn (tgt := 56) dX5_bar_12 (by rw [hc7]; decide) (by rw [hc7]; decide) (by rw [hc7]; rfl) (by decide) ?_
      refine J.aload_n (i := 0) dX5_bar_56 rfl rfl ?_
      replace hf := jbd hf
      obtain ⟨a8, h9, hf⟩ := hf
      refine J.getA 9 14 in_X5 rfl (Nat.le_of_ble_eq_true rfl) (Or.inl q881) (Or.inl rfl) h9 dX5_bar_57 ?_
      refine J.iload_n (i := 1) dX5_bar_60 rfl rfl ?_
      replace hf := jbd hf
      obtain ⟨v10, h11, hf⟩ := hf
      refine J.iald h11 dX5_bar_61 ?_
      obtain ⟨rfl, rfl⟩ := jso hf
      exact J.iret hE (Nat.le_of_ble_eq_true rfl) (Nat.le_of_ble_eq_true rfl) dX5_bar_62
    replace hf := (if_neg hc7).symm.trans hf
    by_cases hc12 : p2 = (1 : Int32)
    · replace hf := (if_pos hc12).symm.trans hf
      refine J.tableIn (tgt := 63) dX5_bar_12 (by rw [hc12]; decide) (by rw [hc12]; decide) (by rw [hc12]; rfl) (by decide) ?_
      refine J.aload_n (i := 0) dX5_bar_63 rfl rfl ?_
      replace hf := jbd hf
      obtain ⟨a13, h14, hf⟩ := hf
      refine J.getA 9 15 in_X5 rfl (Nat.le_of_ble_eq_true rfl) (Or.inl q882) (Or.inl rfl) h14 dX5_bar_64 ?_
      refine J.iload_n (i := 1) dX5_bar_67 rfl rfl ?_
      replace hf := jbd hf
      obtain ⟨v15, h16, hf⟩ := hf
      refine J.iald h16 dX5_bar_68 ?_
      obtain ⟨rfl, rfl⟩ := jso hf
      exact J.iret hE (Nat.le_of_ble_eq_true rfl) (Nat.le_of_ble_eq_true rfl) dX5_bar_69
    replace hf := (if_neg hc12).symm.trans hf
    by_cases hc17 : p2 = (2 : Int32)
    · replace hf := (if_pos hc17).symm.trans hf
      refine J.tableIn (tgt := 70) dX5_bar_12 (by rw [hc17]; decide) (by rw [hc17]; decide) (by rw [hc17]; rfl) (by decide) ?_
      refine J.aload_n (i := 0) dX5_bar_70 rfl rfl ?_
      replace hf := jbd hf
      obtain ⟨a18, h19, hf⟩ := hf
      refine J.getA 9 16 in_X5 rfl (Nat.le_of_ble_eq_true rfl) (Or.inl q883) (Or.inl rfl) h19 dX5_bar_71 ?_
      refine J.iload_n (i := 1) dX5_bar_74 rfl rfl ?_
      replace hf := jbd hf
      obtain ⟨v20, h21, hf⟩ := hf
      refine J.iald h21 dX5_bar_75 ?_
      obtain ⟨rfl, rfl⟩ := jso hf
      exact J.iret hE (Nat.le_of_ble_eq_true rfl) (Nat.le_of_ble_eq_true rfl) dX5_bar_76
    replace hf := (if_neg hc17).symm.trans hf
    by_cases hc22 : p2 = (3 : Int32)
    · replace hf := (if_pos hc22).symm.trans hf
      refine J.tableIn (tgt := 77) dX5_bar_12 (by rw [hc22]; decide) (by rw [hc22]; decide) (by rw [hc22]; rfl) (by decide) ?_
      refine J.aload_n (i := 0) dX5_bar_77 rfl rfl ?_
      replace hf := jbd hf
      obtain ⟨a23, h24, hf⟩ := hf
      refine J.getA 9 17 in_X5 rfl (Nat.le_of_ble_eq_true rfl) (Or.inl q884) (Or.inl rfl) h24 dX5_bar_78 ?_
      refine J.iload_n (i := 1) dX5_bar_81 rfl rfl ?_
      replace hf := jbd hf
      obtain ⟨v25, h26, hf⟩ := hf
      refine J.iald h26 dX5_bar_82 ?_
      obtain ⟨rfl, rfl⟩ := jso hf
      exact J.iret hE (Nat.le_of_ble_eq_true rfl) (Nat.le_of_ble_eq_true rfl) dX5_bar_83
    replace hf := (if_neg hc22).symm.trans hf
    by_cases hc27 : p2 = (4 : Int32)
    · replace hf := (if_pos hc27).symm.trans hf
      refine J.tableIn (tgt := 84) dX5_bar_12 (by rw [hc27]; decide) (by rw [hc27]; decide) (by rw [hc27]; rfl) (by decide) ?_
      refine J.aload_n (i := 0) dX5_bar_84 rfl rfl ?_
      replace hf := jbd hf
      obtain ⟨a28, h29, hf⟩ := hf
      refine J.getA 9 18 in_X5 rfl (Nat.le_of_ble_eq_true rfl) (Or.inl q885) (Or.inl rfl) h29 dX5_bar_85 ?_
      refine J.iload_n (i := 1) dX5_bar_88 rfl rfl ?_
      replace hf := jbd hf
      obtain ⟨v30, h31, hf⟩ := hf
      refine J.iald h31 dX5_bar_89 ?_
      obtain ⟨rfl, rfl⟩ := jso hf
      exact J.iret hE (Nat.le_of_ble_eq_true rfl) (Nat.le_of_ble_eq_true rfl) dX5_bar_90
    replace hf := (if_neg hc27).symm.trans hf
    by_cases hc32 : p2 = (5 : Int32)
    · replace hf := (if_pos hc32).symm.trans hf
      refine J.tableIn (tgt := 91) dX5_bar_12 (by rw [hc32]; decide) (by rw [hc32]; decide) (by rw [hc32]; rfl) (by decide) ?_
      refine J.aload_n (i := 0) dX5_bar_91 rfl rfl ?_
      replace hf := jbd hf
      obtain ⟨a33, h34, hf⟩ := hf
      refine J.getA 9 19 in_X5 rfl (Nat.le_of_ble_eq_true rfl) (Or.inl q886) (Or.inl rfl) h34 dX5_bar_92 ?_
      refine J.iload_n (i := 1) dX5_bar_95 rfl rfl ?_
      replace hf := jbd hf
      obtain ⟨v35, h36, hf⟩ := hf
      refine J.iald h36 dX5_bar_96 ?_
      obtain ⟨rfl, rfl⟩ := jso hf
      exact J.iret hE (Nat.le_of_ble_eq_true rfl) (Nat.le_of_ble_eq_true rfl) dX5_bar_97
    replace hf := (if_neg hc32).symm.trans hf
    by_cases hc37 : p2 = (6 : Int32)
    · replace hf := (if_pos hc37).symm.trans hf
      refine J.tableIn (tgt := 98) dX5_bar_12 (by rw [hc37]; decide) (by rw [hc37]; decide) (by rw [hc37]; rfl) (by decide) ?_
      refine J.aload_n (i := 0) dX5_bar_98 rfl rfl ?_
      replace hf := jbd hf
      obtain ⟨a38, h39, hf⟩ := hf
      refine J.getA 9 20 in_X5 rfl (Nat.le_of_ble_eq_true rfl) (Or.inl q887) (Or.inl rfl) h39 dX5_bar_99 ?_
      refine J.iload_n (i := 1) dX5_bar_102 rfl rfl ?_
      replace hf := jbd hf
      obtain ⟨v40, h41, hf⟩ := hf
      refine J.iald h41 dX5_bar_103 ?_
      obtain ⟨rfl, rfl⟩ := jso hf
      exact J.iret hE (Nat.le_of_ble_eq_true rfl) (Nat.le_of_ble_eq_true rfl) dX5_bar_104
    replace hf := (if_neg hc37).symm.trans hf
    refine J.tableOut (tgt := 105) dX5_bar_12 (by have ehc7 := lv_neT hc7 (show (0 : Int32).toInt = 0 from rfl); have ehc12 := lv_neT hc12 (show (1 : Int32).toInt = 1 from rfl); have ehc17 := lv_neT hc17 (show (2 : Int32).toInt = 2 from rfl); have ehc22 := lv_neT hc22 (show (3 : Int32).toInt = 3 from rfl); have ehc27 := lv_neT hc27 (show (4 : Int32).toInt = 4 from rfl); have ehc32 := lv_neT hc32 (show (5 : Int32).toInt = 5 from rfl); have ehc37 := lv_neT hc37 (show (6 : Int32).toInt = 6 from rfl); omega) (by decide) ?_
    refine J.bipush (v := (-2)) dX5_bar_105 (by decide) ?_
    obtain ⟨rfl, rfl⟩ := jso hf
    exact J.iret hE (Nat.le_of_ble_eq_true rfl) (Nat.le_of_ble_eq_true rfl) dX5_bar_107
  · replace hf := (if_pos hc6).symm.trans hf
    refine J.bipush (v := (-2)) dX5_bar_8 (by decide) ?_
    obtain ⟨rfl, rfl⟩ := jso hf
    exact J.iret hE (Nat.le_of_ble_eq_true rfl) (Nat.le_of_ble_eq_true rfl) dX5_bar_10
def rm_X5_order : Room := { frames := 2, cells := 0, slots := 0, locals := 46 }
theorem hd_X5_order : yX5_order.cls = RX5 ∧ yX5_order.cls ≠ "java/lang/invoke/MethodHandle" ∧ yX5_order.cls ≠ "java/lang/invoke/VarHandle" ∧ (parseMethodDescriptor yX5_order.desc).map (fun d => d.parameters.length) = some 3 := by decide +kernel
set_option maxHeartbeats 4000000 in
set_option maxRecDepth 100000 in
theorem w_X5_order {D : va_G} {l : Launch} {hp hpE : jH} {rE : Int32} {this : Nat} {p1 : Int32} {p2 : Int32} {p3 : Int32} (hf : f_X5_order this p1 p2 p3 hp = some (rE, hpE)) : jM D l yX5_order (ws_ yX5_order cX5_order 4 (some .int)) rm_X5_order hp [.ref this, .int p1, .int p2, .int p3] (some (.int rE)) hpE := by
  refine jM.of (lv0 := [some (.ref this), some (.int p1), some (.int p2), some (.int p3)]) (by decide) (Nat.le_of_ble_eq_true rfl) rfl (fun X hDl hRm hE hX0 => ?_)
  rw [f_X5_order] at hf
  refine J.aload_n (i := 0) dX5_order_0 rfl rfl ?_
  refine J.iload_n (i := 1) dX5_order_1 rfl rfl ?_
  replace hf := jbd hf
  obtain ⟨u1, h2, hf⟩ := hf
  replace hf := jbs hf
  obtain ⟨v5, hp4, h3, hf⟩ := hf
  refine J.callV (As := [.int p1]) (k2 := 0) (n2 := 0) 9 hDl hRm (w_X5_isProfile h3) (lw_V q1043 q1045 qs21 q44 q1046) hd_X5_isProfile rfl ⟨_, h2⟩ rfl (Nat.le_of_ble_eq_true rfl) (Nat.le_of_ble_eq_true rfl) (Nat.le_of_ble_eq_true rfl) (Nat.le_of_ble_eq_true rfl) (Nat.le_of_ble_eq_true rfl) (Nat.le_of_ble_eq_true rfl) (Nat.le_of_ble_eq_true rfl) rfl dX5_order_2 ?_
  refine J.if_eq (tgt := 34) dX5_order_5 (by decide) (fun hc6 => ?_) (fun hc6 => ?_)
  · replace hf := (if_pos hc6).symm.trans hf
    refine J.bipush (v := (-2)) dX5_order_34 (by decide) ?_
    obtain ⟨rfl, rfl⟩ := jso hf
    exact J.iret hE (Nat.le_of_ble_eq_true rfl) (Nat.le_of_ble_eq_true rfl) dX5_order_36
  · replace hf := (if_neg hc6).symm.trans hf
    refine J.iload_n (i := 2) dX5_order_8 rfl rfl ?_
    refine J.i2l dX5_order_9 ?_
    refine J.ldc2 q1037 dX5_order_10 ?_
    refine J.ldc2 q1122 dX5_order_13 ?_
    replace hf := jbs hf
    obtain ⟨v9, hp8, h7, hf⟩ := hf
    refine J.callS (As := [.long p2.toInt64, .long (100 : Int64), .long (9000 : Int64)]) (k2 := 0) (n2 := 0) hDl hRm (w_X5_in h7) (lw_S q1031 q1032 q44 q1033) hs_X5_in rfl (Nat.le_of_ble_eq_true rfl) (Nat.le_of_ble_eq_true rfl) (Nat.le_of_ble_eq_true rfl) (Nat.le_of_ble_eq_true rfl) (Nat.le_of_ble_eq_true rfl) (Nat.le_of_ble_eq_true rfl) (Nat.le_of_ble_eq_true rfl) rfl dX5_order_16 ?_
    refine J.if_eq (tgt := 34) dX5_order_19 (by decide) (fun hc10 => ?_) (fun hc10 => ?_)
    · replace hf := (if_pos hc10).symm.trans hf
      refine J.bipush (v := (-2)) dX5_order_34 (by decide) ?_
      obtain ⟨rfl, rfl⟩ := jso hf
      exact J.iret hE (Nat.le_of_ble_eq_true rfl) (Nat.le_of_ble_eq_true rfl) dX5_order_36
    · replace hf := (if_neg hc10).symm.trans hf
      refine J.iload_n (i := 3) dX5_order_22 rfl rfl ?_
      refine J.i2l dX5_order_23 ?_
      refine J.lconst (v := 0) dX5_order_24 (by decide) ?_
      refine J.ldc2 q1123 dX5_order_25 ?_
      replace hf := jbs hf
      obtain ⟨v13, hp12, h11, hf⟩ := hf
      refine J.callS (As := [.long p3.toInt64, .long (0 : Int64), .long (500 : Int64)]) (k2 := 0) (n2 := 0) hDl hRm (w_X5_in h11) (lw_S q1031 q1032 q44 q1033) hs_X5_in rfl (Nat.le_of_ble_eq_true rfl) (Nat.le_of_ble_eq_true rfl) (Nat.le_of_ble_eq_true rfl) (Nat.le_of_ble_eq_true rfl) (Nat.le_of_ble_eq_true rfl) (Nat.le_of_ble_eq_true rfl) (Nat.le_of_ble_eq_true rfl) rfl dX5_order_28 ?_
      refine J.if_ne (tgt := 37) dX5_order_31 (by decide) (fun hc14 => ?_) (fun hc14 => ?_)
      · replace hf := (if_neg hc14).symm.trans hf
        refine J.aload_n (i := 0) dX5_order_37 rfl rfl ?_
        replace hf := jbd hf
        obtain ⟨a15, h16, hf⟩ := hf
        refine J.getA 9 25 in_X5 rfl (Nat.le_of_ble_eq_true rfl) (Or.inl q892) (Or.inl rfl) h16 dX5_order_38 ?_
        refine J.iload_n (i := 1) dX5_order_41 rfl rfl ?_
        replace hf := jbd hf
        obtain ⟨v17, h18, hf⟩ := hf
        refine J.iald h18 dX5_order_42 ?_
        refine J.iconst (v := 3) dX5_order_43 (by decide) ?_
        refine J.icmp_ne (tgt := 50) dX5_order_44 (by decide) (fun hc19 => ?_) (fun hc19 => ?_)
        · replace hf := (if_neg hc19).symm.trans hf
          refine J.aload_n (i := 0) dX5_order_50 rfl rfl ?_
          replace hf := jbd hf
          obtain ⟨a20, h21, hf⟩ := hf
          refine J.getA 9 26 in_X5 rfl (Nat.le_of_ble_eq_true rfl) (Or.inl q893) (Or.inl rfl) h21 dX5_order_51 ?_
          refine J.iconst (v := 3) dX5_order_54 (by decide) ?_
          refine J.iload_n (i := 1) dX5_order_55 rfl rfl ?_
          refine J.imul dX5_order_56 ?_
          refine J.aload_n (i := 0) dX5_order_57 rfl rfl ?_
          replace hf := jbd hf
          obtain ⟨a22, h23, hf⟩ := hf
          refine J.getA 9 25 in_X5 rfl (Nat.le_of_ble_eq_true rfl) (Or.inl q892) (Or.inl rfl) h23 dX5_order_58 ?_
          refine J.iload_n (i := 1) dX5_order_61 rfl rfl ?_
          replace hf := jbd hf
          obtain ⟨v24, h25, hf⟩ := hf
          refine J.iald h25 dX5_order_62 ?_
          refine J.iadd dX5_order_63 ?_
          refine J.iload_n (i := 2) dX5_order_64 rfl rfl ?_
          replace hf := jbd hf
          obtain ⟨hp26, h27, hf⟩ := hf
          refine J.iast h27 dX5_order_65 ?_
          refine J.aload_n (i := 0) dX5_order_66 rfl rfl ?_
          replace hf := jbd hf
          obtain ⟨a28, h29, hf⟩ := hf
          refine J.getA 9 27 in_X5 rfl (Nat.le_of_ble_eq_true rfl) (Or.inl q894) (Or.inl rfl) h29 dX5_order_67 ?_
          refine J.iconst (v := 3) dX5_order_70 (by decide) ?_
          refine J.iload_n (i := 1) dX5_order_71 rfl rfl ?_
          refine J.imul dX5_order_72 ?_
          refine J.aload_n (i := 0) dX5_order_73 rfl rfl ?_
          replace hf := jbd hf
          obtain ⟨a30, h31, hf⟩ := hf
          refine J.getA 9 25 in_X5 rfl (Nat.le_of_ble_eq_true rfl) (Or.inl q892) (Or.inl rfl) h31 dX5_order_74 ?_
          refine J.iload_n (i := 1) dX5_order_77 rfl rfl ?_
          replace hf := jbd hf
          obtain ⟨v32, h33, hf⟩ := hf
          refine J.iald h33 dX5_order_78 ?_
          refine J.iadd dX5_order_79 ?_
          refine J.iload_n (i := 3) dX5_order_80 rfl rfl ?_
          replace hf := jbd hf
          obtain ⟨hp34, h35, hf⟩ := hf
          refine J.iast h35 dX5_order_81 ?_
          refine J.aload_n (i := 0) dX5_order_82 rfl rfl ?_
          replace hf := jbd hf
          obtain ⟨a36, h37, hf⟩ := hf
          refine J.getA 9 25 in_X5 rfl (Nat.le_of_ble_eq_true rfl) (Or.inl q892) (Or.inl rfl) h37 dX5_order_83 ?_
          refine J.iload_n (i := 1) dX5_order_86 rfl rfl ?_
          refine J.dup2 dX5_order_87 rfl rfl ?_
          replace hf := jbd hf
          obtain ⟨v38, h39, hf⟩ := hf
          refine J.iald h39 dX5_order_88 ?_
          refine J.iconst (v := 1) dX5_order_89 (by decide) ?_
          refine J.iadd dX5_order_90 ?_
          replace hf := jbd hf
          obtain ⟨hp40, h41, hf⟩ := hf
          refine J.iast h41 dX5_order_91 ?_
          refine J.aload_n (i := 0) dX5_order_92 rfl rfl ?_
          replace hf := jbd hf
          obtain ⟨a42, h43, hf⟩ := hf
          refine J.getA 9 25 in_X5 rfl (Nat.le_of_ble_eq_true rfl) (Or.inl q892) (Or.inl rfl) h43 dX5_order_93 ?_
          refine J.iload_n (i := 1) dX5_order_96 rfl rfl ?_
          replace hf := jbd hf
          obtain ⟨v44, h45, hf⟩ := hf
          refine J.iald h45 dX5_order_97 ?_
          refine J.iconst (v := 1) dX5_order_98 (by decide) ?_
          refine J.isub dX5_order_99 ?_
          obtain ⟨rfl, rfl⟩ := jso hf
          exact J.iret hE (Nat.le_of_ble_eq_true rfl) (Nat.le_of_ble_eq_true rfl) dX5_order_100
        · replace hf := (if_pos hc19).symm.trans hf
          refine J.bipush (v := (-4)) dX5_order_47 (by decide) ?_
          obtain ⟨rfl, rfl⟩ := jso hf
          exact J.iret hE (Nat.le_of_ble_eq_true rfl) (Nat.le_of_ble_eq_true rfl) dX5_order_49
      · replace hf := (if_pos hc14).symm.trans hf
        refine J.bipush (v := (-2)) dX5_order_34 (by decide) ?_
        obtain ⟨rfl, rfl⟩ := jso hf
        exact J.iret hE (Nat.le_of_ble_eq_true rfl) (Nat.le_of_ble_eq_true rfl) dX5_order_36
def rm_X5_wanted : Room := { frames := 2, cells := 0, slots := 0, locals := 46 }
theorem hd_X5_wanted : yX5_wanted.cls = RX5 ∧ yX5_wanted.cls ≠ "java/lang/invoke/MethodHandle" ∧ yX5_wanted.cls ≠ "java/lang/invoke/VarHandle" ∧ (parseMethodDescriptor yX5_wanted.desc).map (fun d => d.parameters.length) = some 2 := by decide +kernel
set_option maxHeartbeats 4000000 in
set_option maxRecDepth 100000 in
theorem w_X5_wanted {D : va_G} {l : Launch} {hp hpE : jH} {rE : Int32} {this : Nat} {p1 : Int32} {p2 : Int32} (hf : f_X5_wanted this p1 p2 hp = some (rE, hpE)) : jM D l yX5_wanted (ws_ yX5_wanted cX5_wanted 3 (some .int)) rm_X5_wanted hp [.ref this, .int p1, .int p2] (some (.int rE)) hpE := by
  refine jM.of (lv0 := [some (.ref this), some (.int p1), some (.int p2)]) (by decide) (Nat.le_of_ble_eq_true rfl) rfl (fun X hDl hRm hE hX0 => ?_)
  rw [f_X5_wanted] at hf
  refine J.aload_n (i := 0) dX5_wanted_0 rfl rfl ?_
  refine J.iload_n (i := 1) dX5_wanted_1 rfl rfl ?_
  replace hf := jbd hf
  obtain ⟨u1, h2, hf⟩ := hf
  replace hf := jbs hf
  obtain ⟨v5, hp4, h3, hf⟩ := hf
  refine J.callV (As := [.int p1]) (k2 := 0) (n2 := 0) 9 hDl hRm (w_X5_isProfile h3) (lw_V q1043 q1045 qs21 q44 q1046) hd_X5_isProfile rfl ⟨_, h2⟩ rfl (Nat.le_of_ble_eq_true rfl) (Nat.le_of_ble_eq_true rfl) (Nat.le_of_ble_eq_true rfl) (Nat.le_of_ble_eq_true rfl) (Nat.le_of_ble_eq_true rfl) (Nat.le_of_ble_eq_true rfl) (Nat.le_of_ble_eq_true rfl) rfl dX5_wanted_2 ?_
  refine J.if_eq (tgt := 39) dX5_wanted_5 (by decide) (fun hc6 => ?_) (fun hc6 => ?_)
  · replace hf := (if_pos hc6).symm.trans hf
    refine J.bipush (v := (-2)) dX5_wanted_39 (by decide) ?_
    obtain ⟨rfl, rfl⟩ := jso hf
    exact J.iret hE (Nat.le_of_ble_eq_true rfl) (Nat.le_of_ble_eq_true rfl) dX5_wanted_41
  · replace hf := (if_neg hc6).symm.trans hf
    refine J.iload_n (i := 2) dX5_wanted_8 rfl rfl ?_
    refine J.i2l dX5_wanted_9 ?_
    refine J.lconst (v := 0) dX5_wanted_10 (by decide) ?_
    refine J.aload_n (i := 0) dX5_wanted_11 rfl rfl ?_
    replace hf := jbd hf
    obtain ⟨a7, h8, hf⟩ := hf
    refine J.getA 9 25 in_X5 rfl (Nat.le_of_ble_eq_true rfl) (Or.inl q892) (Or.inl rfl) h8 dX5_wanted_12 ?_
    refine J.iload_n (i := 1) dX5_wanted_15 rfl rfl ?_
    replace hf := jbd hf
    obtain ⟨v9, h10, hf⟩ := hf
    refine J.iald h10 dX5_wanted_16 ?_
    refine J.iconst (v := 1) dX5_wanted_17 (by decide) ?_
    refine J.isub dX5_wanted_18 ?_
    refine J.i2l dX5_wanted_19 ?_
    replace hf := jbs hf
    obtain ⟨v13, hp12, h11, hf⟩ := hf
    refine J.callS (As := [.long p2.toInt64, .long (0 : Int64), .long ((v9 - 1).toInt64)]) (k2 := 0) (n2 := 0) hDl hRm (w_X5_in h11) (lw_S q1031 q1032 q44 q1033) hs_X5_in rfl (Nat.le_of_ble_eq_true rfl) (Nat.le_of_ble_eq_true rfl) (Nat.le_of_ble_eq_true rfl) (Nat.le_of_ble_eq_true rfl) (Nat.le_of_ble_eq_true rfl) (Nat.le_of_ble_eq_true rfl) (Nat.le_of_ble_eq_true rfl) rfl dX5_wanted_20 ?_
    refine J.if_eq (tgt := 39) dX5_wanted_23 (by decide) (fun hc14 => ?_) (fun hc14 => ?_)
    · replace hf := (if_pos hc14).symm.trans hf
      refine J.bipush (v := (-2)) dX5_wanted_39 (by decide) ?_
      obtain ⟨rfl, rfl⟩ := jso hf
      exact J.iret hE (Nat.le_of_ble_eq_true rfl) (Nat.le_of_ble_eq_true rfl) dX5_wanted_41
    · replace hf := (if_neg hc14).symm.trans hf
      refine J.aload_n (i := 0) dX5_wanted_26 rfl rfl ?_
      replace hf := jbd hf
      obtain ⟨a15, h16, hf⟩ := hf
      refine J.getA 9 27 in_X5 rfl (Nat.le_of_ble_eq_true rfl) (Or.inl q894) (Or.inl rfl) h16 dX5_wanted_27 ?_
      refine J.iconst (v := 3) dX5_wanted_30 (by decide) ?_
      refine J.iload_n (i := 1) dX5_wanted_31 rfl rfl ?_
      refine J.imul dX5_wanted_32 ?_
      refine J.iload_n (i := 2) dX5_wanted_33 rfl rfl ?_
      refine J.iadd dX5_wanted_34 ?_
      replace hf := jbd hf
      obtain ⟨v17, h18, hf⟩ := hf
      refine J.iald h18 dX5_wanted_35 ?_
      refine J.goto (tgt := 41) dX5_wanted_36 (by decide) ?_
      obtain ⟨rfl, rfl⟩ := jso hf
      exact J.iret hE (Nat.le_of_ble_eq_true rfl) (Nat.le_of_ble_eq_true rfl) dX5_wanted_41
def rm_X5_pattern : Room := { frames := 2, cells := 0, slots := 0, locals := 51 }
theorem hd_X5_pattern : yX5_pattern.cls = RX5 ∧ yX5_pattern.cls ≠ "java/lang/invoke/MethodHandle" ∧ yX5_pattern.cls ≠ "java/lang/invoke/VarHandle" ∧ (parseMethodDescriptor yX5_pattern.desc).map (fun d => d.parameters.length) = some 3 := by decide +kernel
set_option maxHeartbeats 4000000 in
set_option maxRecDepth 100000 in
theorem w_X5_pattern {D : va_G} {l : Launch} {hp hpE : jH} {rE : Int32} {this : Nat} {p1 : Int32} {p2 : Int32} {p3 : Int32} (hf : f_X5_pattern this p1 p2 p3 hp = some (rE, hpE)) : jM D l yX5_pattern (ws_ yX5_pattern cX5_pattern 4 (some .int)) rm_X5_pattern hp [.ref this, .int p1, .int p2, .int p3] (some (.int rE)) hpE := by
  refine jM.of (lv0 := [some (.ref this), some (.int p1), some (.int p2), some (.int p3)]) (by decide) (Nat.le_of_ble_eq_true rfl) rfl (fun X hDl hRm hE hX0 => ?_)
  rw [f_X5_pattern] at hf
  refine J.aload_n (i := 0) dX5_pattern_0 rfl rfl ?_
  refine J.iload_n (i := 1) dX5_pattern_1 rfl rfl ?_
  replace hf := jbd hf
  obtain ⟨u1, h2, hf⟩ := hf
  replace hf := jbs hf
  obtain ⟨v5, hp4, h3, hf⟩ := hf
  refine J.callV (As := [.int p1]) (k2 := 0) (n2 := 0) 9 hDl hRm (w_X5_isProfile h3) (lw_V q1043 q1045 qs21 q44 q1046) hd_X5_isProfile rfl ⟨_, h2⟩ rfl (Nat.le_of_ble_eq_true rfl) (Nat.le_of_ble_eq_true rfl) (Nat.le_of_ble_eq_true rfl) (Nat.le_of_ble_eq_true rfl) (Nat.le_of_ble_eq_true rfl) (Nat.le_of_ble_eq_true rfl) (Nat.le_of_ble_eq_true rfl) rfl dX5_pattern_2 ?_
  refine J.if_eq (tgt := 32) dX5_pattern_5 (by decide) (fun hc6 => ?_) (fun hc6 => ?_)
  · replace hf := (if_pos hc6).symm.trans hf
    refine J.bipush (v := (-2)) dX5_pattern_32 (by decide) ?_
    obtain ⟨rfl, rfl⟩ := jso hf
    exact J.iret hE (Nat.le_of_ble_eq_true rfl) (Nat.le_of_ble_eq_true rfl) dX5_pattern_34
  · replace hf := (if_neg hc6).symm.trans hf
    refine J.iload_n (i := 2) dX5_pattern_8 rfl rfl ?_
    refine J.i2l dX5_pattern_9 ?_
    refine J.lconst (v := 0) dX5_pattern_10 (by decide) ?_
    refine J.ldc2 q1132 dX5_pattern_11 ?_
    replace hf := jbs hf
    obtain ⟨v9, hp8, h7, hf⟩ := hf
    refine J.callS (As := [.long p2.toInt64, .long (0 : Int64), .long (200000 : Int64)]) (k2 := 0) (n2 := 0) hDl hRm (w_X5_in h7) (lw_S q1031 q1032 q44 q1033) hs_X5_in rfl (Nat.le_of_ble_eq_true rfl) (Nat.le_of_ble_eq_true rfl) (Nat.le_of_ble_eq_true rfl) (Nat.le_of_ble_eq_true rfl) (Nat.le_of_ble_eq_true rfl) (Nat.le_of_ble_eq_true rfl) (Nat.le_of_ble_eq_true rfl) rfl dX5_pattern_14 ?_
    refine J.if_eq (tgt := 32) dX5_pattern_17 (by decide) (fun hc10 => ?_) (fun hc10 => ?_)
    · replace hf := (if_pos hc10).symm.trans hf
      refine J.bipush (v := (-2)) dX5_pattern_32 (by decide) ?_
      obtain ⟨rfl, rfl⟩ := jso hf
      exact J.iret hE (Nat.le_of_ble_eq_true rfl) (Nat.le_of_ble_eq_true rfl) dX5_pattern_34
    · replace hf := (if_neg hc10).symm.trans hf
      refine J.iload_n (i := 3) dX5_pattern_20 rfl rfl ?_
      refine J.i2l dX5_pattern_21 ?_
      refine J.lconst (v := 0) dX5_pattern_22 (by decide) ?_
      refine J.ldc2 q1036 dX5_pattern_23 ?_
      replace hf := jbs hf
      obtain ⟨v13, hp12, h11, hf⟩ := hf
      refine J.callS (As := [.long p3.toInt64, .long (0 : Int64), .long (3 : Int64)]) (k2 := 0) (n2 := 0) hDl hRm (w_X5_in h11) (lw_S q1031 q1032 q44 q1033) hs_X5_in rfl (Nat.le_of_ble_eq_true rfl) (Nat.le_of_ble_eq_true rfl) (Nat.le_of_ble_eq_true rfl) (Nat.le_of_ble_eq_true rfl) (Nat.le_of_ble_eq_true rfl) (Nat.le_of_ble_eq_true rfl) (Nat.le_of_ble_eq_true rfl) rfl dX5_pattern_26 ?_
      refine J.if_ne (tgt := 35) dX5_pattern_29 (by decide) (fun hc14 => ?_) (fun hc14 => ?_)
      · replace hf := (if_neg hc14).symm.trans hf
        refine J.aload_n (i := 0) dX5_pattern_35 rfl rfl ?_
        refine J.iload_n (i := 1) dX5_pattern_36 rfl rfl ?_
        refine J.iload_n (i := 2) dX5_pattern_37 rfl rfl ?_
        replace hf := jbd hf
        obtain ⟨u15, h16, hf⟩ := hf
        replace hf := jbd hf
        obtain ⟨hp18, h17, hf⟩ := hf
        refine J.callV (As := [.int p1, .int p2]) (k2 := 0) (n2 := 0) 9 hDl hRm (w_X5_findPattern h17) (lw_V q1098 q1100 qs25 q44 q1101) hd_X5_findPattern rfl ⟨_, h16⟩ rfl (Nat.le_of_ble_eq_true rfl) (Nat.le_of_ble_eq_true rfl) (Nat.le_of_ble_eq_true rfl) (Nat.le_of_ble_eq_true rfl) (Nat.le_of_ble_eq_true rfl) (Nat.le_of_ble_eq_true rfl) (Nat.le_of_ble_eq_true rfl) rfl dX5_pattern_38 ?_
        refine J.iload_n (i := 3) dX5_pattern_41 rfl rfl ?_
        refine J.iconst (v := 3) dX5_pattern_42 (by decide) ?_
        refine J.icmp_ne (tgt := 53) dX5_pattern_43 (by decide) (fun hc19 => ?_) (fun hc19 => ?_)
        · replace hf := (if_neg hc19).symm.trans hf
          refine J.aload_n (i := 0) dX5_pattern_53 rfl rfl ?_
          replace hf := jbd hf
          obtain ⟨a20, h21, hf⟩ := hf
          refine J.getA 9 28 in_X5 rfl (Nat.le_of_ble_eq_true rfl) (Or.inl q895) (Or.inl rfl) h21 dX5_pattern_54 ?_
          refine J.iload_n (i := 3) dX5_pattern_57 rfl rfl ?_
          replace hf := jbd hf
          obtain ⟨v22, h23, hf⟩ := hf
          refine J.iald h23 dX5_pattern_58 ?_
          obtain ⟨rfl, rfl⟩ := jso hf
          exact J.iret hE (Nat.le_of_ble_eq_true rfl) (Nat.le_of_ble_eq_true rfl) dX5_pattern_59
        · replace hf := (if_pos hc19).symm.trans hf
          refine J.aload_n (i := 0) dX5_pattern_46 rfl rfl ?_
          replace hf := jbd hf
          obtain ⟨v24, h25, hf⟩ := hf
          refine J.getI 9 29 in_X5 rfl (Nat.le_of_ble_eq_true rfl) (Or.inl q896) (Or.inl rfl) h25 dX5_pattern_47 ?_
          refine J.goto (tgt := 59) dX5_pattern_50 (by decide) ?_
          obtain ⟨rfl, rfl⟩ := jso hf
          exact J.iret hE (Nat.le_of_ble_eq_true rfl) (Nat.le_of_ble_eq_true rfl) dX5_pattern_59
      · replace hf := (if_pos hc14).symm.trans hf
        refine J.bipush (v := (-2)) dX5_pattern_32 (by decide) ?_
        obtain ⟨rfl, rfl⟩ := jso hf
        exact J.iret hE (Nat.le_of_ble_eq_true rfl) (Nat.le_of_ble_eq_true rfl) dX5_pattern_34
def rm_X5_account : Room := { frames := 1, cells := 0, slots := 0, locals := 25 }
theorem hd_X5_account : yX5_account.cls = RX5 ∧ yX5_account.cls ≠ "java/lang/invoke/MethodHandle" ∧ yX5_account.cls ≠ "java/lang/invoke/VarHandle" ∧ (parseMethodDescriptor yX5_account.desc).map (fun d => d.parameters.length) = some 1 := by decide +kernel
set_option maxHeartbeats 4000000 in
set_option maxRecDepth 100000 in
theorem w_X5_account {D : va_G} {l : Launch} {hp hpE : jH} {rE : Int32} {this : Nat} {p1 : Int32} (hf : f_X5_account this p1 hp = some (rE, hpE)) : jM D l yX5_account (ws_ yX5_account cX5_account 2 (some .int)) rm_X5_account hp [.ref this, .int p1] (some (.int rE)) hpE := by
  refine jM.of (lv0 := [some (.ref this), some (.int p1)]) (by decide) (Nat.le_of_ble_eq_true rfl) rfl (fun X hDl hRm hE hX0 => ?_)
  rw [f_X5_account] at hf
  refine J.iload_n (i := 1) dX5_account_0 rfl rfl ?_
  refine J.i2l dX5_account_1 ?_
  refine J.lconst (v := 0) dX5_account_2 (by decide) ?_
  refine J.ldc2 q1137 dX5_account_3 ?_
  replace hf := jbs hf
  obtain ⟨v3, hp2, h1, hf⟩ := hf
  refine J.callS (As := [.long p1.toInt64, .long (0 : Int64), .long (6 : Int64)]) (k2 := 0) (n2 := 0) hDl hRm (w_X5_in h1) (lw_S q1031 q1032 q44 q1033) hs_X5_in rfl (Nat.le_of_ble_eq_true rfl) (Nat.le_of_ble_eq_true rfl) (Nat.le_of_ble_eq_true rfl) (Nat.le_of_ble_eq_true rfl) (Nat.le_of_ble_eq_true rfl) (Nat.le_of_ble_eq_true rfl) (Nat.le_of_ble_eq_true rfl) rfl dX5_account_6 ?_
  refine J.if_eq (tgt := 22) dX5_account_9 (by decide) (fun hc4 => ?_) (fun hc4 => ?_)
  · replace hf := (if_pos hc4).symm.trans hf
    refine J.bipush (v := (-2)) dX5_account_22 (by decide) ?_
    obtain ⟨rfl, rfl⟩ := jso hf
    exact J.iret hE (Nat.le_of_ble_eq_true rfl) (Nat.le_of_ble_eq_true rfl) dX5_account_24
  · replace hf := (if_neg hc4).symm.trans hf
    refine J.aload_n (i := 0) dX5_account_12 rfl rfl ?_
    replace hf := jbd hf
    obtain ⟨a5, h6, hf⟩ := hf
    refine J.getA 9 24 in_X5 rfl (Nat.le_of_ble_eq_true rfl) (Or.inl q891) (Or.inl rfl) h6 dX5_account_13 ?_
    refine J.iload_n (i := 1) dX5_account_16 rfl rfl ?_
    replace hf := jbd hf
    obtain ⟨v7, h8, hf⟩ := hf
    refine J.lald h8 dX5_account_17 ?_
    refine J.l2i dX5_account_18 ?_
    refine J.goto (tgt := 24) dX5_account_19 (by decide) ?_
    obtain ⟨rfl, rfl⟩ := jso hf
    exact J.iret hE (Nat.le_of_ble_eq_true rfl) (Nat.le_of_ble_eq_true rfl) dX5_account_24
def rm_X5_stock : Room := { frames := 1, cells := 0, slots := 0, locals := 25 }
theorem hd_X5_stock : yX5_stock.cls = RX5 ∧ yX5_stock.cls ≠ "java/lang/invoke/MethodHandle" ∧ yX5_stock.cls ≠ "java/lang/invoke/VarHandle" ∧ (parseMethodDescriptor yX5_stock.desc).map (fun d => d.parameters.length) = some 1 := by decide +kernel
set_option maxHeartbeats 4000000 in
set_option maxRecDepth 100000 in
theorem w_X5_stock {D : va_G} {l : Launch} {hp hpE : jH} {rE : Int32} {this : Nat} {p1 : Int32} (hf : f_X5_stock this p1 hp = some (rE, hpE)) : jM D l yX5_stock (ws_ yX5_stock cX5_stock 2 (some .int)) rm_X5_stock hp [.ref this, .int p1] (some (.int rE)) hpE := by
  refine jM.of (lv0 := [some (.ref this), some (.int p1)]) (by decide) (Nat.le_of_ble_eq_true rfl) rfl (fun X hDl hRm hE hX0 => ?_)
  rw [f_X5_stock] at hf
  refine J.iload_n (i := 1) dX5_stock_0 rfl rfl ?_
  refine J.i2l dX5_stock_1 ?_
  refine J.ldc2 q1091 dX5_stock_2 ?_
  refine J.ldc2 q1092 dX5_stock_5 ?_
  replace hf := jbs hf
  obtain ⟨v3, hp2, h1, hf⟩ := hf
  refine J.callS (As := [.long p1.toInt64, .long (200 : Int64), .long (1200 : Int64)]) (k2 := 0) (n2 := 0) hDl hRm (w_X5_in h1) (lw_S q1031 q1032 q44 q1033) hs_X5_in rfl (Nat.le_of_ble_eq_true rfl) (Nat.le_of_ble_eq_true rfl) (Nat.le_of_ble_eq_true rfl) (Nat.le_of_ble_eq_true rfl) (Nat.le_of_ble_eq_true rfl) (Nat.le_of_ble_eq_true rfl) (Nat.le_of_ble_eq_true rfl) rfl dX5_stock_8 ?_
  refine J.if_ne (tgt := 17) dX5_stock_11 (by decide) (fun hc4 => ?_) (fun hc4 => ?_)
  · replace hf := (if_neg hc4).symm.trans hf
    refine J.aload_n (i := 0) dX5_stock_17 rfl rfl ?_
    replace hf := jbd hf
    obtain ⟨v5, h6, hf⟩ := hf
    refine J.getI 9 35 in_X5 rfl (Nat.le_of_ble_eq_true rfl) (Or.inl q902) (Or.inl rfl) h6 dX5_stock_18 ?_
    refine J.bipush (v := 6) dX5_stock_21 (by decide) ?_
    refine J.icmp_ne (tgt := 29) dX5_stock_23 (by decide) (fun hc7 => ?_) (fun hc7 => ?_)
    · replace hf := (if_neg hc7).symm.trans hf
      refine J.aload_n (i := 0) dX5_stock_29 rfl rfl ?_
      replace hf := jbd hf
      obtain ⟨a8, h9, hf⟩ := hf
      refine J.getA 9 36 in_X5 rfl (Nat.le_of_ble_eq_true rfl) (Or.inl q903) (Or.inl rfl) h9 dX5_stock_30 ?_
      refine J.aload_n (i := 0) dX5_stock_33 rfl rfl ?_
      replace hf := jbd hf
      obtain ⟨v10, h11, hf⟩ := hf
      refine J.getI 9 35 in_X5 rfl (Nat.le_of_ble_eq_true rfl) (Or.inl q902) (Or.inl rfl) h11 dX5_stock_34 ?_
      refine J.iload_n (i := 1) dX5_stock_37 rfl rfl ?_
      replace hf := jbd hf
      obtain ⟨hp12, h13, hf⟩ := hf
      refine J.iast h13 dX5_stock_38 ?_
      refine J.aload_n (i := 0) dX5_stock_39 rfl rfl ?_
      refine J.dup dX5_stock_40 rfl ?_
      replace hf := jbd hf
      obtain ⟨v14, h15, hf⟩ := hf
      refine J.getI 9 35 in_X5 rfl (Nat.le_of_ble_eq_true rfl) (Or.inl q902) (Or.inl rfl) h15 dX5_stock_41 ?_
      refine J.iconst (v := 1) dX5_stock_44 (by decide) ?_
      refine J.iadd dX5_stock_45 ?_
      replace hf := jbd hf
      obtain ⟨hp16, h17, hf⟩ := hf
      refine J.put (ty := .int) 9 35 in_X5 ap9 rfl (Nat.le_of_ble_eq_true rfl) (Or.inl q902) (Or.inl rfl) rfl (by decide +kernel) (fun _ => ⟨rfl, rfl⟩) h17 dX5_stock_46 ?_
      refine J.aload_n (i := 0) dX5_stock_49 rfl rfl ?_
      replace hf := jbd hf
      obtain ⟨v18, h19, hf⟩ := hf
      refine J.getI 9 35 in_X5 rfl (Nat.le_of_ble_eq_true rfl) (Or.inl q902) (Or.inl rfl) h19 dX5_stock_50 ?_
      obtain ⟨rfl, rfl⟩ := jso hf
      exact J.iret hE (Nat.le_of_ble_eq_true rfl) (Nat.le_of_ble_eq_true rfl) dX5_stock_53
    · replace hf := (if_pos hc7).symm.trans hf
      refine J.bipush (v := (-4)) dX5_stock_26 (by decide) ?_
      obtain ⟨rfl, rfl⟩ := jso hf
      exact J.iret hE (Nat.le_of_ble_eq_true rfl) (Nat.le_of_ble_eq_true rfl) dX5_stock_28
  · replace hf := (if_pos hc4).symm.trans hf
    refine J.bipush (v := (-2)) dX5_stock_14 (by decide) ?_
    obtain ⟨rfl, rfl⟩ := jso hf
    exact J.iret hE (Nat.le_of_ble_eq_true rfl) (Nat.le_of_ble_eq_true rfl) dX5_stock_16
def rm_X5_best : Room := { frames := 3, cells := 0, slots := 0, locals := 76 }
theorem hd_X5_best : yX5_best.cls = RX5 ∧ yX5_best.cls ≠ "java/lang/invoke/MethodHandle" ∧ yX5_best.cls ≠ "java/lang/invoke/VarHandle" ∧ (parseMethodDescriptor yX5_best.desc).map (fun d => d.parameters.length) = some 2 := by decide +kernel
set_option maxHeartbeats 4000000 in
set_option maxRecDepth 100000 in
theorem w_X5_best_j136 {D : va_G} {l : Launch} {X : jX} {hp0 hpE : jH} {rE : Int32} (hDl : jDl X D l) (hRm : jRoom X rm_X5_best.frames rm_X5_best.locals rm_X5_best.cells rm_X5_best.slots) (hE : jEnds X (some .int) (some (.int rE)) hpE rm_X5_best.cells rm_X5_best.slots) (hX0 : jX0 X hp0) {K19 : Nat → Int32 → Int32 → Int32 → Int32 → Int32 → jH → Option (Int32 × jH)} (hK19 : ∀ (xa_0 : Nat) (xi_1 : Int32) (xi_2 : Int32) (xi_3 : Int32) (xi_4 : Int32) (xi_5 : Int32) (hp : jH), K19 xa_0 xi_1 xi_2 xi_3 xi_4 xi_5 hp = some (rE, hpE) → J X cX5_best 10 yX5_best 0 0 19 [some (.ref xa_0), some (.int xi_1), some (.int xi_2), some (.int xi_3), some (.int xi_4), some (.int xi_5), none, none, none, none] [] hp) {xa_0 : Nat} {xi_1 : Int32} {xi_2 : Int32} {xi_3 : Int32} {xi_4 : Int32} {xi_5 : Int32} {hp : jH} (hf : f_X5_best_j136 K19 xa_0 xi_1 xi_2 xi_3 xi_4 xi_5 hp = some (rE, hpE)) : J X cX5_best 10 yX5_best 0 0 136 [some (.ref xa_0), some (.int xi_1), some (.int xi_2), some (.int xi_3), some (.int xi_4), some (.int xi_5), none, none, none, none] [] hp := by
  rw [f_X5_best_j136] at hf
  refine J.iinc (i := 5) (v := (xi_5 + 1)) (lv' := [some (.ref xa_0), some (.int xi_1), some (.int xi_2), some (.int xi_3), some (.int xi_4), some (.int (xi_5 + 1)), none, none, none, none]) dX5_best_136 rfl rfl (Nat.le_of_ble_eq_true rfl) rfl ?_
  refine J.goto (tgt := 19) dX5_best_139 (by decide) ?_
  exact hK19 _ _ _ _ _ _ _ hf
set_option maxHeartbeats 4000000 in
set_option maxRecDepth 100000 in
theorem w_X5_best_j122 {D : va_G} {l : Launch} {X : jX} {hp0 hpE : jH} {rE : Int32} (hDl : jDl X D l) (hRm : jRoom X rm_X5_best.frames rm_X5_best.locals rm_X5_best.cells rm_X5_best.slots) (hE : jEnds X (some .int) (some (.int rE)) hpE rm_X5_best.cells rm_X5_best.slots) (hX0 : jX0 X hp0) {K19 : Nat → Int32 → Int32 → Int32 → Int32 → Int32 → jH → Option (Int32 × jH)} (hK19 : ∀ (xa_0 : Nat) (xi_1 : Int32) (xi_2 : Int32) (xi_3 : Int32) (xi_4 : Int32) (xi_5 : Int32) (hp : jH), K19 xa_0 xi_1 xi_2 xi_3 xi_4 xi_5 hp = some (rE, hpE) → J X cX5_best 10 yX5_best 0 0 19 [some (.ref xa_0), some (.int xi_1), some (.int xi_2), some (.int xi_3), some (.int xi_4), some (.int xi_5), none, none, none, none] [] hp) {xa_0 : Nat} {xi_1 : Int32} {xi_2 : Int32} {xi_5 : Int32} {hp : jH} (hf : f_X5_best_j122 K19 xa_0 xi_1 xi_2 xi_5 hp = some (rE, hpE)) : J X cX5_best 10 yX5_best 0 0 122 [some (.ref xa_0), some (.int xi_1), some (.int xi_2), none, none, some (.int xi_5), none, none, none, none] [] hp := by
  rw [f_X5_best_j122] at hf
  refine J.aload_n (i := 0) dX5_best_122 rfl rfl ?_
  replace hf := jbd hf
  obtain ⟨a34, h35, hf⟩ := hf
  refine J.getA 9 36 in_X5 rfl (Nat.le_of_ble_eq_true rfl) (Or.inl q903) (Or.inl rfl) h35 dX5_best_123 ?_
  refine J.iload dX5_best_126 rfl ?_
  replace hf := jbd hf
  obtain ⟨v36, h37, hf⟩ := hf
  refine J.iald h37 dX5_best_128 ?_
  refine J.istore_n (i := 3) (lv' := [some (.ref xa_0), some (.int xi_1), some (.int xi_2), some (.int v36), none, some (.int xi_5), none, none, none, none]) dX5_best_129 rfl (Nat.le_of_ble_eq_true rfl) rfl ?_
  refine J.aload_n (i := 0) dX5_best_130 rfl rfl ?_
  replace hf := jbd hf
  obtain ⟨v38, h39, hf⟩ := hf
  refine J.getI 9 29 in_X5 rfl (Nat.le_of_ble_eq_true rfl) (Or.inl q896) (Or.inl rfl) h39 dX5_best_131 ?_
  refine J.istore (i := 4) (lv' := [some (.ref xa_0), some (.int xi_1), some (.int xi_2), some (.int v36), some (.int v38), some (.int xi_5), none, none, none, none]) dX5_best_134 (Nat.le_of_ble_eq_true rfl) rfl ?_
  exact w_X5_best_j136 hDl hRm hE hX0 hK19 hf
set_option maxHeartbeats 4000000 in
set_option maxRecDepth 100000 in
theorem w_X5_best_j93 {D : va_G} {l : Launch} {X : jX} {hp0 hpE : jH} {rE : Int32} (hDl : jDl X D l) (hRm : jRoom X rm_X5_best.frames rm_X5_best.locals rm_X5_best.cells rm_X5_best.slots) (hE : jEnds X (some .int) (some (.int rE)) hpE rm_X5_best.cells rm_X5_best.slots) (hX0 : jX0 X hp0) {K19 : Nat → Int32 → Int32 → Int32 → Int32 → Int32 → jH → Option (Int32 × jH)} (hK19 : ∀ (xa_0 : Nat) (xi_1 : Int32) (xi_2 : Int32) (xi_3 : Int32) (xi_4 : Int32) (xi_5 : Int32) (hp : jH), K19 xa_0 xi_1 xi_2 xi_3 xi_4 xi_5 hp = some (rE, hpE) → J X cX5_best 10 yX5_best 0 0 19 [some (.ref xa_0), some (.int xi_1), some (.int xi_2), some (.int xi_3), some (.int xi_4), some (.int xi_5), none, none, none, none] [] hp) {xa_0 : Nat} {xi_1 : Int32} {xi_2 : Int32} {xi_3 : Int32} {xi_4 : Int32} {xi_5 : Int32} {xl_6 : Int64} {xl_s0 : Int64} {hp : jH} (hf : f_X5_best_j93 K19 xa_0 xi_1 xi_2 xi_3 xi_4 xi_5 xl_6 xl_s0 hp = some (rE, hpE)) : J X cX5_best 10 yX5_best 0 0 93 [some (.ref xa_0), some (.int xi_1), some (.int xi_2), some (.int xi_3), some (.int xi_4), some (.int xi_5), some (.long xl_6), none, none, none] [.long xl_s0] hp := by
  rw [f_X5_best_j93] at hf
  refine J.lstore (i := 8) (lv' := [some (.ref xa_0), some (.int xi_1), some (.int xi_2), some (.int xi_3), some (.int xi_4), some (.int xi_5), some (.long xl_6), none, some (.long xl_s0), none]) dX5_best_93 (Nat.le_of_ble_eq_true rfl) rfl ?_
  refine J.lload dX5_best_95 rfl ?_
  refine J.lload dX5_best_97 rfl ?_
  refine J.lcmp dX5_best_99 ?_
  refine J.if_gt (tgt := 122) dX5_best_100 (by decide) (fun hc33 => ?_) (fun hc33 => ?_)
  · replace hf := (if_pos hc33).symm.trans hf
    refine J.mask (lv' := [some (.ref xa_0), some (.int xi_1), some (.int xi_2), none, none, some (.int xi_5), none, none, none, none]) [true, true, true, false, false, true, false, false, false, false] rfl ?_
    exact w_X5_best_j122 hDl hRm hE hX0 hK19 hf
  · replace hf := (if_neg hc33).symm.trans hf
    refine J.lload dX5_best_103 rfl ?_
    refine J.lload dX5_best_105 rfl ?_
    refine J.lcmp dX5_best_107 ?_
    refine J.if_ne (tgt := 136) dX5_best_108 (by decide) (fun hc40 => ?_) (fun hc40 => ?_)
    · replace hf := (if_neg hc40).symm.trans hf
      refine J.mask (lv' := [some (.ref xa_0), some (.int xi_1), some (.int xi_2), some (.int xi_3), some (.int xi_4), some (.int xi_5), none, none, none, none]) [true, true, true, true, true, true, false, false, false, false] rfl ?_
      exact w_X5_best_j136 hDl hRm hE hX0 hK19 hf
    · replace hf := (if_pos hc40).symm.trans hf
      refine J.aload_n (i := 0) dX5_best_111 rfl rfl ?_
      replace hf := jbd hf
      obtain ⟨a41, h42, hf⟩ := hf
      refine J.getA 9 36 in_X5 rfl (Nat.le_of_ble_eq_true rfl) (Or.inl q903) (Or.inl rfl) h42 dX5_best_112 ?_
      refine J.iload dX5_best_115 rfl ?_
      replace hf := jbd hf
      obtain ⟨v43, h44, hf⟩ := hf
      refine J.iald h44 dX5_best_117 ?_
      refine J.iload_n (i := 3) dX5_best_118 rfl rfl ?_
      refine J.icmp_ge (tgt := 136) dX5_best_119 (by decide) (fun hc45 => ?_) (fun hc45 => ?_)
      · replace hf := (if_pos hc45).symm.trans hf
        refine J.mask (lv' := [some (.ref xa_0), some (.int xi_1), some (.int xi_2), some (.int xi_3), some (.int xi_4), some (.int xi_5), none, none, none, none]) [true, true, true, true, true, true, false, false, false, false] rfl ?_
        exact w_X5_best_j136 hDl hRm hE hX0 hK19 hf
      · replace hf := (if_neg hc45).symm.trans hf
        refine J.mask (lv' := [some (.ref xa_0), some (.int xi_1), some (.int xi_2), none, none, some (.int xi_5), none, none, none, none]) [true, true, true, false, false, true, false, false, false, false] rfl ?_
        exact w_X5_best_j122 hDl hRm hE hX0 hK19 hf
set_option maxHeartbeats 4000000 in
set_option maxRecDepth 100000 in
theorem w_X5_best_j70 {D : va_G} {l : Launch} {X : jX} {hp0 hpE : jH} {rE : Int32} (hDl : jDl X D l) (hRm : jRoom X rm_X5_best.frames rm_X5_best.locals rm_X5_best.cells rm_X5_best.slots) (hE : jEnds X (some .int) (some (.int rE)) hpE rm_X5_best.cells rm_X5_best.slots) (hX0 : jX0 X hp0) {K19 : Nat → Int32 → Int32 → Int32 → Int32 → Int32 → jH → Option (Int32 × jH)} (hK19 : ∀ (xa_0 : Nat) (xi_1 : Int32) (xi_2 : Int32) (xi_3 : Int32) (xi_4 : Int32) (xi_5 : Int32) (hp : jH), K19 xa_0 xi_1 xi_2 xi_3 xi_4 xi_5 hp = some (rE, hpE) → J X cX5_best 10 yX5_best 0 0 19 [some (.ref xa_0), some (.int xi_1), some (.int xi_2), some (.int xi_3), some (.int xi_4), some (.int xi_5), none, none, none, none] [] hp) {xa_0 : Nat} {xi_1 : Int32} {xi_2 : Int32} {xi_3 : Int32} {xi_4 : Int32} {xi_5 : Int32} {xl_s0 : Int64} {hp : jH} (hf : f_X5_best_j70 K19 xa_0 xi_1 xi_2 xi_3 xi_4 xi_5 xl_s0 hp = some (rE, hpE)) : J X cX5_best 10 yX5_best 0 0 70 [some (.ref xa_0), some (.int xi_1), some (.int xi_2), some (.int xi_3), some (.int xi_4), some (.int xi_5), none, none, none, none] [.long xl_s0] hp := by
  rw [f_X5_best_j70] at hf
  refine J.lstore (i := 6) (lv' := [some (.ref xa_0), some (.int xi_1), some (.int xi_2), some (.int xi_3), some (.int xi_4), some (.int xi_5), some (.long xl_s0), none, none, none]) dX5_best_70 (Nat.le_of_ble_eq_true rfl) rfl ?_
  refine J.iload_n (i := 3) dX5_best_72 rfl rfl ?_
  refine J.iconst (v := (-1)) dX5_best_73 (by decide) ?_
  refine J.icmp_ne (tgt := 81) dX5_best_74 (by decide) (fun hc28 => ?_) (fun hc28 => ?_)
  · replace hf := (if_neg hc28).symm.trans hf
    refine J.iload dX5_best_81 rfl ?_
    refine J.i2l dX5_best_83 ?_
    refine J.aload_n (i := 0) dX5_best_84 rfl rfl ?_
    replace hf := jbd hf
    obtain ⟨a29, h30, hf⟩ := hf
    refine J.getA 9 36 in_X5 rfl (Nat.le_of_ble_eq_true rfl) (Or.inl q903) (Or.inl rfl) h30 dX5_best_85 ?_
    refine J.iload dX5_best_88 rfl ?_
    replace hf := jbd hf
    obtain ⟨v31, h32, hf⟩ := hf
    refine J.iald h32 dX5_best_90 ?_
    refine J.i2l dX5_best_91 ?_
    refine J.lmul dX5_best_92 ?_
    exact w_X5_best_j93 hDl hRm hE hX0 hK19 hf
  · replace hf := (if_pos hc28).symm.trans hf
    refine J.lconst (v := 0) dX5_best_77 (by decide) ?_
    refine J.goto (tgt := 93) dX5_best_78 (by decide) ?_
    exact w_X5_best_j93 hDl hRm hE hX0 hK19 hf
set_option maxHeartbeats 4000000 in
set_option maxRecDepth 100000 in
theorem w_X5_best_L19 {D : va_G} {l : Launch} {X : jX} {hp0 hpE : jH} {rE : Int32} (hDl : jDl X D l) (hRm : jRoom X rm_X5_best.frames rm_X5_best.locals rm_X5_best.cells rm_X5_best.slots) (hE : jEnds X (some .int) (some (.int rE)) hpE rm_X5_best.cells rm_X5_best.slots) (hX0 : jX0 X hp0) : ∀ (N : Nat) (xa_0 : Nat) (xi_1 : Int32) (xi_2 : Int32) (xi_3 : Int32) (xi_4 : Int32) (xi_5 : Int32) (hp : jH), f_X5_best_L19 N xa_0 xi_1 xi_2 xi_3 xi_4 xi_5 hp = some (rE, hpE) → J X cX5_best 10 yX5_best 0 0 19 [some (.ref xa_0), some (.int xi_1), some (.int xi_2), some (.int xi_3), some (.int xi_4), some (.int xi_5), none, none, none, none] [] hp := by
  intro N
  induction N with
  | zero =>
    intro xa_0 xi_1 xi_2 xi_3 xi_4 xi_5 hp hf
    rw [f_X5_best_L19] at hf
    cases hf
  | succ N ih19 =>
    intro xa_0 xi_1 xi_2 xi_3 xi_4 xi_5 hp hf
    rw [f_X5_best_L19] at hf
    refine J.iload dX5_best_19 rfl ?_
    refine J.aload_n (i := 0) dX5_best_21 rfl rfl ?_
    replace hf := jbd hf
    obtain ⟨v7, h8, hf⟩ := hf
    refine J.getI 9 35 in_X5 rfl (Nat.le_of_ble_eq_true rfl) (Or.inl q902) (Or.inl rfl) h8 dX5_best_22 ?_
    refine J.icmp_ge (tgt := 142) dX5_best_25 (by decide) (fun hc9 => ?_) (fun hc9 => ?_)
    · replace hf := (if_pos hc9).symm.trans hf
      refine J.iload_n (i := 3) dX5_best_142 rfl rfl ?_
      obtain ⟨rfl, rfl⟩ := jso hf
      exact J.iret hE (Nat.le_of_ble_eq_true rfl) (Nat.le_of_ble_eq_true rfl) dX5_best_143
    · replace hf := (if_neg hc9).symm.trans hf
      refine J.aload_n (i := 0) dX5_best_28 rfl rfl ?_
      refine J.aload_n (i := 0) dX5_best_29 rfl rfl ?_
      replace hf := jbd hf
      obtain ⟨a10, h11, hf⟩ := hf
      refine J.getA 9 7 in_X5 rfl (Nat.le_of_ble_eq_true rfl) (Or.inl q874) (Or.inl rfl) h11 dX5_best_30 ?_
      refine J.iload_n (i := 1) dX5_best_33 rfl rfl ?_
      replace hf := jbd hf
      obtain ⟨v12, h13, hf⟩ := hf
      refine J.iald h13 dX5_best_34 ?_
      refine J.aload_n (i := 0) dX5_best_35 rfl rfl ?_
      replace hf := jbd hf
      obtain ⟨a14, h15, hf⟩ := hf
      refine J.getA 9 36 in_X5 rfl (Nat.le_of_ble_eq_true rfl) (Or.inl q903) (Or.inl rfl) h15 dX5_best_36 ?_
      refine J.iload dX5_best_39 rfl ?_
      replace hf := jbd hf
      obtain ⟨v16, h17, hf⟩ := hf
      refine J.iald h17 dX5_best_41 ?_
      refine J.iload_n (i := 2) dX5_best_42 rfl rfl ?_
      replace hf := jbd hf
      obtain ⟨u18, h19, hf⟩ := hf
      replace hf := jbd hf
      obtain ⟨hp21, h20, hf⟩ := hf
      refine J.callV (As := [.int v12, .int v16, .int xi_2]) (k2 := 0) (n2 := 0) 9 hDl hRm (w_X5_findBar h20) (lw_V q1093 q1095 qs24 q44 q1096) hd_X5_findBar rfl ⟨_, h19⟩ rfl (Nat.le_of_ble_eq_true rfl) (Nat.le_of_ble_eq_true rfl) (Nat.le_of_ble_eq_true rfl) (Nat.le_of_ble_eq_true rfl) (Nat.le_of_ble_eq_true rfl) (Nat.le_of_ble_eq_true rfl) (Nat.le_of_ble_eq_true rfl) rfl dX5_best_43 ?_
      refine J.aload_n (i := 0) dX5_best_46 rfl rfl ?_
      replace hf := jbd hf
      obtain ⟨v22, h23, hf⟩ := hf
      refine J.getI 9 29 in_X5 rfl (Nat.le_of_ble_eq_true rfl) (Or.inl q896) (Or.inl rfl) h23 dX5_best_47 ?_
      refine J.if_le (tgt := 136) dX5_best_50 (by decide) (fun hc24 => ?_) (fun hc24 => ?_)
      · replace hf := (if_pos hc24).symm.trans hf
        exact w_X5_best_j136 hDl hRm hE hX0 (fun z0 z1 z2 z3 z4 z5 z6 hz => ih19 z0 z1 z2 z3 z4 z5 z6 hz) hf
      · replace hf := (if_neg hc24).symm.trans hf
        refine J.iload_n (i := 3) dX5_best_53 rfl rfl ?_
        refine J.iconst (v := (-1)) dX5_best_54 (by decide) ?_
        refine J.icmp_ne (tgt := 62) dX5_best_55 (by decide) (fun hc25 => ?_) (fun hc25 => ?_)
        · replace hf := (if_neg hc25).symm.trans hf
          refine J.aload_n (i := 0) dX5_best_62 rfl rfl ?_
          replace hf := jbd hf
          obtain ⟨v26, h27, hf⟩ := hf
          refine J.getI 9 29 in_X5 rfl (Nat.le_of_ble_eq_true rfl) (Or.inl q896) (Or.inl rfl) h27 dX5_best_63 ?_
          refine J.i2l dX5_best_66 ?_
          refine J.iload_n (i := 3) dX5_best_67 rfl rfl ?_
          refine J.i2l dX5_best_68 ?_
          refine J.lmul dX5_best_69 ?_
          exact w_X5_best_j70 hDl hRm hE hX0 (fun z0 z1 z2 z3 z4 z5 z6 hz => ih19 z0 z1 z2 z3 z4 z5 z6 hz) hf
        · replace hf := (if_pos hc25).symm.trans hf
          refine J.lconst (v := 1) dX5_best_58 (by decide) ?_
          refine J.goto (tgt := 70) dX5_best_59 (by decide) ?_
          exact w_X5_best_j70 hDl hRm hE hX0 (fun z0 z1 z2 z3 z4 z5 z6 hz => ih19 z0 z1 z2 z3 z4 z5 z6 hz) hf
set_option maxHeartbeats 4000000 in
set_option maxRecDepth 100000 in
theorem w_X5_best {D : va_G} {l : Launch} {hp hpE : jH} {rE : Int32} {this : Nat} {p1 : Int32} {p2 : Int32} (hf : f_X5_best this p1 p2 hp = some (rE, hpE)) : jM D l yX5_best (ws_ yX5_best cX5_best 10 (some .int)) rm_X5_best hp [.ref this, .int p1, .int p2] (some (.int rE)) hpE := by
  refine jM.of (lv0 := [some (.ref this), some (.int p1), some (.int p2), none, none, none, none, none, none, none]) (by decide) (Nat.le_of_ble_eq_true rfl) rfl (fun X hDl hRm hE hX0 => ?_)
  rw [f_X5_best] at hf
  refine J.aload_n (i := 0) dX5_best_0 rfl rfl ?_
  refine J.iload_n (i := 1) dX5_best_1 rfl rfl ?_
  replace hf := jbd hf
  obtain ⟨u1, h2, hf⟩ := hf
  replace hf := jbs hf
  obtain ⟨v5, hp4, h3, hf⟩ := hf
  refine J.callV (As := [.int p1]) (k2 := 0) (n2 := 0) 9 hDl hRm (w_X5_isDie h3) (lw_V q1052 q1054 qs22 q44 q1055) hd_X5_isDie rfl ⟨_, h2⟩ rfl (Nat.le_of_ble_eq_true rfl) (Nat.le_of_ble_eq_true rfl) (Nat.le_of_ble_eq_true rfl) (Nat.le_of_ble_eq_true rfl) (Nat.le_of_ble_eq_true rfl) (Nat.le_of_ble_eq_true rfl) (Nat.le_of_ble_eq_true rfl) rfl dX5_best_2 ?_
  refine J.if_ne (tgt := 11) dX5_best_5 (by decide) (fun hc6 => ?_) (fun hc6 => ?_)
  · replace hf := (if_neg hc6).symm.trans hf
    refine J.iconst (v := (-1)) dX5_best_11 (by decide) ?_
    refine J.istore_n (i := 3) (lv' := [some (.ref this), some (.int p1), some (.int p2), some (.int (-1)), none, none, none, none, none, none]) dX5_best_12 rfl (Nat.le_of_ble_eq_true rfl) rfl ?_
    refine J.iconst (v := 0) dX5_best_13 (by decide) ?_
    refine J.istore (i := 4) (lv' := [some (.ref this), some (.int p1), some (.int p2), some (.int (-1)), some (.int 0), none, none, none, none, none]) dX5_best_14 (Nat.le_of_ble_eq_true rfl) rfl ?_
    refine J.iconst (v := 0) dX5_best_16 (by decide) ?_
    refine J.istore (i := 5) (lv' := [some (.ref this), some (.int p1), some (.int p2), some (.int (-1)), some (.int 0), some (.int 0), none, none, none, none]) dX5_best_17 (Nat.le_of_ble_eq_true rfl) rfl ?_
    exact w_X5_best_L19 hDl hRm hE hX0 _ _ _ _ _ _ _ _ hf
  · replace hf := (if_pos hc6).symm.trans hf
    refine J.bipush (v := (-2)) dX5_best_8 (by decide) ?_
    obtain ⟨rfl, rfl⟩ := jso hf
    exact J.iret hE (Nat.le_of_ble_eq_true rfl) (Nat.le_of_ble_eq_true rfl) dX5_best_10
def rm_X5_job : Room := { frames := 2, cells := 0, slots := 0, locals := 46 }
theorem hd_X5_job : yX5_job.cls = RX5 ∧ yX5_job.cls ≠ "java/lang/invoke/MethodHandle" ∧ yX5_job.cls ≠ "java/lang/invoke/VarHandle" ∧ (parseMethodDescriptor yX5_job.desc).map (fun d => d.parameters.length) = some 3 := by decide +kernel
set_option maxHeartbeats 4000000 in
set_option maxRecDepth 100000 in
theorem w_X5_job {D : va_G} {l : Launch} {hp hpE : jH} {rE : Int32} {this : Nat} {p1 : Int32} {p2 : Int32} {p3 : Int32} (hf : f_X5_job this p1 p2 p3 hp = some (rE, hpE)) : jM D l yX5_job (ws_ yX5_job cX5_job 4 (some .int)) rm_X5_job hp [.ref this, .int p1, .int p2, .int p3] (some (.int rE)) hpE := by
  refine jM.of (lv0 := [some (.ref this), some (.int p1), some (.int p2), some (.int p3)]) (by decide) (Nat.le_of_ble_eq_true rfl) rfl (fun X hDl hRm hE hX0 => ?_)
  rw [f_X5_job] at hf
  refine J.aload_n (i := 0) dX5_job_0 rfl rfl ?_
  refine J.iload_n (i := 1) dX5_job_1 rfl rfl ?_
  replace hf := jbd hf
  obtain ⟨u1, h2, hf⟩ := hf
  replace hf := jbs hf
  obtain ⟨v5, hp4, h3, hf⟩ := hf
  refine J.callV (As := [.int p1]) (k2 := 0) (n2 := 0) 9 hDl hRm (w_X5_isProfile h3) (lw_V q1043 q1045 qs21 q44 q1046) hd_X5_isProfile rfl ⟨_, h2⟩ rfl (Nat.le_of_ble_eq_true rfl) (Nat.le_of_ble_eq_true rfl) (Nat.le_of_ble_eq_true rfl) (Nat.le_of_ble_eq_true rfl) (Nat.le_of_ble_eq_true rfl) (Nat.le_of_ble_eq_true rfl) (Nat.le_of_ble_eq_true rfl) rfl dX5_job_2 ?_
  refine J.if_eq (tgt := 32) dX5_job_5 (by decide) (fun hc6 => ?_) (fun hc6 => ?_)
  · replace hf := (if_pos hc6).symm.trans hf
    refine J.bipush (v := (-2)) dX5_job_32 (by decide) ?_
    obtain ⟨rfl, rfl⟩ := jso hf
    exact J.iret hE (Nat.le_of_ble_eq_true rfl) (Nat.le_of_ble_eq_true rfl) dX5_job_34
  · replace hf := (if_neg hc6).symm.trans hf
    refine J.iload_n (i := 2) dX5_job_8 rfl rfl ?_
    refine J.i2l dX5_job_9 ?_
    refine J.lconst (v := 1) dX5_job_10 (by decide) ?_
    refine J.ldc2 q1047 dX5_job_11 ?_
    replace hf := jbs hf
    obtain ⟨v9, hp8, h7, hf⟩ := hf
    refine J.callS (As := [.long p2.toInt64, .long (1 : Int64), .long (50 : Int64)]) (k2 := 0) (n2 := 0) hDl hRm (w_X5_in h7) (lw_S q1031 q1032 q44 q1033) hs_X5_in rfl (Nat.le_of_ble_eq_true rfl) (Nat.le_of_ble_eq_true rfl) (Nat.le_of_ble_eq_true rfl) (Nat.le_of_ble_eq_true rfl) (Nat.le_of_ble_eq_true rfl) (Nat.le_of_ble_eq_true rfl) (Nat.le_of_ble_eq_true rfl) rfl dX5_job_14 ?_
    refine J.if_eq (tgt := 32) dX5_job_17 (by decide) (fun hc10 => ?_) (fun hc10 => ?_)
    · replace hf := (if_pos hc10).symm.trans hf
      refine J.bipush (v := (-2)) dX5_job_32 (by decide) ?_
      obtain ⟨rfl, rfl⟩ := jso hf
      exact J.iret hE (Nat.le_of_ble_eq_true rfl) (Nat.le_of_ble_eq_true rfl) dX5_job_34
    · replace hf := (if_neg hc10).symm.trans hf
      refine J.iload_n (i := 3) dX5_job_20 rfl rfl ?_
      refine J.i2l dX5_job_21 ?_
      refine J.lconst (v := 0) dX5_job_22 (by decide) ?_
      refine J.ldc2 q1097 dX5_job_23 ?_
      replace hf := jbs hf
      obtain ⟨v13, hp12, h11, hf⟩ := hf
      refine J.callS (As := [.long p3.toInt64, .long (0 : Int64), .long (1000 : Int64)]) (k2 := 0) (n2 := 0) hDl hRm (w_X5_in h11) (lw_S q1031 q1032 q44 q1033) hs_X5_in rfl (Nat.le_of_ble_eq_true rfl) (Nat.le_of_ble_eq_true rfl) (Nat.le_of_ble_eq_true rfl) (Nat.le_of_ble_eq_true rfl) (Nat.le_of_ble_eq_true rfl) (Nat.le_of_ble_eq_true rfl) (Nat.le_of_ble_eq_true rfl) rfl dX5_job_26 ?_
      refine J.if_ne (tgt := 35) dX5_job_29 (by decide) (fun hc14 => ?_) (fun hc14 => ?_)
      · replace hf := (if_neg hc14).symm.trans hf
        refine J.aload_n (i := 0) dX5_job_35 rfl rfl ?_
        replace hf := jbd hf
        obtain ⟨v15, h16, hf⟩ := hf
        refine J.getI 9 37 in_X5 rfl (Nat.le_of_ble_eq_true rfl) (Or.inl q904) (Or.inl rfl) h16 dX5_job_36 ?_
        refine J.bipush (v := 7) dX5_job_39 (by decide) ?_
        refine J.icmp_ne (tgt := 47) dX5_job_41 (by decide) (fun hc17 => ?_) (fun hc17 => ?_)
        · replace hf := (if_neg hc17).symm.trans hf
          refine J.aload_n (i := 0) dX5_job_47 rfl rfl ?_
          replace hf := jbd hf
          obtain ⟨a18, h19, hf⟩ := hf
          refine J.getA 9 38 in_X5 rfl (Nat.le_of_ble_eq_true rfl) (Or.inl q905) (Or.inl rfl) h19 dX5_job_48 ?_
          refine J.aload_n (i := 0) dX5_job_51 rfl rfl ?_
          replace hf := jbd hf
          obtain ⟨v20, h21, hf⟩ := hf
          refine J.getI 9 37 in_X5 rfl (Nat.le_of_ble_eq_true rfl) (Or.inl q904) (Or.inl rfl) h21 dX5_job_52 ?_
          refine J.iload_n (i := 1) dX5_job_55 rfl rfl ?_
          replace hf := jbd hf
          obtain ⟨hp22, h23, hf⟩ := hf
          refine J.iast h23 dX5_job_56 ?_
          refine J.aload_n (i := 0) dX5_job_57 rfl rfl ?_
          replace hf := jbd hf
          obtain ⟨a24, h25, hf⟩ := hf
          refine J.getA 9 39 in_X5 rfl (Nat.le_of_ble_eq_true rfl) (Or.inl q906) (Or.inl rfl) h25 dX5_job_58 ?_
          refine J.aload_n (i := 0) dX5_job_61 rfl rfl ?_
          replace hf := jbd hf
          obtain ⟨v26, h27, hf⟩ := hf
          refine J.getI 9 37 in_X5 rfl (Nat.le_of_ble_eq_true rfl) (Or.inl q904) (Or.inl rfl) h27 dX5_job_62 ?_
          refine J.iload_n (i := 2) dX5_job_65 rfl rfl ?_
          replace hf := jbd hf
          obtain ⟨hp28, h29, hf⟩ := hf
          refine J.iast h29 dX5_job_66 ?_
          refine J.aload_n (i := 0) dX5_job_67 rfl rfl ?_
          replace hf := jbd hf
          obtain ⟨a30, h31, hf⟩ := hf
          refine J.getA 9 40 in_X5 rfl (Nat.le_of_ble_eq_true rfl) (Or.inl q907) (Or.inl rfl) h31 dX5_job_68 ?_
          refine J.aload_n (i := 0) dX5_job_71 rfl rfl ?_
          replace hf := jbd hf
          obtain ⟨v32, h33, hf⟩ := hf
          refine J.getI 9 37 in_X5 rfl (Nat.le_of_ble_eq_true rfl) (Or.inl q904) (Or.inl rfl) h33 dX5_job_72 ?_
          refine J.iload_n (i := 3) dX5_job_75 rfl rfl ?_
          replace hf := jbd hf
          obtain ⟨hp34, h35, hf⟩ := hf
          refine J.iast h35 dX5_job_76 ?_
          refine J.aload_n (i := 0) dX5_job_77 rfl rfl ?_
          refine J.dup dX5_job_78 rfl ?_
          replace hf := jbd hf
          obtain ⟨v36, h37, hf⟩ := hf
          refine J.getI 9 37 in_X5 rfl (Nat.le_of_ble_eq_true rfl) (Or.inl q904) (Or.inl rfl) h37 dX5_job_79 ?_
          refine J.iconst (v := 1) dX5_job_82 (by decide) ?_
          refine J.iadd dX5_job_83 ?_
          replace hf := jbd hf
          obtain ⟨hp38, h39, hf⟩ := hf
          refine J.put (ty := .int) 9 37 in_X5 ap9 rfl (Nat.le_of_ble_eq_true rfl) (Or.inl q904) (Or.inl rfl) rfl (by decide +kernel) (fun _ => ⟨rfl, rfl⟩) h39 dX5_job_84 ?_
          refine J.aload_n (i := 0) dX5_job_87 rfl rfl ?_
          replace hf := jbd hf
          obtain ⟨v40, h41, hf⟩ := hf
          refine J.getI 9 37 in_X5 rfl (Nat.le_of_ble_eq_true rfl) (Or.inl q904) (Or.inl rfl) h41 dX5_job_88 ?_
          refine J.iconst (v := 1) dX5_job_91 (by decide) ?_
          refine J.isub dX5_job_92 ?_
          obtain ⟨rfl, rfl⟩ := jso hf
          exact J.iret hE (Nat.le_of_ble_eq_true rfl) (Nat.le_of_ble_eq_true rfl) dX5_job_93
        · replace hf := (if_pos hc17).symm.trans hf
          refine J.bipush (v := (-4)) dX5_job_44 (by decide) ?_
          obtain ⟨rfl, rfl⟩ := jso hf
          exact J.iret hE (Nat.le_of_ble_eq_true rfl) (Nat.le_of_ble_eq_true rfl) dX5_job_46
      · replace hf := (if_pos hc14).symm.trans hf
        refine J.bipush (v := (-2)) dX5_job_32 (by decide) ?_
        obtain ⟨rfl, rfl⟩ := jso hf
        exact J.iret hE (Nat.le_of_ble_eq_true rfl) (Nat.le_of_ble_eq_true rfl) dX5_job_34
def rm_X5_change : Room := { frames := 1, cells := 0, slots := 0, locals := 25 }
theorem hd_X5_change : yX5_change.cls = RX5 ∧ yX5_change.cls ≠ "java/lang/invoke/MethodHandle" ∧ yX5_change.cls ≠ "java/lang/invoke/VarHandle" ∧ (parseMethodDescriptor yX5_change.desc).map (fun d => d.parameters.length) = some 1 := by decide +kernel
set_option maxHeartbeats 4000000 in
set_option maxRecDepth 100000 in
theorem w_X5_change {D : va_G} {l : Launch} {hp hpE : jH} {rE : Int32} {this : Nat} {p1 : Int32} (hf : f_X5_change this p1 hp = some (rE, hpE)) : jM D l yX5_change (ws_ yX5_change cX5_change 3 (some .int)) rm_X5_change hp [.ref this, .int p1] (some (.int rE)) hpE := by
  refine jM.of (lv0 := [some (.ref this), some (.int p1), none]) (by decide) (Nat.le_of_ble_eq_true rfl) rfl (fun X hDl hRm hE hX0 => ?_)
  rw [f_X5_change] at hf
  refine J.iload_n (i := 1) dX5_change_0 rfl rfl ?_
  refine J.i2l dX5_change_1 ?_
  refine J.lconst (v := 0) dX5_change_2 (by decide) ?_
  refine J.ldc2 q1086 dX5_change_3 ?_
  replace hf := jbs hf
  obtain ⟨v3, hp2, h1, hf⟩ := hf
  refine J.callS (As := [.long p1.toInt64, .long (0 : Int64), .long (20 : Int64)]) (k2 := 0) (n2 := 0) hDl hRm (w_X5_in h1) (lw_S q1031 q1032 q44 q1033) hs_X5_in rfl (Nat.le_of_ble_eq_true rfl) (Nat.le_of_ble_eq_true rfl) (Nat.le_of_ble_eq_true rfl) (Nat.le_of_ble_eq_true rfl) (Nat.le_of_ble_eq_true rfl) (Nat.le_of_ble_eq_true rfl) (Nat.le_of_ble_eq_true rfl) rfl dX5_change_6 ?_
  refine J.if_ne (tgt := 15) dX5_change_9 (by decide) (fun hc4 => ?_) (fun hc4 => ?_)
  · replace hf := (if_neg hc4).symm.trans hf
    refine J.aload_n (i := 0) dX5_change_15 rfl rfl ?_
    replace hf := jbd hf
    obtain ⟨v5, h6, hf⟩ := hf
    refine J.getI 9 41 in_X5 rfl (Nat.le_of_ble_eq_true rfl) (Or.inl q908) (Or.inl rfl) h6 dX5_change_16 ?_
    refine J.istore_n (i := 2) (lv' := [some (.ref this), some (.int p1), some (.int v5)]) dX5_change_19 rfl (Nat.le_of_ble_eq_true rfl) rfl ?_
    refine J.aload_n (i := 0) dX5_change_20 rfl rfl ?_
    refine J.iload_n (i := 1) dX5_change_21 rfl rfl ?_
    replace hf := jbd hf
    obtain ⟨hp7, h8, hf⟩ := hf
    refine J.put (ty := .int) 9 41 in_X5 ap9 rfl (Nat.le_of_ble_eq_true rfl) (Or.inl q908) (Or.inl rfl) rfl (by decide +kernel) (fun _ => ⟨rfl, rfl⟩) h8 dX5_change_22 ?_
    refine J.iload_n (i := 2) dX5_change_25 rfl rfl ?_
    obtain ⟨rfl, rfl⟩ := jso hf
    exact J.iret hE (Nat.le_of_ble_eq_true rfl) (Nat.le_of_ble_eq_true rfl) dX5_change_26
  · replace hf := (if_pos hc4).symm.trans hf
    refine J.bipush (v := (-2)) dX5_change_12 (by decide) ?_
    obtain ⟨rfl, rfl⟩ := jso hf
    exact J.iret hE (Nat.le_of_ble_eq_true rfl) (Nat.le_of_ble_eq_true rfl) dX5_change_14
def rm_X5_nextRow : Room := { frames := 0, cells := 0, slots := 0, locals := 0 }
theorem hd_X5_nextRow : yX5_nextRow.cls = RX5 ∧ yX5_nextRow.cls ≠ "java/lang/invoke/MethodHandle" ∧ yX5_nextRow.cls ≠ "java/lang/invoke/VarHandle" ∧ (parseMethodDescriptor yX5_nextRow.desc).map (fun d => d.parameters.length) = some 0 := by decide +kernel
set_option maxHeartbeats 4000000 in
set_option maxRecDepth 100000 in
theorem w_X5_nextRow_L107 {D : va_G} {l : Launch} {X : jX} {hp0 hpE : jH} {rE : Int32} (hDl : jDl X D l) (hRm : jRoom X rm_X5_nextRow.frames rm_X5_nextRow.locals rm_X5_nextRow.cells rm_X5_nextRow.slots) (hE : jEnds X (some .boolean) (some (.int rE)) hpE rm_X5_nextRow.cells rm_X5_nextRow.slots) (hX0 : jX0 X hp0) : ∀ (N : Nat) (xa_0 : Nat) (xi_4 : Int32) (xi_5 : Int32) (hp : jH), f_X5_nextRow_L107 N xa_0 xi_4 xi_5 hp = some (rE, hpE) → J X cX5_nextRow 6 yX5_nextRow 0 0 107 [some (.ref xa_0), none, none, none, some (.int xi_4), some (.int xi_5)] [] hp := by
  intro N
  induction N with
  | zero =>
    intro xa_0 xi_4 xi_5 hp hf
    rw [f_X5_nextRow_L107] at hf
    cases hf
  | succ N ih107 =>
    intro xa_0 xi_4 xi_5 hp hf
    rw [f_X5_nextRow_L107] at hf
    refine J.iload dX5_nextRow_107 rfl ?_
    refine J.iload dX5_nextRow_109 rfl ?_
    refine J.icmp_ge (tgt := 153) dX5_nextRow_111 (by decide) (fun hc34 => ?_) (fun hc34 => ?_)
    · replace hf := (if_pos hc34).symm.trans hf
      refine J.iconst (v := 1) dX5_nextRow_153 (by decide) ?_
      obtain ⟨rfl, rfl⟩ := jso hf
      exact J.zret hE narrow_b1 (Nat.le_of_ble_eq_true rfl) (Nat.le_of_ble_eq_true rfl) dX5_nextRow_154
    · replace hf := (if_neg hc34).symm.trans hf
      refine J.aload_n (i := 0) dX5_nextRow_114 rfl rfl ?_
      replace hf := jbd hf
      obtain ⟨a35, h36, hf⟩ := hf
      refine J.getA 9 42 in_X5 rfl (Nat.le_of_ble_eq_true rfl) (Or.inl q909) (Or.inl rfl) h36 dX5_nextRow_115 ?_
      refine J.iload dX5_nextRow_118 rfl ?_
      replace hf := jbd hf
      obtain ⟨v37, h38, hf⟩ := hf
      refine J.iald h38 dX5_nextRow_120 ?_
      refine J.istore_n (i := 3) (lv' := [some (.ref xa_0), none, none, some (.int v37), some (.int xi_4), some (.int xi_5)]) dX5_nextRow_121 rfl (Nat.le_of_ble_eq_true rfl) rfl ?_
      refine J.aload_n (i := 0) dX5_nextRow_122 rfl rfl ?_
      replace hf := jbd hf
      obtain ⟨a39, h40, hf⟩ := hf
      refine J.getA 9 42 in_X5 rfl (Nat.le_of_ble_eq_true rfl) (Or.inl q909) (Or.inl rfl) h40 dX5_nextRow_123 ?_
      refine J.iload dX5_nextRow_126 rfl ?_
      refine J.aload_n (i := 0) dX5_nextRow_128 rfl rfl ?_
      replace hf := jbd hf
      obtain ⟨a41, h42, hf⟩ := hf
      refine J.getA 9 42 in_X5 rfl (Nat.le_of_ble_eq_true rfl) (Or.inl q909) (Or.inl rfl) h42 dX5_nextRow_129 ?_
      refine J.iload dX5_nextRow_132 rfl ?_
      replace hf := jbd hf
      obtain ⟨v43, h44, hf⟩ := hf
      refine J.iald h44 dX5_nextRow_134 ?_
      replace hf := jbd hf
      obtain ⟨hp45, h46, hf⟩ := hf
      refine J.iast h46 dX5_nextRow_135 ?_
      refine J.aload_n (i := 0) dX5_nextRow_136 rfl rfl ?_
      replace hf := jbd hf
      obtain ⟨a47, h48, hf⟩ := hf
      refine J.getA 9 42 in_X5 rfl (Nat.le_of_ble_eq_true rfl) (Or.inl q909) (Or.inl rfl) h48 dX5_nextRow_137 ?_
      refine J.iload dX5_nextRow_140 rfl ?_
      refine J.iload_n (i := 3) dX5_nextRow_142 rfl rfl ?_
      replace hf := jbd hf
      obtain ⟨hp49, h50, hf⟩ := hf
      refine J.iast h50 dX5_nextRow_143 ?_
      refine J.iinc (i := 4) (v := (xi_4 + 1)) (lv' := [some (.ref xa_0), none, none, some (.int v37), some (.int (xi_4 + 1)), some (.int xi_5)]) dX5_nextRow_144 rfl rfl (Nat.le_of_ble_eq_true rfl) rfl ?_
      refine J.iinc (i := 5) (v := (xi_5 + (-1))) (lv' := [some (.ref xa_0), none, none, some (.int v37), some (.int (xi_4 + 1)), some (.int (xi_5 + (-1)))]) dX5_nextRow_147 rfl rfl (Nat.le_of_ble_eq_true rfl) rfl ?_
      refine J.goto (tgt := 107) dX5_nextRow_150 (by decide) ?_
      refine J.mask (lv' := [some (.ref xa_0), none, none, none, some (.int (xi_4 + 1)), some (.int (xi_5 + (-1)))]) [true, false, false, false, true, true] rfl ?_
      exact ih107 _ _ _ _ hf
set_option maxHeartbeats 4000000 in
set_option maxRecDepth 100000 in
theorem w_X5_nextRow_L47 {D : va_G} {l : Launch} {X : jX} {hp0 hpE : jH} {rE : Int32} (hDl : jDl X D l) (hRm : jRoom X rm_X5_nextRow.frames rm_X5_nextRow.locals rm_X5_nextRow.cells rm_X5_nextRow.slots) (hE : jEnds X (some .boolean) (some (.int rE)) hpE rm_X5_nextRow.cells rm_X5_nextRow.slots) (hX0 : jX0 X hp0) : ∀ (N : Nat) (xa_0 : Nat) (xi_1 : Int32) (xi_2 : Int32) (hp : jH), f_X5_nextRow_L47 N xa_0 xi_1 xi_2 hp = some (rE, hpE) → J X cX5_nextRow 6 yX5_nextRow 0 0 47 [some (.ref xa_0), some (.int xi_1), some (.int xi_2), none, none, none] [] hp := by
  intro N
  induction N with
  | zero =>
    intro xa_0 xi_1 xi_2 hp hf
    rw [f_X5_nextRow_L47] at hf
    cases hf
  | succ N ih47 =>
    intro xa_0 xi_1 xi_2 hp hf
    rw [f_X5_nextRow_L47] at hf
    refine J.aload_n (i := 0) dX5_nextRow_47 rfl rfl ?_
    replace hf := jbd hf
    obtain ⟨a7, h8, hf⟩ := hf
    refine J.getA 9 42 in_X5 rfl (Nat.le_of_ble_eq_true rfl) (Or.inl q909) (Or.inl rfl) h8 dX5_nextRow_48 ?_
    refine J.iload_n (i := 2) dX5_nextRow_51 rfl rfl ?_
    replace hf := jbd hf
    obtain ⟨v9, h10, hf⟩ := hf
    refine J.iald h10 dX5_nextRow_52 ?_
    refine J.aload_n (i := 0) dX5_nextRow_53 rfl rfl ?_
    replace hf := jbd hf
    obtain ⟨a11, h12, hf⟩ := hf
    refine J.getA 9 42 in_X5 rfl (Nat.le_of_ble_eq_true rfl) (Or.inl q909) (Or.inl rfl) h12 dX5_nextRow_54 ?_
    refine J.iload_n (i := 1) dX5_nextRow_57 rfl rfl ?_
    replace hf := jbd hf
    obtain ⟨v13, h14, hf⟩ := hf
    refine J.iald h14 dX5_nextRow_58 ?_
    refine J.icmp_ge (tgt := 68) dX5_nextRow_59 (by decide) (fun hc15 => ?_) (fun hc15 => ?_)
    · replace hf := (if_pos hc15).symm.trans hf
      refine J.aload_n (i := 0) dX5_nextRow_68 rfl rfl ?_
      replace hf := jbd hf
      obtain ⟨a16, h17, hf⟩ := hf
      refine J.getA 9 42 in_X5 rfl (Nat.le_of_ble_eq_true rfl) (Or.inl q909) (Or.inl rfl) h17 dX5_nextRow_69 ?_
      refine J.iload_n (i := 1) dX5_nextRow_72 rfl rfl ?_
      replace hf := jbd hf
      obtain ⟨v18, h19, hf⟩ := hf
      refine J.iald h19 dX5_nextRow_73 ?_
      refine J.istore_n (i := 3) (lv' := [some (.ref xa_0), some (.int xi_1), some (.int xi_2), some (.int v18), none, none]) dX5_nextRow_74 rfl (Nat.le_of_ble_eq_true rfl) rfl ?_
      refine J.aload_n (i := 0) dX5_nextRow_75 rfl rfl ?_
      replace hf := jbd hf
      obtain ⟨a20, h21, hf⟩ := hf
      refine J.getA 9 42 in_X5 rfl (Nat.le_of_ble_eq_true rfl) (Or.inl q909) (Or.inl rfl) h21 dX5_nextRow_76 ?_
      refine J.iload_n (i := 1) dX5_nextRow_79 rfl rfl ?_
      refine J.aload_n (i := 0) dX5_nextRow_80 rfl rfl ?_
      replace hf := jbd hf
      obtain ⟨a22, h23, hf⟩ := hf
      refine J.getA 9 42 in_X5 rfl (Nat.le_of_ble_eq_true rfl) (Or.inl q909) (Or.inl rfl) h23 dX5_nextRow_81 ?_
      refine J.iload_n (i := 2) dX5_nextRow_84 rfl rfl ?_
      replace hf := jbd hf
      obtain ⟨v24, h25, hf⟩ := hf
      refine J.iald h25 dX5_nextRow_85 ?_
      replace hf := jbd hf
      obtain ⟨hp26, h27, hf⟩ := hf
      refine J.iast h27 dX5_nextRow_86 ?_
      refine J.aload_n (i := 0) dX5_nextRow_87 rfl rfl ?_
      replace hf := jbd hf
      obtain ⟨a28, h29, hf⟩ := hf
      refine J.getA 9 42 in_X5 rfl (Nat.le_of_ble_eq_true rfl) (Or.inl q909) (Or.inl rfl) h29 dX5_nextRow_88 ?_
      refine J.iload_n (i := 2) dX5_nextRow_91 rfl rfl ?_
      refine J.iload_n (i := 3) dX5_nextRow_92 rfl rfl ?_
      replace hf := jbd hf
      obtain ⟨hp30, h31, hf⟩ := hf
      refine J.iast h31 dX5_nextRow_93 ?_
      refine J.iload_n (i := 1) dX5_nextRow_94 rfl rfl ?_
      refine J.iconst (v := 1) dX5_nextRow_95 (by decide) ?_
      refine J.iadd dX5_nextRow_96 ?_
      refine J.istore (i := 4) (lv' := [some (.ref xa_0), some (.int xi_1), some (.int xi_2), some (.int v18), some (.int (xi_1 + 1)), none]) dX5_nextRow_97 (Nat.le_of_ble_eq_true rfl) rfl ?_
      refine J.aload_n (i := 0) dX5_nextRow_99 rfl rfl ?_
      replace hf := jbd hf
      obtain ⟨v32, h33, hf⟩ := hf
      refine J.getI 9 37 in_X5 rfl (Nat.le_of_ble_eq_true rfl) (Or.inl q904) (Or.inl rfl) h33 dX5_nextRow_100 ?_
      refine J.iconst (v := 1) dX5_nextRow_103 (by decide) ?_
      refine J.isub dX5_nextRow_104 ?_
      refine J.istore (i := 5) (lv' := [some (.ref xa_0), some (.int xi_1), some (.int xi_2), some (.int v18), some (.int (xi_1 + 1)), some (.int (v32 - 1))]) dX5_nextRow_105 (Nat.le_of_ble_eq_true rfl) rfl ?_
      refine J.mask (lv' := [some (.ref xa_0), none, none, none, some (.int (xi_1 + 1)), some (.int (v32 - 1))]) [true, false, false, false, true, true] rfl ?_
      exact w_X5_nextRow_L107 hDl hRm hE hX0 _ _ _ _ _ hf
    · replace hf := (if_neg hc15).symm.trans hf
      refine J.iinc (i := 2) (v := (xi_2 + (-1))) (lv' := [some (.ref xa_0), some (.int xi_1), some (.int (xi_2 + (-1))), none, none, none]) dX5_nextRow_62 rfl rfl (Nat.le_of_ble_eq_true rfl) rfl ?_
      refine J.goto (tgt := 47) dX5_nextRow_65 (by decide) ?_
      exact ih47 _ _ _ _ hf
set_option maxHeartbeats 4000000 in
set_option maxRecDepth 100000 in
theorem w_X5_nextRow_j34 {D : va_G} {l : Launch} {X : jX} {hp0 hpE : jH} {rE : Int32} (hDl : jDl X D l) (hRm : jRoom X rm_X5_nextRow.frames rm_X5_nextRow.locals rm_X5_nextRow.cells rm_X5_nextRow.slots) (hE : jEnds X (some .boolean) (some (.int rE)) hpE rm_X5_nextRow.cells rm_X5_nextRow.slots) (hX0 : jX0 X hp0) {xa_0 : Nat} {xi_1 : Int32} {hp : jH} (hf : f_X5_nextRow_j34 xa_0 xi_1 hp = some (rE, hpE)) : J X cX5_nextRow 6 yX5_nextRow 0 0 34 [some (.ref xa_0), some (.int xi_1), none, none, none, none] [] hp := by
  rw [f_X5_nextRow_j34] at hf
  refine J.iload_n (i := 1) dX5_nextRow_34 rfl rfl ?_
  refine J.if_ge (tgt := 40) dX5_nextRow_35 (by decide) (fun hc4 => ?_) (fun hc4 => ?_)
  · replace hf := (if_pos hc4).symm.trans hf
    refine J.aload_n (i := 0) dX5_nextRow_40 rfl rfl ?_
    replace hf := jbd hf
    obtain ⟨v5, h6, hf⟩ := hf
    refine J.getI 9 37 in_X5 rfl (Nat.le_of_ble_eq_true rfl) (Or.inl q904) (Or.inl rfl) h6 dX5_nextRow_41 ?_
    refine J.iconst (v := 1) dX5_nextRow_44 (by decide) ?_
    refine J.isub dX5_nextRow_45 ?_
    refine J.istore_n (i := 2) (lv' := [some (.ref xa_0), some (.int xi_1), some (.int (v5 - 1)), none, none, none]) dX5_nextRow_46 rfl (Nat.le_of_ble_eq_true rfl) rfl ?_
    exact w_X5_nextRow_L47 hDl hRm hE hX0 _ _ _ _ _ hf
  · replace hf := (if_neg hc4).symm.trans hf
    refine J.iconst (v := 0) dX5_nextRow_38 (by decide) ?_
    obtain ⟨rfl, rfl⟩ := jso hf
    exact J.zret hE narrow_b0 (Nat.le_of_ble_eq_true rfl) (Nat.le_of_ble_eq_true rfl) dX5_nextRow_39
set_option maxHeartbeats 4000000 in
set_option maxRecDepth 100000 in
theorem w_X5_nextRow_L7 {D : va_G} {l : Launch} {X : jX} {hp0 hpE : jH} {rE : Int32} (hDl : jDl X D l) (hRm : jRoom X rm_X5_nextRow.frames rm_X5_nextRow.locals rm_X5_nextRow.cells rm_X5_nextRow.slots) (hE : jEnds X (some .boolean) (some (.int rE)) hpE rm_X5_nextRow.cells rm_X5_nextRow.slots) (hX0 : jX0 X hp0) : ∀ (N : Nat) (xa_0 : Nat) (xi_1 : Int32) (hp : jH), f_X5_nextRow_L7 N xa_0 xi_1 hp = some (rE, hpE) → J X cX5_nextRow 6 yX5_nextRow 0 0 7 [some (.ref xa_0), some (.int xi_1), none, none, none, none] [] hp := by
  intro N
  induction N with
  | zero =>
    intro xa_0 xi_1 hp hf
    rw [f_X5_nextRow_L7] at hf
    cases hf
  | succ N ih7 =>
    intro xa_0 xi_1 hp hf
    rw [f_X5_nextRow_L7] at hf
    refine J.iload_n (i := 1) dX5_nextRow_7 rfl rfl ?_
    refine J.if_lt (tgt := 34) dX5_nextRow_8 (by decide) (fun hc3 => ?_) (fun hc3 => ?_)
    · replace hf := (if_pos hc3).symm.trans hf
      exact w_X5_nextRow_j34 hDl hRm hE hX0 hf
    · replace hf := (if_neg hc3).symm.trans hf
      refine J.aload_n (i := 0) dX5_nextRow_11 rfl rfl ?_
      replace hf := jbd hf
      obtain ⟨a51, h52, hf⟩ := hf
      refine J.getA 9 42 in_X5 rfl (Nat.le_of_ble_eq_true rfl) (Or.inl q909) (Or.inl rfl) h52 dX5_nextRow_12 ?_
      refine J.iload_n (i := 1) dX5_nextRow_15 rfl rfl ?_
      replace hf := jbd hf
      obtain ⟨v53, h54, hf⟩ := hf
      refine J.iald h54 dX5_nextRow_16 ?_
      refine J.aload_n (i := 0) dX5_nextRow_17 rfl rfl ?_
      replace hf := jbd hf
      obtain ⟨a55, h56, hf⟩ := hf
      refine J.getA 9 42 in_X5 rfl (Nat.le_of_ble_eq_true rfl) (Or.inl q909) (Or.inl rfl) h56 dX5_nextRow_18 ?_
      refine J.iload_n (i := 1) dX5_nextRow_21 rfl rfl ?_
      refine J.iconst (v := 1) dX5_nextRow_22 (by decide) ?_
      refine J.iadd dX5_nextRow_23 ?_
      replace hf := jbd hf
      obtain ⟨v57, h58, hf⟩ := hf
      refine J.iald h58 dX5_nextRow_24 ?_
      refine J.icmp_le (tgt := 34) dX5_nextRow_25 (by decide) (fun hc59 => ?_) (fun hc59 => ?_)
      · replace hf := (if_pos hc59).symm.trans hf
        exact w_X5_nextRow_j34 hDl hRm hE hX0 hf
      · replace hf := (if_neg hc59).symm.trans hf
        refine J.iinc (i := 1) (v := (xi_1 + (-1))) (lv' := [some (.ref xa_0), some (.int (xi_1 + (-1))), none, none, none, none]) dX5_nextRow_28 rfl rfl (Nat.le_of_ble_eq_true rfl) rfl ?_
        refine J.goto (tgt := 7) dX5_nextRow_31 (by decide) ?_
        exact ih7 _ _ _ hf
set_option maxHeartbeats 4000000 in
set_option maxRecDepth 100000 in
theorem w_X5_nextRow {D : va_G} {l : Launch} {hp hpE : jH} {rE : Int32} {this : Nat} (hf : f_X5_nextRow this hp = some (rE, hpE)) : jM D l yX5_nextRow (ws_ yX5_nextRow cX5_nextRow 6 (some .boolean)) rm_X5_nextRow hp [.ref this] (some (.int rE)) hpE := by
  refine jM.of (lv0 := [some (.ref this), none, none, none, none, none]) (by decide) (Nat.le_of_ble_eq_true rfl) rfl (fun X hDl hRm hE hX0 => ?_)
  rw [f_X5_nextRow] at hf
  refine J.aload_n (i := 0) dX5_nextRow_0 rfl rfl ?_
  replace hf := jbd hf
  obtain ⟨v1, h2, hf⟩ := hf
  refine J.getI 9 37 in_X5 rfl (Nat.le_of_ble_eq_true rfl) (Or.inl q904) (Or.inl rfl) h2 dX5_nextRow_1 ?_
  refine J.iconst (v := 2) dX5_nextRow_4 (by decide) ?_
  refine J.isub dX5_nextRow_5 ?_
  refine J.istore_n (i := 1) (lv' := [some (.ref this), some (.int (v1 - 2)), none, none, none, none]) dX5_nextRow_6 rfl (Nat.le_of_ble_eq_true rfl) rfl ?_
  exact w_X5_nextRow_L7 hDl hRm hE hX0 _ _ _ _ hf
def rm_X5_findOrder : Room := { frames := 1, cells := 0, slots := 0, locals := 25 }
theorem hd_X5_findOrder : yX5_findOrder.cls = RX5 ∧ yX5_findOrder.cls ≠ "java/lang/invoke/MethodHandle" ∧ yX5_findOrder.cls ≠ "java/lang/invoke/VarHandle" ∧ (parseMethodDescriptor yX5_findOrder.desc).map (fun d => d.parameters.length) = some 0 := by decide +kernel
set_option maxHeartbeats 4000000 in
set_option maxRecDepth 100000 in
theorem w_X5_findOrder_j229 {D : va_G} {l : Launch} {X : jX} {hp0 hpE : jH} {rE : Int32} (hDl : jDl X D l) (hRm : jRoom X rm_X5_findOrder.frames rm_X5_findOrder.locals rm_X5_findOrder.cells rm_X5_findOrder.slots) (hE : jEnds X (some .int) (some (.int rE)) hpE rm_X5_findOrder.cells rm_X5_findOrder.slots) (hX0 : jX0 X hp0) {K40 : Nat → Int32 → Int32 → Int32 → jH → Option (Int32 × jH)} (hK40 : ∀ (xa_0 : Nat) (xi_1 : Int32) (xi_2 : Int32) (xi_3 : Int32) (hp : jH), K40 xa_0 xi_1 xi_2 xi_3 hp = some (rE, hpE) → J X cX5_findOrder 8 yX5_findOrder 0 0 40 [some (.ref xa_0), some (.int xi_1), some (.int xi_2), some (.int xi_3), none, none, none, none] [] hp) {xa_0 : Nat} {xi_1 : Int32} {xi_2 : Int32} {hp : jH} (hf : f_X5_findOrder_j229 K40 xa_0 xi_1 xi_2 hp = some (rE, hpE)) : J X cX5_findOrder 8 yX5_findOrder 0 0 229 [some (.ref xa_0), some (.int xi_1), some (.int xi_2), none, none, none, none, none] [] hp := by
  rw [f_X5_findOrder_j229] at hf
  refine J.aload_n (i := 0) dX5_findOrder_229 rfl rfl ?_
  replace hf := jbd hf
  obtain ⟨u16, h17, hf⟩ := hf
  replace hf := jbs hf
  obtain ⟨v20, hp19, h18, hf⟩ := hf
  refine J.callV (As := []) (k2 := 0) (n2 := 0) 9 hDl hRm (w_X5_nextRow h18) (lw_V q1162 q1164 qs30 q44 q1165) hd_X5_nextRow rfl ⟨_, h17⟩ rfl (Nat.le_of_ble_eq_true rfl) (Nat.le_of_ble_eq_true rfl) (Nat.le_of_ble_eq_true rfl) (Nat.le_of_ble_eq_true rfl) (Nat.le_of_ble_eq_true rfl) (Nat.le_of_ble_eq_true rfl) (Nat.le_of_ble_eq_true rfl) rfl dX5_findOrder_230 ?_
  refine J.istore_n (i := 3) (lv' := [some (.ref xa_0), some (.int xi_1), some (.int xi_2), some (.int v20), none, none, none, none]) dX5_findOrder_233 rfl (Nat.le_of_ble_eq_true rfl) rfl ?_
  refine J.goto (tgt := 40) dX5_findOrder_234 (by decide) ?_
  exact hK40 _ _ _ _ _ hf
set_option maxHeartbeats 4000000 in
set_option maxRecDepth 100000 in
theorem w_X5_findOrder_L200 {D : va_G} {l : Launch} {X : jX} {hp0 hpE : jH} {rE : Int32} (hDl : jDl X D l) (hRm : jRoom X rm_X5_findOrder.frames rm_X5_findOrder.locals rm_X5_findOrder.cells rm_X5_findOrder.slots) (hE : jEnds X (some .int) (some (.int rE)) hpE rm_X5_findOrder.cells rm_X5_findOrder.slots) (hX0 : jX0 X hp0) {K40 : Nat → Int32 → Int32 → Int32 → jH → Option (Int32 × jH)} (hK40 : ∀ (xa_0 : Nat) (xi_1 : Int32) (xi_2 : Int32) (xi_3 : Int32) (hp : jH), K40 xa_0 xi_1 xi_2 xi_3 hp = some (rE, hpE) → J X cX5_findOrder 8 yX5_findOrder 0 0 40 [some (.ref xa_0), some (.int xi_1), some (.int xi_2), some (.int xi_3), none, none, none, none] [] hp) : ∀ (N : Nat) (xa_0 : Nat) (xi_1 : Int32) (xi_2 : Int32) (xi_6 : Int32) (hp : jH), f_X5_findOrder_L200 K40 N xa_0 xi_1 xi_2 xi_6 hp = some (rE, hpE) → J X cX5_findOrder 8 yX5_findOrder 0 0 200 [some (.ref xa_0), some (.int xi_1), some (.int xi_2), none, none, none, some (.int xi_6), none] [] hp := by
  intro N
  induction N with
  | zero =>
    intro xa_0 xi_1 xi_2 xi_6 hp hf
    rw [f_X5_findOrder_L200] at hf
    cases hf
  | succ N ih200 =>
    intro xa_0 xi_1 xi_2 xi_6 hp hf
    rw [f_X5_findOrder_L200] at hf
    refine J.iload dX5_findOrder_200 rfl ?_
    refine J.aload_n (i := 0) dX5_findOrder_202 rfl rfl ?_
    replace hf := jbd hf
    obtain ⟨v13, h14, hf⟩ := hf
    refine J.getI 9 37 in_X5 rfl (Nat.le_of_ble_eq_true rfl) (Or.inl q904) (Or.inl rfl) h14 dX5_findOrder_203 ?_
    refine J.icmp_ge (tgt := 229) dX5_findOrder_206 (by decide) (fun hc15 => ?_) (fun hc15 => ?_)
    · replace hf := (if_pos hc15).symm.trans hf
      refine J.mask (lv' := [some (.ref xa_0), some (.int xi_1), some (.int xi_2), none, none, none, none, none]) [true, true, true, false, false, false, false, false] rfl ?_
      exact w_X5_findOrder_j229 hDl hRm hE hX0 hK40 hf
    · replace hf := (if_neg hc15).symm.trans hf
      refine J.aload_n (i := 0) dX5_findOrder_209 rfl rfl ?_
      replace hf := jbd hf
      obtain ⟨a21, h22, hf⟩ := hf
      refine J.getA 9 43 in_X5 rfl (Nat.le_of_ble_eq_true rfl) (Or.inl q910) (Or.inl rfl) h22 dX5_findOrder_210 ?_
      refine J.iload dX5_findOrder_213 rfl ?_
      refine J.aload_n (i := 0) dX5_findOrder_215 rfl rfl ?_
      replace hf := jbd hf
      obtain ⟨a23, h24, hf⟩ := hf
      refine J.getA 9 42 in_X5 rfl (Nat.le_of_ble_eq_true rfl) (Or.inl q909) (Or.inl rfl) h24 dX5_findOrder_216 ?_
      refine J.iload dX5_findOrder_219 rfl ?_
      replace hf := jbd hf
      obtain ⟨v25, h26, hf⟩ := hf
      refine J.iald h26 dX5_findOrder_221 ?_
      replace hf := jbd hf
      obtain ⟨hp27, h28, hf⟩ := hf
      refine J.iast h28 dX5_findOrder_222 ?_
      refine J.iinc (i := 6) (v := (xi_6 + 1)) (lv' := [some (.ref xa_0), some (.int xi_1), some (.int xi_2), none, none, none, some (.int (xi_6 + 1)), none]) dX5_findOrder_223 rfl rfl (Nat.le_of_ble_eq_true rfl) rfl ?_
      refine J.goto (tgt := 200) dX5_findOrder_226 (by decide) ?_
      exact ih200 _ _ _ _ _ hf
set_option maxHeartbeats 4000000 in
set_option maxRecDepth 100000 in
theorem w_X5_findOrder_j191 {D : va_G} {l : Launch} {X : jX} {hp0 hpE : jH} {rE : Int32} (hDl : jDl X D l) (hRm : jRoom X rm_X5_findOrder.frames rm_X5_findOrder.locals rm_X5_findOrder.cells rm_X5_findOrder.slots) (hE : jEnds X (some .int) (some (.int rE)) hpE rm_X5_findOrder.cells rm_X5_findOrder.slots) (hX0 : jX0 X hp0) {K40 : Nat → Int32 → Int32 → Int32 → jH → Option (Int32 × jH)} (hK40 : ∀ (xa_0 : Nat) (xi_1 : Int32) (xi_2 : Int32) (xi_3 : Int32) (hp : jH), K40 xa_0 xi_1 xi_2 xi_3 hp = some (rE, hpE) → J X cX5_findOrder 8 yX5_findOrder 0 0 40 [some (.ref xa_0), some (.int xi_1), some (.int xi_2), some (.int xi_3), none, none, none, none] [] hp) {xa_0 : Nat} {xi_4 : Int32} {xi_5 : Int32} {hp : jH} (hf : f_X5_findOrder_j191 K40 xa_0 xi_4 xi_5 hp = some (rE, hpE)) : J X cX5_findOrder 8 yX5_findOrder 0 0 191 [some (.ref xa_0), none, none, none, some (.int xi_4), some (.int xi_5), none, none] [] hp := by
  rw [f_X5_findOrder_j191] at hf
  refine J.iload dX5_findOrder_191 rfl ?_
  refine J.istore_n (i := 1) (lv' := [some (.ref xa_0), some (.int xi_5), none, none, some (.int xi_4), some (.int xi_5), none, none]) dX5_findOrder_193 rfl (Nat.le_of_ble_eq_true rfl) rfl ?_
  refine J.iload dX5_findOrder_194 rfl ?_
  refine J.istore_n (i := 2) (lv' := [some (.ref xa_0), some (.int xi_5), some (.int xi_4), none, some (.int xi_4), some (.int xi_5), none, none]) dX5_findOrder_196 rfl (Nat.le_of_ble_eq_true rfl) rfl ?_
  refine J.iconst (v := 0) dX5_findOrder_197 (by decide) ?_
  refine J.istore (i := 6) (lv' := [some (.ref xa_0), some (.int xi_5), some (.int xi_4), none, some (.int xi_4), some (.int xi_5), some (.int 0), none]) dX5_findOrder_198 (Nat.le_of_ble_eq_true rfl) rfl ?_
  refine J.mask (lv' := [some (.ref xa_0), some (.int xi_5), some (.int xi_4), none, none, none, some (.int 0), none]) [true, true, true, false, false, false, true, false] rfl ?_
  exact w_X5_findOrder_L200 hDl hRm hE hX0 hK40 _ _ _ _ _ _ hf
set_option maxHeartbeats 4000000 in
set_option maxRecDepth 100000 in
theorem w_X5_findOrder_j159 {D : va_G} {l : Launch} {X : jX} {hp0 hpE : jH} {rE : Int32} (hDl : jDl X D l) (hRm : jRoom X rm_X5_findOrder.frames rm_X5_findOrder.locals rm_X5_findOrder.cells rm_X5_findOrder.slots) (hE : jEnds X (some .int) (some (.int rE)) hpE rm_X5_findOrder.cells rm_X5_findOrder.slots) (hX0 : jX0 X hp0) {K40 : Nat → Int32 → Int32 → Int32 → jH → Option (Int32 × jH)} (hK40 : ∀ (xa_0 : Nat) (xi_1 : Int32) (xi_2 : Int32) (xi_3 : Int32) (hp : jH), K40 xa_0 xi_1 xi_2 xi_3 hp = some (rE, hpE) → J X cX5_findOrder 8 yX5_findOrder 0 0 40 [some (.ref xa_0), some (.int xi_1), some (.int xi_2), some (.int xi_3), none, none, none, none] [] hp) {K53 : Nat → Int32 → Int32 → Int32 → Int32 → Int32 → jH → Option (Int32 × jH)} (hK53 : ∀ (xa_0 : Nat) (xi_1 : Int32) (xi_2 : Int32) (xi_4 : Int32) (xi_5 : Int32) (xi_6 : Int32) (hp : jH), K53 xa_0 xi_1 xi_2 xi_4 xi_5 xi_6 hp = some (rE, hpE) → J X cX5_findOrder 8 yX5_findOrder 0 0 53 [some (.ref xa_0), some (.int xi_1), some (.int xi_2), none, some (.int xi_4), some (.int xi_5), some (.int xi_6), none] [] hp) {xa_0 : Nat} {xi_1 : Int32} {xi_2 : Int32} {xi_4 : Int32} {xi_6 : Int32} {xi_s0 : Int32} {xi_s1 : Int32} {hp : jH} (hf : f_X5_findOrder_j159 K40 K53 xa_0 xi_1 xi_2 xi_4 xi_6 xi_s0 xi_s1 hp = some (rE, hpE)) : J X cX5_findOrder 8 yX5_findOrder 0 0 159 [some (.ref xa_0), some (.int xi_1), some (.int xi_2), none, some (.int xi_4), none, some (.int xi_6), none] [.int xi_s1, .int xi_s0] hp := by
  rw [f_X5_findOrder_j159] at hf
  refine J.iadd dX5_findOrder_159 ?_
  refine J.istore (i := 5) (lv' := [some (.ref xa_0), some (.int xi_1), some (.int xi_2), none, some (.int xi_4), some (.int (xi_s0 + xi_s1)), some (.int xi_6), none]) dX5_findOrder_160 (Nat.le_of_ble_eq_true rfl) rfl ?_
  refine J.iinc (i := 6) (v := (xi_6 + 1)) (lv' := [some (.ref xa_0), some (.int xi_1), some (.int xi_2), none, some (.int xi_4), some (.int (xi_s0 + xi_s1)), some (.int (xi_6 + 1)), none]) dX5_findOrder_162 rfl rfl (Nat.le_of_ble_eq_true rfl) rfl ?_
  refine J.goto (tgt := 53) dX5_findOrder_165 (by decide) ?_
  exact hK53 _ _ _ _ _ _ _ hf
set_option maxHeartbeats 4000000 in
set_option maxRecDepth 100000 in
theorem w_X5_findOrder_j119 {D : va_G} {l : Launch} {X : jX} {hp0 hpE : jH} {rE : Int32} (hDl : jDl X D l) (hRm : jRoom X rm_X5_findOrder.frames rm_X5_findOrder.locals rm_X5_findOrder.cells rm_X5_findOrder.slots) (hE : jEnds X (some .int) (some (.int rE)) hpE rm_X5_findOrder.cells rm_X5_findOrder.slots) (hX0 : jX0 X hp0) {K40 : Nat → Int32 → Int32 → Int32 → jH → Option (Int32 × jH)} (hK40 : ∀ (xa_0 : Nat) (xi_1 : Int32) (xi_2 : Int32) (xi_3 : Int32) (hp : jH), K40 xa_0 xi_1 xi_2 xi_3 hp = some (rE, hpE) → J X cX5_findOrder 8 yX5_findOrder 0 0 40 [some (.ref xa_0), some (.int xi_1), some (.int xi_2), some (.int xi_3), none, none, none, none] [] hp) {K53 : Nat → Int32 → Int32 → Int32 → Int32 → Int32 → jH → Option (Int32 × jH)} (hK53 : ∀ (xa_0 : Nat) (xi_1 : Int32) (xi_2 : Int32) (xi_4 : Int32) (xi_5 : Int32) (xi_6 : Int32) (hp : jH), K53 xa_0 xi_1 xi_2 xi_4 xi_5 xi_6 hp = some (rE, hpE) → J X cX5_findOrder 8 yX5_findOrder 0 0 53 [some (.ref xa_0), some (.int xi_1), some (.int xi_2), none, some (.int xi_4), some (.int xi_5), some (.int xi_6), none] [] hp) {xa_0 : Nat} {xi_1 : Int32} {xi_2 : Int32} {xi_4 : Int32} {xi_5 : Int32} {xi_6 : Int32} {xi_7 : Int32} {hp : jH} (hf : f_X5_findOrder_j119 K40 K53 xa_0 xi_1 xi_2 xi_4 xi_5 xi_6 xi_7 hp = some (rE, hpE)) : J X cX5_findOrder 8 yX5_findOrder 0 0 119 [some (.ref xa_0), some (.int xi_1), some (.int xi_2), none, some (.int xi_4), some (.int xi_5), some (.int xi_6), some (.int xi_7)] [] hp := by
  rw [f_X5_findOrder_j119] at hf
  refine J.iload dX5_findOrder_119 rfl ?_
  refine J.aload_n (i := 0) dX5_findOrder_121 rfl rfl ?_
  replace hf := jbd hf
  obtain ⟨a37, h38, hf⟩ := hf
  refine J.getA 9 39 in_X5 rfl (Nat.le_of_ble_eq_true rfl) (Or.inl q906) (Or.inl rfl) h38 dX5_findOrder_122 ?_
  refine J.iload dX5_findOrder_125 rfl ?_
  replace hf := jbd hf
  obtain ⟨v39, h40, hf⟩ := hf
  refine J.iald h40 dX5_findOrder_127 ?_
  refine J.iadd dX5_findOrder_128 ?_
  refine J.istore (i := 4) (lv' := [some (.ref xa_0), some (.int xi_1), some (.int xi_2), none, some (.int (xi_4 + v39)), some (.int xi_5), some (.int xi_6), some (.int xi_7)]) dX5_findOrder_129 (Nat.le_of_ble_eq_true rfl) rfl ?_
  refine J.iload dX5_findOrder_131 rfl ?_
  refine J.iload dX5_findOrder_133 rfl ?_
  refine J.aload_n (i := 0) dX5_findOrder_135 rfl rfl ?_
  replace hf := jbd hf
  obtain ⟨a41, h42, hf⟩ := hf
  refine J.getA 9 40 in_X5 rfl (Nat.le_of_ble_eq_true rfl) (Or.inl q907) (Or.inl rfl) h42 dX5_findOrder_136 ?_
  refine J.iload dX5_findOrder_139 rfl ?_
  replace hf := jbd hf
  obtain ⟨v43, h44, hf⟩ := hf
  refine J.iald h44 dX5_findOrder_141 ?_
  refine J.icmp_le (tgt := 158) dX5_findOrder_142 (by decide) (fun hc45 => ?_) (fun hc45 => ?_)
  · replace hf := (if_pos hc45).symm.trans hf
    refine J.iconst (v := 0) dX5_findOrder_158 (by decide) ?_
    refine J.mask (lv' := [some (.ref xa_0), some (.int xi_1), some (.int xi_2), none, some (.int (xi_4 + v39)), none, some (.int xi_6), none]) [true, true, true, false, true, false, true, false] rfl ?_
    exact w_X5_findOrder_j159 hDl hRm hE hX0 hK40 hK53 hf
  · replace hf := (if_neg hc45).symm.trans hf
    refine J.iload dX5_findOrder_145 rfl ?_
    refine J.aload_n (i := 0) dX5_findOrder_147 rfl rfl ?_
    replace hf := jbd hf
    obtain ⟨a46, h47, hf⟩ := hf
    refine J.getA 9 40 in_X5 rfl (Nat.le_of_ble_eq_true rfl) (Or.inl q907) (Or.inl rfl) h47 dX5_findOrder_148 ?_
    refine J.iload dX5_findOrder_151 rfl ?_
    replace hf := jbd hf
    obtain ⟨v48, h49, hf⟩ := hf
    refine J.iald h49 dX5_findOrder_153 ?_
    refine J.isub dX5_findOrder_154 ?_
    refine J.goto (tgt := 159) dX5_findOrder_155 (by decide) ?_
    refine J.mask (lv' := [some (.ref xa_0), some (.int xi_1), some (.int xi_2), none, some (.int (xi_4 + v39)), none, some (.int xi_6), none]) [true, true, true, false, true, false, true, false] rfl ?_
    exact w_X5_findOrder_j159 hDl hRm hE hX0 hK40 hK53 hf
set_option maxHeartbeats 4000000 in
set_option maxRecDepth 100000 in
theorem w_X5_findOrder_L53 {D : va_G} {l : Launch} {X : jX} {hp0 hpE : jH} {rE : Int32} (hDl : jDl X D l) (hRm : jRoom X rm_X5_findOrder.frames rm_X5_findOrder.locals rm_X5_findOrder.cells rm_X5_findOrder.slots) (hE : jEnds X (some .int) (some (.int rE)) hpE rm_X5_findOrder.cells rm_X5_findOrder.slots) (hX0 : jX0 X hp0) {K40 : Nat → Int32 → Int32 → Int32 → jH → Option (Int32 × jH)} (hK40 : ∀ (xa_0 : Nat) (xi_1 : Int32) (xi_2 : Int32) (xi_3 : Int32) (hp : jH), K40 xa_0 xi_1 xi_2 xi_3 hp = some (rE, hpE) → J X cX5_findOrder 8 yX5_findOrder 0 0 40 [some (.ref xa_0), some (.int xi_1), some (.int xi_2), some (.int xi_3), none, none, none, none] [] hp) : ∀ (N : Nat) (xa_0 : Nat) (xi_1 : Int32) (xi_2 : Int32) (xi_4 : Int32) (xi_5 : Int32) (xi_6 : Int32) (hp : jH), f_X5_findOrder_L53 K40 N xa_0 xi_1 xi_2 xi_4 xi_5 xi_6 hp = some (rE, hpE) → J X cX5_findOrder 8 yX5_findOrder 0 0 53 [some (.ref xa_0), some (.int xi_1), some (.int xi_2), none, some (.int xi_4), some (.int xi_5), some (.int xi_6), none] [] hp := by
  intro N
  induction N with
  | zero =>
    intro xa_0 xi_1 xi_2 xi_4 xi_5 xi_6 hp hf
    rw [f_X5_findOrder_L53] at hf
    cases hf
  | succ N ih53 =>
    intro xa_0 xi_1 xi_2 xi_4 xi_5 xi_6 hp hf
    rw [f_X5_findOrder_L53] at hf
    refine J.iload dX5_findOrder_53 rfl ?_
    refine J.aload_n (i := 0) dX5_findOrder_55 rfl rfl ?_
    replace hf := jbd hf
    obtain ⟨v9, h10, hf⟩ := hf
    refine J.getI 9 37 in_X5 rfl (Nat.le_of_ble_eq_true rfl) (Or.inl q904) (Or.inl rfl) h10 dX5_findOrder_56 ?_
    refine J.icmp_ge (tgt := 168) dX5_findOrder_59 (by decide) (fun hc11 => ?_) (fun hc11 => ?_)
    · replace hf := (if_pos hc11).symm.trans hf
      refine J.iload_n (i := 1) dX5_findOrder_168 rfl rfl ?_
      refine J.iconst (v := (-1)) dX5_findOrder_169 (by decide) ?_
      refine J.icmp_eq (tgt := 191) dX5_findOrder_170 (by decide) (fun hc12 => ?_) (fun hc12 => ?_)
      · replace hf := (if_pos hc12).symm.trans hf
        refine J.mask (lv' := [some (.ref xa_0), none, none, none, some (.int xi_4), some (.int xi_5), none, none]) [true, false, false, false, true, true, false, false] rfl ?_
        exact w_X5_findOrder_j191 hDl hRm hE hX0 hK40 hf
      · replace hf := (if_neg hc12).symm.trans hf
        refine J.iload dX5_findOrder_173 rfl ?_
        refine J.iload_n (i := 1) dX5_findOrder_175 rfl rfl ?_
        refine J.icmp_lt (tgt := 191) dX5_findOrder_176 (by decide) (fun hc29 => ?_) (fun hc29 => ?_)
        · replace hf := (if_pos hc29).symm.trans hf
          refine J.mask (lv' := [some (.ref xa_0), none, none, none, some (.int xi_4), some (.int xi_5), none, none]) [true, false, false, false, true, true, false, false] rfl ?_
          exact w_X5_findOrder_j191 hDl hRm hE hX0 hK40 hf
        · replace hf := (if_neg hc29).symm.trans hf
          refine J.iload dX5_findOrder_179 rfl ?_
          refine J.iload_n (i := 1) dX5_findOrder_181 rfl rfl ?_
          refine J.icmp_ne (tgt := 229) dX5_findOrder_182 (by decide) (fun hc30 => ?_) (fun hc30 => ?_)
          · replace hf := (if_neg hc30).symm.trans hf
            refine J.mask (lv' := [some (.ref xa_0), some (.int xi_1), some (.int xi_2), none, none, none, none, none]) [true, true, true, false, false, false, false, false] rfl ?_
            exact w_X5_findOrder_j229 hDl hRm hE hX0 hK40 hf
          · replace hf := (if_pos hc30).symm.trans hf
            refine J.iload dX5_findOrder_185 rfl ?_
            refine J.iload_n (i := 2) dX5_findOrder_187 rfl rfl ?_
            refine J.icmp_ge (tgt := 229) dX5_findOrder_188 (by decide) (fun hc31 => ?_) (fun hc31 => ?_)
            · replace hf := (if_pos hc31).symm.trans hf
              refine J.mask (lv' := [some (.ref xa_0), some (.int xi_1), some (.int xi_2), none, none, none, none, none]) [true, true, true, false, false, false, false, false] rfl ?_
              exact w_X5_findOrder_j229 hDl hRm hE hX0 hK40 hf
            · replace hf := (if_neg hc31).symm.trans hf
              refine J.mask (lv' := [some (.ref xa_0), none, none, none, some (.int xi_4), some (.int xi_5), none, none]) [true, false, false, false, true, true, false, false] rfl ?_
              exact w_X5_findOrder_j191 hDl hRm hE hX0 hK40 hf
    · replace hf := (if_neg hc11).symm.trans hf
      refine J.aload_n (i := 0) dX5_findOrder_62 rfl rfl ?_
      replace hf := jbd hf
      obtain ⟨a32, h33, hf⟩ := hf
      refine J.getA 9 42 in_X5 rfl (Nat.le_of_ble_eq_true rfl) (Or.inl q909) (Or.inl rfl) h33 dX5_findOrder_63 ?_
      refine J.iload dX5_findOrder_66 rfl ?_
      replace hf := jbd hf
      obtain ⟨v34, h35, hf⟩ := hf
      refine J.iald h35 dX5_findOrder_68 ?_
      refine J.istore (i := 7) (lv' := [some (.ref xa_0), some (.int xi_1), some (.int xi_2), none, some (.int xi_4), some (.int xi_5), some (.int xi_6), some (.int v34)]) dX5_findOrder_69 (Nat.le_of_ble_eq_true rfl) rfl ?_
      refine J.iload dX5_findOrder_71 rfl ?_
      refine J.if_le (tgt := 119) dX5_findOrder_73 (by decide) (fun hc36 => ?_) (fun hc36 => ?_)
      · replace hf := (if_pos hc36).symm.trans hf
        exact w_X5_findOrder_j119 hDl hRm hE hX0 hK40 (fun z0 z1 z2 z3 z4 z5 z6 hz => ih53 z0 z1 z2 z3 z4 z5 z6 hz) hf
      · replace hf := (if_neg hc36).symm.trans hf
        refine J.aload_n (i := 0) dX5_findOrder_76 rfl rfl ?_
        replace hf := jbd hf
        obtain ⟨a50, h51, hf⟩ := hf
        refine J.getA 9 2 in_X5 rfl (Nat.le_of_ble_eq_true rfl) (Or.inl q869) (Or.inl rfl) h51 dX5_findOrder_77 ?_
        refine J.aload_n (i := 0) dX5_findOrder_80 rfl rfl ?_
        replace hf := jbd hf
        obtain ⟨a52, h53, hf⟩ := hf
        refine J.getA 9 38 in_X5 rfl (Nat.le_of_ble_eq_true rfl) (Or.inl q905) (Or.inl rfl) h53 dX5_findOrder_81 ?_
        refine J.iload dX5_findOrder_84 rfl ?_
        replace hf := jbd hf
        obtain ⟨v54, h55, hf⟩ := hf
        refine J.iald h55 dX5_findOrder_86 ?_
        replace hf := jbd hf
        obtain ⟨v56, h57, hf⟩ := hf
        refine J.iald h57 dX5_findOrder_87 ?_
        refine J.aload_n (i := 0) dX5_findOrder_88 rfl rfl ?_
        replace hf := jbd hf
        obtain ⟨a58, h59, hf⟩ := hf
        refine J.getA 9 2 in_X5 rfl (Nat.le_of_ble_eq_true rfl) (Or.inl q869) (Or.inl rfl) h59 dX5_findOrder_89 ?_
        refine J.aload_n (i := 0) dX5_findOrder_92 rfl rfl ?_
        replace hf := jbd hf
        obtain ⟨a60, h61, hf⟩ := hf
        refine J.getA 9 38 in_X5 rfl (Nat.le_of_ble_eq_true rfl) (Or.inl q905) (Or.inl rfl) h61 dX5_findOrder_93 ?_
        refine J.aload_n (i := 0) dX5_findOrder_96 rfl rfl ?_
        replace hf := jbd hf
        obtain ⟨a62, h63, hf⟩ := hf
        refine J.getA 9 42 in_X5 rfl (Nat.le_of_ble_eq_true rfl) (Or.inl q909) (Or.inl rfl) h63 dX5_findOrder_97 ?_
        refine J.iload dX5_findOrder_100 rfl ?_
        refine J.iconst (v := 1) dX5_findOrder_102 (by decide) ?_
        refine J.isub dX5_findOrder_103 ?_
        replace hf := jbd hf
        obtain ⟨v64, h65, hf⟩ := hf
        refine J.iald h65 dX5_findOrder_104 ?_
        replace hf := jbd hf
        obtain ⟨v66, h67, hf⟩ := hf
        refine J.iald h67 dX5_findOrder_105 ?_
        replace hf := jbd hf
        obtain ⟨v68, h69, hf⟩ := hf
        refine J.iald h69 dX5_findOrder_106 ?_
        refine J.icmp_eq (tgt := 119) dX5_findOrder_107 (by decide) (fun hc70 => ?_) (fun hc70 => ?_)
        · replace hf := (if_pos hc70).symm.trans hf
          exact w_X5_findOrder_j119 hDl hRm hE hX0 hK40 (fun z0 z1 z2 z3 z4 z5 z6 hz => ih53 z0 z1 z2 z3 z4 z5 z6 hz) hf
        · replace hf := (if_neg hc70).symm.trans hf
          refine J.iload dX5_findOrder_110 rfl ?_
          refine J.aload_n (i := 0) dX5_findOrder_112 rfl rfl ?_
          replace hf := jbd hf
          obtain ⟨v71, h72, hf⟩ := hf
          refine J.getI 9 41 in_X5 rfl (Nat.le_of_ble_eq_true rfl) (Or.inl q908) (Or.inl rfl) h72 dX5_findOrder_113 ?_
          refine J.iadd dX5_findOrder_116 ?_
          refine J.istore (i := 4) (lv' := [some (.ref xa_0), some (.int xi_1), some (.int xi_2), none, some (.int (xi_4 + v71)), some (.int xi_5), some (.int xi_6), some (.int v34)]) dX5_findOrder_117 (Nat.le_of_ble_eq_true rfl) rfl ?_
          exact w_X5_findOrder_j119 hDl hRm hE hX0 hK40 (fun z0 z1 z2 z3 z4 z5 z6 hz => ih53 z0 z1 z2 z3 z4 z5 z6 hz) hf
set_option maxHeartbeats 4000000 in
set_option maxRecDepth 100000 in
theorem w_X5_findOrder_L40 {D : va_G} {l : Launch} {X : jX} {hp0 hpE : jH} {rE : Int32} (hDl : jDl X D l) (hRm : jRoom X rm_X5_findOrder.frames rm_X5_findOrder.locals rm_X5_findOrder.cells rm_X5_findOrder.slots) (hE : jEnds X (some .int) (some (.int rE)) hpE rm_X5_findOrder.cells rm_X5_findOrder.slots) (hX0 : jX0 X hp0) : ∀ (N : Nat) (xa_0 : Nat) (xi_1 : Int32) (xi_2 : Int32) (xi_3 : Int32) (hp : jH), f_X5_findOrder_L40 N xa_0 xi_1 xi_2 xi_3 hp = some (rE, hpE) → J X cX5_findOrder 8 yX5_findOrder 0 0 40 [some (.ref xa_0), some (.int xi_1), some (.int xi_2), some (.int xi_3), none, none, none, none] [] hp := by
  intro N
  induction N with
  | zero =>
    intro xa_0 xi_1 xi_2 xi_3 hp hf
    rw [f_X5_findOrder_L40] at hf
    cases hf
  | succ N ih40 =>
    intro xa_0 xi_1 xi_2 xi_3 hp hf
    rw [f_X5_findOrder_L40] at hf
    refine J.iload_n (i := 3) dX5_findOrder_40 rfl rfl ?_
    refine J.if_eq (tgt := 237) dX5_findOrder_41 (by decide) (fun hc7 => ?_) (fun hc7 => ?_)
    · replace hf := (if_pos hc7).symm.trans hf
      refine J.iload_n (i := 1) dX5_findOrder_237 rfl rfl ?_
      refine J.iconst (v := (-1)) dX5_findOrder_238 (by decide) ?_
      refine J.icmp_ne (tgt := 246) dX5_findOrder_239 (by decide) (fun hc8 => ?_) (fun hc8 => ?_)
      · replace hf := (if_neg hc8).symm.trans hf
        refine J.iload_n (i := 1) dX5_findOrder_246 rfl rfl ?_
        obtain ⟨rfl, rfl⟩ := jso hf
        exact J.iret hE (Nat.le_of_ble_eq_true rfl) (Nat.le_of_ble_eq_true rfl) dX5_findOrder_247
      · replace hf := (if_pos hc8).symm.trans hf
        refine J.iconst (v := 0) dX5_findOrder_242 (by decide) ?_
        refine J.goto (tgt := 247) dX5_findOrder_243 (by decide) ?_
        obtain ⟨rfl, rfl⟩ := jso hf
        exact J.iret hE (Nat.le_of_ble_eq_true rfl) (Nat.le_of_ble_eq_true rfl) dX5_findOrder_247
    · replace hf := (if_neg hc7).symm.trans hf
      refine J.iconst (v := 0) dX5_findOrder_44 (by decide) ?_
      refine J.istore (i := 4) (lv' := [some (.ref xa_0), some (.int xi_1), some (.int xi_2), some (.int xi_3), some (.int 0), none, none, none]) dX5_findOrder_45 (Nat.le_of_ble_eq_true rfl) rfl ?_
      refine J.iconst (v := 0) dX5_findOrder_47 (by decide) ?_
      refine J.istore (i := 5) (lv' := [some (.ref xa_0), some (.int xi_1), some (.int xi_2), some (.int xi_3), some (.int 0), some (.int 0), none, none]) dX5_findOrder_48 (Nat.le_of_ble_eq_true rfl) rfl ?_
      refine J.iconst (v := 0) dX5_findOrder_50 (by decide) ?_
      refine J.istore (i := 6) (lv' := [some (.ref xa_0), some (.int xi_1), some (.int xi_2), some (.int xi_3), some (.int 0), some (.int 0), some (.int 0), none]) dX5_findOrder_51 (Nat.le_of_ble_eq_true rfl) rfl ?_
      refine J.mask (lv' := [some (.ref xa_0), some (.int xi_1), some (.int xi_2), none, some (.int 0), some (.int 0), some (.int 0), none]) [true, true, true, false, true, true, true, false] rfl ?_
      exact w_X5_findOrder_L53 hDl hRm hE hX0 (fun z0 z1 z2 z3 z4 hz => ih40 z0 z1 z2 z3 z4 hz) _ _ _ _ _ _ _ _ hf
set_option maxHeartbeats 4000000 in
set_option maxRecDepth 100000 in
theorem w_X5_findOrder_j39 {D : va_G} {l : Launch} {X : jX} {hp0 hpE : jH} {rE : Int32} (hDl : jDl X D l) (hRm : jRoom X rm_X5_findOrder.frames rm_X5_findOrder.locals rm_X5_findOrder.cells rm_X5_findOrder.slots) (hE : jEnds X (some .int) (some (.int rE)) hpE rm_X5_findOrder.cells rm_X5_findOrder.slots) (hX0 : jX0 X hp0) {xa_0 : Nat} {xi_1 : Int32} {xi_2 : Int32} {xi_s0 : Int32} {hp : jH} (hf : f_X5_findOrder_j39 xa_0 xi_1 xi_2 xi_s0 hp = some (rE, hpE)) : J X cX5_findOrder 8 yX5_findOrder 0 0 39 [some (.ref xa_0), some (.int xi_1), some (.int xi_2), none, none, none, none, none] [.int xi_s0] hp := by
  rw [f_X5_findOrder_j39] at hf
  refine J.istore_n (i := 3) (lv' := [some (.ref xa_0), some (.int xi_1), some (.int xi_2), some (.int xi_s0), none, none, none, none]) dX5_findOrder_39 rfl (Nat.le_of_ble_eq_true rfl) rfl ?_
  exact w_X5_findOrder_L40 hDl hRm hE hX0 _ _ _ _ _ _ hf
set_option maxHeartbeats 4000000 in
set_option maxRecDepth 100000 in
theorem w_X5_findOrder_L2 {D : va_G} {l : Launch} {X : jX} {hp0 hpE : jH} {rE : Int32} (hDl : jDl X D l) (hRm : jRoom X rm_X5_findOrder.frames rm_X5_findOrder.locals rm_X5_findOrder.cells rm_X5_findOrder.slots) (hE : jEnds X (some .int) (some (.int rE)) hpE rm_X5_findOrder.cells rm_X5_findOrder.slots) (hX0 : jX0 X hp0) : ∀ (N : Nat) (xa_0 : Nat) (xi_1 : Int32) (hp : jH), f_X5_findOrder_L2 N xa_0 xi_1 hp = some (rE, hpE) → J X cX5_findOrder 8 yX5_findOrder 0 0 2 [some (.ref xa_0), some (.int xi_1), none, none, none, none, none, none] [] hp := by
  intro N
  induction N with
  | zero =>
    intro xa_0 xi_1 hp hf
    rw [f_X5_findOrder_L2] at hf
    cases hf
  | succ N ih2 =>
    intro xa_0 xi_1 hp hf
    rw [f_X5_findOrder_L2] at hf
    refine J.iload_n (i := 1) dX5_findOrder_2 rfl rfl ?_
    refine J.aload_n (i := 0) dX5_findOrder_3 rfl rfl ?_
    replace hf := jbd hf
    obtain ⟨v1, h2, hf⟩ := hf
    refine J.getI 9 37 in_X5 rfl (Nat.le_of_ble_eq_true rfl) (Or.inl q904) (Or.inl rfl) h2 dX5_findOrder_4 ?_
    refine J.icmp_ge (tgt := 23) dX5_findOrder_7 (by decide) (fun hc3 => ?_) (fun hc3 => ?_)
    · replace hf := (if_pos hc3).symm.trans hf
      refine J.iconst (v := (-1)) dX5_findOrder_23 (by decide) ?_
      refine J.istore_n (i := 1) (lv' := [some (.ref xa_0), some (.int (-1)), none, none, none, none, none, none]) dX5_findOrder_24 rfl (Nat.le_of_ble_eq_true rfl) rfl ?_
      refine J.iconst (v := 0) dX5_findOrder_25 (by decide) ?_
      refine J.istore_n (i := 2) (lv' := [some (.ref xa_0), some (.int (-1)), some (.int 0), none, none, none, none, none]) dX5_findOrder_26 rfl (Nat.le_of_ble_eq_true rfl) rfl ?_
      refine J.aload_n (i := 0) dX5_findOrder_27 rfl rfl ?_
      replace hf := jbd hf
      obtain ⟨v4, h5, hf⟩ := hf
      refine J.getI 9 37 in_X5 rfl (Nat.le_of_ble_eq_true rfl) (Or.inl q904) (Or.inl rfl) h5 dX5_findOrder_28 ?_
      refine J.if_le (tgt := 38) dX5_findOrder_31 (by decide) (fun hc6 => ?_) (fun hc6 => ?_)
      · replace hf := (if_pos hc6).symm.trans hf
        refine J.iconst (v := 0) dX5_findOrder_38 (by decide) ?_
        exact w_X5_findOrder_j39 hDl hRm hE hX0 hf
      · replace hf := (if_neg hc6).symm.trans hf
        refine J.iconst (v := 1) dX5_findOrder_34 (by decide) ?_
        refine J.goto (tgt := 39) dX5_findOrder_35 (by decide) ?_
        exact w_X5_findOrder_j39 hDl hRm hE hX0 hf
    · replace hf := (if_neg hc3).symm.trans hf
      refine J.aload_n (i := 0) dX5_findOrder_10 rfl rfl ?_
      replace hf := jbd hf
      obtain ⟨a73, h74, hf⟩ := hf
      refine J.getA 9 42 in_X5 rfl (Nat.le_of_ble_eq_true rfl) (Or.inl q909) (Or.inl rfl) h74 dX5_findOrder_11 ?_
      refine J.iload_n (i := 1) dX5_findOrder_14 rfl rfl ?_
      refine J.iload_n (i := 1) dX5_findOrder_15 rfl rfl ?_
      replace hf := jbd hf
      obtain ⟨hp75, h76, hf⟩ := hf
      refine J.iast h76 dX5_findOrder_16 ?_
      refine J.iinc (i := 1) (v := (xi_1 + 1)) (lv' := [some (.ref xa_0), some (.int (xi_1 + 1)), none, none, none, none, none, none]) dX5_findOrder_17 rfl rfl (Nat.le_of_ble_eq_true rfl) rfl ?_
      refine J.goto (tgt := 2) dX5_findOrder_20 (by decide) ?_
      exact ih2 _ _ _ hf
set_option maxHeartbeats 4000000 in
set_option maxRecDepth 100000 in
theorem w_X5_findOrder {D : va_G} {l : Launch} {hp hpE : jH} {rE : Int32} {this : Nat} (hf : f_X5_findOrder this hp = some (rE, hpE)) : jM D l yX5_findOrder (ws_ yX5_findOrder cX5_findOrder 8 (some .int)) rm_X5_findOrder hp [.ref this] (some (.int rE)) hpE := by
  refine jM.of (lv0 := [some (.ref this), none, none, none, none, none, none, none]) (by decide) (Nat.le_of_ble_eq_true rfl) rfl (fun X hDl hRm hE hX0 => ?_)
  rw [f_X5_findOrder] at hf
  refine J.iconst (v := 0) dX5_findOrder_0 (by decide) ?_
  refine J.istore_n (i := 1) (lv' := [some (.ref this), some (.int 0), none, none, none, none, none, none]) dX5_findOrder_1 rfl (Nat.le_of_ble_eq_true rfl) rfl ?_
  exact w_X5_findOrder_L2 hDl hRm hE hX0 _ _ _ _ hf
def rm_X5_late : Room := { frames := 2, cells := 0, slots := 0, locals := 52 }
theorem hd_X5_late : yX5_late.cls = RX5 ∧ yX5_late.cls ≠ "java/lang/invoke/MethodHandle" ∧ yX5_late.cls ≠ "java/lang/invoke/VarHandle" ∧ (parseMethodDescriptor yX5_late.desc).map (fun d => d.parameters.length) = some 0 := by decide +kernel
set_option maxHeartbeats 4000000 in
set_option maxRecDepth 100000 in
theorem w_X5_late {D : va_G} {l : Launch} {hp hpE : jH} {rE : Int32} {this : Nat} (hf : f_X5_late this hp = some (rE, hpE)) : jM D l yX5_late (ws_ yX5_late cX5_late 1 (some .int)) rm_X5_late hp [.ref this] (some (.int rE)) hpE := by
  refine jM.of (lv0 := [some (.ref this)]) (by decide) (Nat.le_of_ble_eq_true rfl) rfl (fun X hDl hRm hE hX0 => ?_)
  rw [f_X5_late] at hf
  refine J.aload_n (i := 0) dX5_late_0 rfl rfl ?_
  replace hf := jbd hf
  obtain ⟨u1, h2, hf⟩ := hf
  replace hf := jbs hf
  obtain ⟨v5, hp4, h3, hf⟩ := hf
  refine J.callV (As := []) (k2 := 0) (n2 := 0) 9 hDl hRm (w_X5_findOrder h3) (lw_V q1158 q1160 qs29 q44 q1161) hd_X5_findOrder rfl ⟨_, h2⟩ rfl (Nat.le_of_ble_eq_true rfl) (Nat.le_of_ble_eq_true rfl) (Nat.le_of_ble_eq_true rfl) (Nat.le_of_ble_eq_true rfl) (Nat.le_of_ble_eq_true rfl) (Nat.le_of_ble_eq_true rfl) (Nat.le_of_ble_eq_true rfl) rfl dX5_late_1 ?_
  obtain ⟨rfl, rfl⟩ := jso hf
  exact J.iret hE (Nat.le_of_ble_eq_true rfl) (Nat.le_of_ble_eq_true rfl) dX5_late_4
def rm_X5_planned : Room := { frames := 2, cells := 0, slots := 0, locals := 52 }
theorem hd_X5_planned : yX5_planned.cls = RX5 ∧ yX5_planned.cls ≠ "java/lang/invoke/MethodHandle" ∧ yX5_planned.cls ≠ "java/lang/invoke/VarHandle" ∧ (parseMethodDescriptor yX5_planned.desc).map (fun d => d.parameters.length) = some 1 := by decide +kernel
set_option maxHeartbeats 4000000 in
set_option maxRecDepth 100000 in
theorem w_X5_planned {D : va_G} {l : Launch} {hp hpE : jH} {rE : Int32} {this : Nat} {p1 : Int32} (hf : f_X5_planned this p1 hp = some (rE, hpE)) : jM D l yX5_planned (ws_ yX5_planned cX5_planned 3 (some .int)) rm_X5_planned hp [.ref this, .int p1] (some (.int rE)) hpE := by
  refine jM.of (lv0 := [some (.ref this), some (.int p1), none]) (by decide) (Nat.le_of_ble_eq_true rfl) rfl (fun X hDl hRm hE hX0 => ?_)
  rw [f_X5_planned] at hf
  refine J.iload_n (i := 1) dX5_planned_0 rfl rfl ?_
  refine J.i2l dX5_planned_1 ?_
  refine J.lconst (v := 0) dX5_planned_2 (by decide) ?_
  refine J.aload_n (i := 0) dX5_planned_3 rfl rfl ?_
  replace hf := jbd hf
  obtain ⟨v1, h2, hf⟩ := hf
  refine J.getI 9 37 in_X5 rfl (Nat.le_of_ble_eq_true rfl) (Or.inl q904) (Or.inl rfl) h2 dX5_planned_4 ?_
  refine J.iconst (v := 1) dX5_planned_7 (by decide) ?_
  refine J.isub dX5_planned_8 ?_
  refine J.i2l dX5_planned_9 ?_
  replace hf := jbs hf
  obtain ⟨v5, hp4, h3, hf⟩ := hf
  refine J.callS (As := [.long p1.toInt64, .long (0 : Int64), .long ((v1 - 1).toInt64)]) (k2 := 0) (n2 := 0) hDl hRm (w_X5_in h3) (lw_S q1031 q1032 q44 q1033) hs_X5_in rfl (Nat.le_of_ble_eq_true rfl) (Nat.le_of_ble_eq_true rfl) (Nat.le_of_ble_eq_true rfl) (Nat.le_of_ble_eq_true rfl) (Nat.le_of_ble_eq_true rfl) (Nat.le_of_ble_eq_true rfl) (Nat.le_of_ble_eq_true rfl) rfl dX5_planned_10 ?_
  refine J.if_ne (tgt := 19) dX5_planned_13 (by decide) (fun hc6 => ?_) (fun hc6 => ?_)
  · replace hf := (if_neg hc6).symm.trans hf
    refine J.aload_n (i := 0) dX5_planned_19 rfl rfl ?_
    replace hf := jbd hf
    obtain ⟨u7, h8, hf⟩ := hf
    replace hf := jbs hf
    obtain ⟨v11, hp10, h9, hf⟩ := hf
    refine J.callV (As := []) (k2 := 0) (n2 := 0) 9 hDl hRm (w_X5_findOrder h9) (lw_V q1158 q1160 qs29 q44 q1161) hd_X5_findOrder rfl ⟨_, h8⟩ rfl (Nat.le_of_ble_eq_true rfl) (Nat.le_of_ble_eq_true rfl) (Nat.le_of_ble_eq_true rfl) (Nat.le_of_ble_eq_true rfl) (Nat.le_of_ble_eq_true rfl) (Nat.le_of_ble_eq_true rfl) (Nat.le_of_ble_eq_true rfl) rfl dX5_planned_20 ?_
    refine J.istore_n (i := 2) (lv' := [some (.ref this), some (.int p1), some (.int v11)]) dX5_planned_23 rfl (Nat.le_of_ble_eq_true rfl) rfl ?_
    refine J.aload_n (i := 0) dX5_planned_24 rfl rfl ?_
    replace hf := jbd hf
    obtain ⟨a12, h13, hf⟩ := hf
    refine J.getA 9 43 in_X5 rfl (Nat.le_of_ble_eq_true rfl) (Or.inl q910) (Or.inl rfl) h13 dX5_planned_25 ?_
    refine J.iload_n (i := 1) dX5_planned_28 rfl rfl ?_
    replace hf := jbd hf
    obtain ⟨v14, h15, hf⟩ := hf
    refine J.iald h15 dX5_planned_29 ?_
    obtain ⟨rfl, rfl⟩ := jso hf
    exact J.iret hE (Nat.le_of_ble_eq_true rfl) (Nat.le_of_ble_eq_true rfl) dX5_planned_30
  · replace hf := (if_pos hc6).symm.trans hf
    refine J.bipush (v := (-2)) dX5_planned_16 (by decide) ?_
    obtain ⟨rfl, rfl⟩ := jso hf
    exact J.iret hE (Nat.le_of_ble_eq_true rfl) (Nat.le_of_ble_eq_true rfl) dX5_planned_18
def rm_X5_room : Room := { frames := 1, cells := 0, slots := 0, locals := 25 }
theorem hd_X5_room : yX5_room.cls = RX5 ∧ yX5_room.cls ≠ "java/lang/invoke/MethodHandle" ∧ yX5_room.cls ≠ "java/lang/invoke/VarHandle" ∧ (parseMethodDescriptor yX5_room.desc).map (fun d => d.parameters.length) = some 1 := by decide +kernel
set_option maxHeartbeats 4000000 in
set_option maxRecDepth 100000 in
theorem w_X5_room {D : va_G} {l : Launch} {hp hpE : jH} {rE : Int32} {this : Nat} {p1 : Int32} (hf : f_X5_room this p1 hp = some (rE, hpE)) : jM D l yX5_room (ws_ yX5_room cX5_room 3 (some .int)) rm_X5_room hp [.ref this, .int p1] (some (.int rE)) hpE := by
  refine jM.of (lv0 := [some (.ref this), some (.int p1), none]) (by decide) (Nat.le_of_ble_eq_true rfl) rfl (fun X hDl hRm hE hX0 => ?_)
  rw [f_X5_room] at hf
  refine J.iload_n (i := 1) dX5_room_0 rfl rfl ?_
  refine J.i2l dX5_room_1 ?_
  refine J.ldc2 q1097 dX5_room_2 ?_
  refine J.ldc2 q1174 dX5_room_5 ?_
  replace hf := jbs hf
  obtain ⟨v3, hp2, h1, hf⟩ := hf
  refine J.callS (As := [.long p1.toInt64, .long (1000 : Int64), .long (1000000 : Int64)]) (k2 := 0) (n2 := 0) hDl hRm (w_X5_in h1) (lw_S q1031 q1032 q44 q1033) hs_X5_in rfl (Nat.le_of_ble_eq_true rfl) (Nat.le_of_ble_eq_true rfl) (Nat.le_of_ble_eq_true rfl) (Nat.le_of_ble_eq_true rfl) (Nat.le_of_ble_eq_true rfl) (Nat.le_of_ble_eq_true rfl) (Nat.le_of_ble_eq_true rfl) rfl dX5_room_8 ?_
  refine J.if_ne (tgt := 17) dX5_room_11 (by decide) (fun hc4 => ?_) (fun hc4 => ?_)
  · replace hf := (if_neg hc4).symm.trans hf
    refine J.aload_n (i := 0) dX5_room_17 rfl rfl ?_
    replace hf := jbd hf
    obtain ⟨v5, h6, hf⟩ := hf
    refine J.getI 9 44 in_X5 rfl (Nat.le_of_ble_eq_true rfl) (Or.inl q911) (Or.inl rfl) h6 dX5_room_18 ?_
    refine J.istore_n (i := 2) (lv' := [some (.ref this), some (.int p1), some (.int v5)]) dX5_room_21 rfl (Nat.le_of_ble_eq_true rfl) rfl ?_
    refine J.aload_n (i := 0) dX5_room_22 rfl rfl ?_
    refine J.iload_n (i := 1) dX5_room_23 rfl rfl ?_
    replace hf := jbd hf
    obtain ⟨hp7, h8, hf⟩ := hf
    refine J.put (ty := .int) 9 44 in_X5 ap9 rfl (Nat.le_of_ble_eq_true rfl) (Or.inl q911) (Or.inl rfl) rfl (by decide +kernel) (fun _ => ⟨rfl, rfl⟩) h8 dX5_room_24 ?_
    refine J.iload_n (i := 2) dX5_room_27 rfl rfl ?_
    obtain ⟨rfl, rfl⟩ := jso hf
    exact J.iret hE (Nat.le_of_ble_eq_true rfl) (Nat.le_of_ble_eq_true rfl) dX5_room_28
  · replace hf := (if_pos hc4).symm.trans hf
    refine J.bipush (v := (-2)) dX5_room_14 (by decide) ?_
    obtain ⟨rfl, rfl⟩ := jso hf
    exact J.iret hE (Nat.le_of_ble_eq_true rfl) (Nat.le_of_ble_eq_true rfl) dX5_room_16
def rm_X5_waits : Room := { frames := 0, cells := 0, slots := 0, locals := 0 }
theorem hd_X5_waits : yX5_waits.cls = RX5 ∧ yX5_waits.cls ≠ "java/lang/invoke/MethodHandle" ∧ yX5_waits.cls ≠ "java/lang/invoke/VarHandle" ∧ (parseMethodDescriptor yX5_waits.desc).map (fun d => d.parameters.length) = some 1 := by decide +kernel
set_option maxHeartbeats 4000000 in
set_option maxRecDepth 100000 in
theorem w_X5_waits {D : va_G} {l : Launch} {hp hpE : jH} {rE : Int32} {this : Nat} {p1 : Int32} (hf : f_X5_waits this p1 hp = some (rE, hpE)) : jM D l yX5_waits (ws_ yX5_waits cX5_waits 2 (some .boolean)) rm_X5_waits hp [.ref this, .int p1] (some (.int rE)) hpE := by
  refine jM.of (lv0 := [some (.ref this), some (.int p1)]) (by decide) (Nat.le_of_ble_eq_true rfl) rfl (fun X hDl hRm hE hX0 => ?_)
  rw [f_X5_waits] at hf
  refine J.aload_n (i := 0) dX5_waits_0 rfl rfl ?_
  replace hf := jbd hf
  obtain ⟨a1, h2, hf⟩ := hf
  refine J.getA 9 20 in_X5 rfl (Nat.le_of_ble_eq_true rfl) (Or.inl q887) (Or.inl rfl) h2 dX5_waits_1 ?_
  refine J.iload_n (i := 1) dX5_waits_4 rfl rfl ?_
  replace hf := jbd hf
  obtain ⟨v3, h4, hf⟩ := hf
  refine J.iald h4 dX5_waits_5 ?_
  refine J.iconst (v := (-1)) dX5_waits_6 (by decide) ?_
  refine J.icmp_ne (tgt := 32) dX5_waits_7 (by decide) (fun hc5 => ?_) (fun hc5 => ?_)
  · replace hf := (if_neg hc5).symm.trans hf
    refine J.iconst (v := 0) dX5_waits_32 (by decide) ?_
    obtain ⟨rfl, rfl⟩ := jso hf
    exact J.zret hE narrow_b0 (Nat.le_of_ble_eq_true rfl) (Nat.le_of_ble_eq_true rfl) dX5_waits_33
  · replace hf := (if_pos hc5).symm.trans hf
    refine J.aload_n (i := 0) dX5_waits_10 rfl rfl ?_
    replace hf := jbd hf
    obtain ⟨a6, h7, hf⟩ := hf
    refine J.getA 9 17 in_X5 rfl (Nat.le_of_ble_eq_true rfl) (Or.inl q884) (Or.inl rfl) h7 dX5_waits_11 ?_
    refine J.iload_n (i := 1) dX5_waits_14 rfl rfl ?_
    replace hf := jbd hf
    obtain ⟨v8, h9, hf⟩ := hf
    refine J.iald h9 dX5_waits_15 ?_
    refine J.if_le (tgt := 32) dX5_waits_16 (by decide) (fun hc10 => ?_) (fun hc10 => ?_)
    · replace hf := (if_pos hc10).symm.trans hf
      refine J.iconst (v := 0) dX5_waits_32 (by decide) ?_
      obtain ⟨rfl, rfl⟩ := jso hf
      exact J.zret hE narrow_b0 (Nat.le_of_ble_eq_true rfl) (Nat.le_of_ble_eq_true rfl) dX5_waits_33
    · replace hf := (if_neg hc10).symm.trans hf
      refine J.aload_n (i := 0) dX5_waits_19 rfl rfl ?_
      replace hf := jbd hf
      obtain ⟨a11, h12, hf⟩ := hf
      refine J.getA 9 46 in_X5 rfl (Nat.le_of_ble_eq_true rfl) (Or.inl q913) (Or.inl rfl) h12 dX5_waits_20 ?_
      refine J.iload_n (i := 1) dX5_waits_23 rfl rfl ?_
      replace hf := jbd hf
      obtain ⟨v13, h14, hf⟩ := hf
      refine J.zald h14 dX5_waits_24 ?_
      refine J.if_ne (tgt := 32) dX5_waits_25 (by decide) (fun hc15 => ?_) (fun hc15 => ?_)
      · replace hf := (if_neg hc15).symm.trans hf
        refine J.iconst (v := 0) dX5_waits_32 (by decide) ?_
        obtain ⟨rfl, rfl⟩ := jso hf
        exact J.zret hE narrow_b0 (Nat.le_of_ble_eq_true rfl) (Nat.le_of_ble_eq_true rfl) dX5_waits_33
      · replace hf := (if_pos hc15).symm.trans hf
        refine J.iconst (v := 1) dX5_waits_28 (by decide) ?_
        refine J.goto (tgt := 33) dX5_waits_29 (by decide) ?_
        obtain ⟨rfl, rfl⟩ := jso hf
        exact J.zret hE narrow_b1 (Nat.le_of_ble_eq_true rfl) (Nat.le_of_ble_eq_true rfl) dX5_waits_33
def rm_X5_noneGone : Room := { frames := 0, cells := 0, slots := 0, locals := 0 }
theorem hd_X5_noneGone : yX5_noneGone.cls = RX5 ∧ yX5_noneGone.cls ≠ "java/lang/invoke/MethodHandle" ∧ yX5_noneGone.cls ≠ "java/lang/invoke/VarHandle" ∧ (parseMethodDescriptor yX5_noneGone.desc).map (fun d => d.parameters.length) = some 0 := by decide +kernel
set_option maxHeartbeats 4000000 in
set_option maxRecDepth 100000 in
theorem w_X5_noneGone_L2 {D : va_G} {l : Launch} {X : jX} {hp0 hpE : jH} (hDl : jDl X D l) (hRm : jRoom X rm_X5_noneGone.frames rm_X5_noneGone.locals rm_X5_noneGone.cells rm_X5_noneGone.slots) (hE : jEnds X none none hpE rm_X5_noneGone.cells rm_X5_noneGone.slots) (hX0 : jX0 X hp0) : ∀ (N : Nat) (xa_0 : Nat) (xi_1 : Int32) (hp : jH), f_X5_noneGone_L2 N xa_0 xi_1 hp = some hpE → J X cX5_noneGone 2 yX5_noneGone 0 0 2 [some (.ref xa_0), some (.int xi_1)] [] hp := by
  intro N
  induction N with
  | zero =>
    intro xa_0 xi_1 hp hf
    rw [f_X5_noneGone_L2] at hf
    cases hf
  | succ N ih2 =>
    intro xa_0 xi_1 hp hf
    rw [f_X5_noneGone_L2] at hf
    refine J.iload_n (i := 1) dX5_noneGone_2 rfl rfl ?_
    refine J.sipush (v := 200) dX5_noneGone_3 (by decide) ?_
    refine J.icmp_ge (tgt := 22) dX5_noneGone_6 (by decide) (fun hc1 => ?_) (fun hc1 => ?_)
    · replace hf := (if_pos hc1).symm.trans hf
      obtain rfl := Option.some.inj hf
      exact J.vret hE (Nat.le_of_ble_eq_true rfl) (Nat.le_of_ble_eq_true rfl) dX5_noneGone_22
    · replace hf := (if_neg hc1).symm.trans hf
      refine J.aload_n (i := 0) dX5_noneGone_9 rfl rfl ?_
      replace hf := jbd hf
      obtain ⟨a2, h3, hf⟩ := hf
      refine J.getA 9 46 in_X5 rfl (Nat.le_of_ble_eq_true rfl) (Or.inl q913) (Or.inl rfl) h3 dX5_noneGone_10 ?_
      refine J.iload_n (i := 1) dX5_noneGone_13 rfl rfl ?_
      refine J.iconst (v := 0) dX5_noneGone_14 (by decide) ?_
      replace hf := jbd hf
      obtain ⟨hp4, h5, hf⟩ := hf
      refine J.zast h5 dX5_noneGone_15 ?_
      refine J.iinc (i := 1) (v := (xi_1 + 1)) (lv' := [some (.ref xa_0), some (.int (xi_1 + 1))]) dX5_noneGone_16 rfl rfl (Nat.le_of_ble_eq_true rfl) rfl ?_
      refine J.goto (tgt := 2) dX5_noneGone_19 (by decide) ?_
      exact ih2 _ _ _ hf
set_option maxHeartbeats 4000000 in
set_option maxRecDepth 100000 in
theorem w_X5_noneGone {D : va_G} {l : Launch} {hp hpE : jH} {this : Nat} (hf : f_X5_noneGone this hp = some hpE) : jM D l yX5_noneGone (ws_ yX5_noneGone cX5_noneGone 2 none) rm_X5_noneGone hp [.ref this] none hpE := by
  refine jM.of (lv0 := [some (.ref this), none]) (by decide) (Nat.le_of_ble_eq_true rfl) rfl (fun X hDl hRm hE hX0 => ?_)
  rw [f_X5_noneGone] at hf
  refine J.iconst (v := 0) dX5_noneGone_0 (by decide) ?_
  refine J.istore_n (i := 1) (lv' := [some (.ref this), some (.int 0)]) dX5_noneGone_1 rfl (Nat.le_of_ble_eq_true rfl) rfl ?_
  exact w_X5_noneGone_L2 hDl hRm hE hX0 _ _ _ _ hf
def rm_X5_takes : Room := { frames := 1, cells := 0, slots := 0, locals := 21 }
theorem hd_X5_takes : yX5_takes.cls = RX5 ∧ yX5_takes.cls ≠ "java/lang/invoke/MethodHandle" ∧ yX5_takes.cls ≠ "java/lang/invoke/VarHandle" ∧ (parseMethodDescriptor yX5_takes.desc).map (fun d => d.parameters.length) = some 0 := by decide +kernel
set_option maxHeartbeats 4000000 in
set_option maxRecDepth 100000 in
theorem w_X5_takes_j166 {D : va_G} {l : Launch} {X : jX} {hp0 hpE : jH} {rE : Int32} (hDl : jDl X D l) (hRm : jRoom X rm_X5_takes.frames rm_X5_takes.locals rm_X5_takes.cells rm_X5_takes.slots) (hE : jEnds X (some .int) (some (.int rE)) hpE rm_X5_takes.cells rm_X5_takes.slots) (hX0 : jX0 X hp0) {K54 : Nat → Int32 → Int32 → Int32 → Int32 → Int32 → jH → Option (Int32 × jH)} (hK54 : ∀ (xa_0 : Nat) (xi_1 : Int32) (xi_2 : Int32) (xi_3 : Int32) (xi_4 : Int32) (xi_5 : Int32) (hp : jH), K54 xa_0 xi_1 xi_2 xi_3 xi_4 xi_5 hp = some (rE, hpE) → J X cX5_takes 6 yX5_takes 0 0 54 [some (.ref xa_0), some (.int xi_1), some (.int xi_2), some (.int xi_3), some (.int xi_4), some (.int xi_5)] [] hp) {xa_0 : Nat} {xi_1 : Int32} {xi_2 : Int32} {xi_3 : Int32} {xi_4 : Int32} {xi_5 : Int32} {hp : jH} (hf : f_X5_takes_j166 K54 xa_0 xi_1 xi_2 xi_3 xi_4 xi_5 hp = some (rE, hpE)) : J X cX5_takes 6 yX5_takes 0 0 166 [some (.ref xa_0), some (.int xi_1), some (.int xi_2), some (.int xi_3), some (.int xi_4), some (.int xi_5)] [] hp := by
  rw [f_X5_takes_j166] at hf
  refine J.iinc (i := 5) (v := (xi_5 + 1)) (lv' := [some (.ref xa_0), some (.int xi_1), some (.int xi_2), some (.int xi_3), some (.int xi_4), some (.int (xi_5 + 1))]) dX5_takes_166 rfl rfl (Nat.le_of_ble_eq_true rfl) rfl ?_
  refine J.goto (tgt := 54) dX5_takes_169 (by decide) ?_
  exact hK54 _ _ _ _ _ _ _ hf
set_option maxHeartbeats 4000000 in
set_option maxRecDepth 100000 in
theorem w_X5_takes_j138 {D : va_G} {l : Launch} {X : jX} {hp0 hpE : jH} {rE : Int32} (hDl : jDl X D l) (hRm : jRoom X rm_X5_takes.frames rm_X5_takes.locals rm_X5_takes.cells rm_X5_takes.slots) (hE : jEnds X (some .int) (some (.int rE)) hpE rm_X5_takes.cells rm_X5_takes.slots) (hX0 : jX0 X hp0) {K54 : Nat → Int32 → Int32 → Int32 → Int32 → Int32 → jH → Option (Int32 × jH)} (hK54 : ∀ (xa_0 : Nat) (xi_1 : Int32) (xi_2 : Int32) (xi_3 : Int32) (xi_4 : Int32) (xi_5 : Int32) (hp : jH), K54 xa_0 xi_1 xi_2 xi_3 xi_4 xi_5 hp = some (rE, hpE) → J X cX5_takes 6 yX5_takes 0 0 54 [some (.ref xa_0), some (.int xi_1), some (.int xi_2), some (.int xi_3), some (.int xi_4), some (.int xi_5)] [] hp) {xa_0 : Nat} {xi_1 : Int32} {xi_2 : Int32} {xi_3 : Int32} {xi_5 : Int32} {xi_s0 : Int32} {hp : jH} (hf : f_X5_takes_j138 K54 xa_0 xi_1 xi_2 xi_3 xi_5 xi_s0 hp = some (rE, hpE)) : J X cX5_takes 6 yX5_takes 0 0 138 [some (.ref xa_0), some (.int xi_1), some (.int xi_2), some (.int xi_3), none, some (.int xi_5)] [.int xi_s0] hp := by
  rw [f_X5_takes_j138] at hf
  refine J.istore (i := 4) (lv' := [some (.ref xa_0), some (.int xi_1), some (.int xi_2), some (.int xi_3), some (.int xi_s0), some (.int xi_5)]) dX5_takes_138 (Nat.le_of_ble_eq_true rfl) rfl ?_
  refine J.iload dX5_takes_140 rfl ?_
  refine J.if_eq (tgt := 166) dX5_takes_142 (by decide) (fun hc41 => ?_) (fun hc41 => ?_)
  · replace hf := (if_pos hc41).symm.trans hf
    exact w_X5_takes_j166 hDl hRm hE hX0 hK54 hf
  · replace hf := (if_neg hc41).symm.trans hf
    refine J.aload_n (i := 0) dX5_takes_145 rfl rfl ?_
    replace hf := jbd hf
    obtain ⟨a42, h43, hf⟩ := hf
    refine J.getA 9 46 in_X5 rfl (Nat.le_of_ble_eq_true rfl) (Or.inl q913) (Or.inl rfl) h43 dX5_takes_146 ?_
    refine J.iload dX5_takes_149 rfl ?_
    refine J.iconst (v := 1) dX5_takes_151 (by decide) ?_
    replace hf := jbd hf
    obtain ⟨hp44, h45, hf⟩ := hf
    refine J.zast h45 dX5_takes_152 ?_
    refine J.iload_n (i := 3) dX5_takes_153 rfl rfl ?_
    refine J.aload_n (i := 0) dX5_takes_154 rfl rfl ?_
    replace hf := jbd hf
    obtain ⟨a46, h47, hf⟩ := hf
    refine J.getA 9 17 in_X5 rfl (Nat.le_of_ble_eq_true rfl) (Or.inl q884) (Or.inl rfl) h47 dX5_takes_155 ?_
    refine J.iload dX5_takes_158 rfl ?_
    replace hf := jbd hf
    obtain ⟨v48, h49, hf⟩ := hf
    refine J.iald h49 dX5_takes_160 ?_
    refine J.iadd dX5_takes_161 ?_
    refine J.istore_n (i := 3) (lv' := [some (.ref xa_0), some (.int xi_1), some (.int xi_2), some (.int (xi_3 + v48)), some (.int xi_s0), some (.int xi_5)]) dX5_takes_162 rfl (Nat.le_of_ble_eq_true rfl) rfl ?_
    refine J.iinc (i := 2) (v := (xi_2 + 1)) (lv' := [some (.ref xa_0), some (.int xi_1), some (.int (xi_2 + 1)), some (.int (xi_3 + v48)), some (.int xi_s0), some (.int xi_5)]) dX5_takes_163 rfl rfl (Nat.le_of_ble_eq_true rfl) rfl ?_
    exact w_X5_takes_j166 hDl hRm hE hX0 hK54 hf
set_option maxHeartbeats 4000000 in
set_option maxRecDepth 100000 in
theorem w_X5_takes_j133 {D : va_G} {l : Launch} {X : jX} {hp0 hpE : jH} {rE : Int32} (hDl : jDl X D l) (hRm : jRoom X rm_X5_takes.frames rm_X5_takes.locals rm_X5_takes.cells rm_X5_takes.slots) (hE : jEnds X (some .int) (some (.int rE)) hpE rm_X5_takes.cells rm_X5_takes.slots) (hX0 : jX0 X hp0) {K54 : Nat → Int32 → Int32 → Int32 → Int32 → Int32 → jH → Option (Int32 × jH)} (hK54 : ∀ (xa_0 : Nat) (xi_1 : Int32) (xi_2 : Int32) (xi_3 : Int32) (xi_4 : Int32) (xi_5 : Int32) (hp : jH), K54 xa_0 xi_1 xi_2 xi_3 xi_4 xi_5 hp = some (rE, hpE) → J X cX5_takes 6 yX5_takes 0 0 54 [some (.ref xa_0), some (.int xi_1), some (.int xi_2), some (.int xi_3), some (.int xi_4), some (.int xi_5)] [] hp) {xa_0 : Nat} {xi_1 : Int32} {xi_2 : Int32} {xi_3 : Int32} {xi_5 : Int32} {hp : jH} (hf : f_X5_takes_j133 K54 xa_0 xi_1 xi_2 xi_3 xi_5 hp = some (rE, hpE)) : J X cX5_takes 6 yX5_takes 0 0 133 [some (.ref xa_0), some (.int xi_1), some (.int xi_2), some (.int xi_3), none, some (.int xi_5)] [] hp := by
  rw [f_X5_takes_j133] at hf
  refine J.iconst (v := 1) dX5_takes_133 (by decide) ?_
  refine J.goto (tgt := 138) dX5_takes_134 (by decide) ?_
  exact w_X5_takes_j138 hDl hRm hE hX0 hK54 hf
set_option maxHeartbeats 4000000 in
set_option maxRecDepth 100000 in
theorem w_X5_takes_L54 {D : va_G} {l : Launch} {X : jX} {hp0 hpE : jH} {rE : Int32} (hDl : jDl X D l) (hRm : jRoom X rm_X5_takes.frames rm_X5_takes.locals rm_X5_takes.cells rm_X5_takes.slots) (hE : jEnds X (some .int) (some (.int rE)) hpE rm_X5_takes.cells rm_X5_takes.slots) (hX0 : jX0 X hp0) : ∀ (N : Nat) (xa_0 : Nat) (xi_1 : Int32) (xi_2 : Int32) (xi_3 : Int32) (xi_4 : Int32) (xi_5 : Int32) (hp : jH), f_X5_takes_L54 N xa_0 xi_1 xi_2 xi_3 xi_4 xi_5 hp = some (rE, hpE) → J X cX5_takes 6 yX5_takes 0 0 54 [some (.ref xa_0), some (.int xi_1), some (.int xi_2), some (.int xi_3), some (.int xi_4), some (.int xi_5)] [] hp := by
  intro N
  induction N with
  | zero =>
    intro xa_0 xi_1 xi_2 xi_3 xi_4 xi_5 hp hf
    rw [f_X5_takes_L54] at hf
    cases hf
  | succ N ih54 =>
    intro xa_0 xi_1 xi_2 xi_3 xi_4 xi_5 hp hf
    rw [f_X5_takes_L54] at hf
    refine J.iload dX5_takes_54 rfl ?_
    refine J.aload_n (i := 0) dX5_takes_56 rfl rfl ?_
    replace hf := jbd hf
    obtain ⟨v5, h6, hf⟩ := hf
    refine J.getI 9 13 in_X5 rfl (Nat.le_of_ble_eq_true rfl) (Or.inl q880) (Or.inl rfl) h6 dX5_takes_57 ?_
    refine J.icmp_ge (tgt := 172) dX5_takes_60 (by decide) (fun hc7 => ?_) (fun hc7 => ?_)
    · replace hf := (if_pos hc7).symm.trans hf
      refine J.iload_n (i := 2) dX5_takes_172 rfl rfl ?_
      obtain ⟨rfl, rfl⟩ := jso hf
      exact J.iret hE (Nat.le_of_ble_eq_true rfl) (Nat.le_of_ble_eq_true rfl) dX5_takes_173
    · replace hf := (if_neg hc7).symm.trans hf
      refine J.iload dX5_takes_63 rfl ?_
      refine J.if_eq (tgt := 172) dX5_takes_65 (by decide) (fun hc8 => ?_) (fun hc8 => ?_)
      · replace hf := (if_pos hc8).symm.trans hf
        refine J.iload_n (i := 2) dX5_takes_172 rfl rfl ?_
        obtain ⟨rfl, rfl⟩ := jso hf
        exact J.iret hE (Nat.le_of_ble_eq_true rfl) (Nat.le_of_ble_eq_true rfl) dX5_takes_173
      · replace hf := (if_neg hc8).symm.trans hf
        refine J.aload_n (i := 0) dX5_takes_68 rfl rfl ?_
        refine J.iload dX5_takes_69 rfl ?_
        replace hf := jbd hf
        obtain ⟨u9, h10, hf⟩ := hf
        replace hf := jbs hf
        obtain ⟨v13, hp12, h11, hf⟩ := hf
        refine J.callV (As := [.int xi_5]) (k2 := 0) (n2 := 0) 9 hDl hRm (w_X5_waits h11) (lw_V q1187 q1189 qs33 q44 q1190) hd_X5_waits rfl ⟨_, h10⟩ rfl (Nat.le_of_ble_eq_true rfl) (Nat.le_of_ble_eq_true rfl) (Nat.le_of_ble_eq_true rfl) (Nat.le_of_ble_eq_true rfl) (Nat.le_of_ble_eq_true rfl) (Nat.le_of_ble_eq_true rfl) (Nat.le_of_ble_eq_true rfl) rfl dX5_takes_71 ?_
        refine J.if_eq (tgt := 166) dX5_takes_74 (by decide) (fun hc14 => ?_) (fun hc14 => ?_)
        · replace hf := (if_pos hc14).symm.trans hf
          exact w_X5_takes_j166 hDl hRm hE hX0 (fun z0 z1 z2 z3 z4 z5 z6 hz => ih54 z0 z1 z2 z3 z4 z5 z6 hz) hf
        · replace hf := (if_neg hc14).symm.trans hf
          refine J.aload_n (i := 0) dX5_takes_77 rfl rfl ?_
          replace hf := jbd hf
          obtain ⟨a15, h16, hf⟩ := hf
          refine J.getA 9 4 in_X5 rfl (Nat.le_of_ble_eq_true rfl) (Or.inl q871) (Or.inl rfl) h16 dX5_takes_78 ?_
          refine J.aload_n (i := 0) dX5_takes_81 rfl rfl ?_
          replace hf := jbd hf
          obtain ⟨a17, h18, hf⟩ := hf
          refine J.getA 9 7 in_X5 rfl (Nat.le_of_ble_eq_true rfl) (Or.inl q874) (Or.inl rfl) h18 dX5_takes_82 ?_
          refine J.aload_n (i := 0) dX5_takes_85 rfl rfl ?_
          replace hf := jbd hf
          obtain ⟨a19, h20, hf⟩ := hf
          refine J.getA 9 14 in_X5 rfl (Nat.le_of_ble_eq_true rfl) (Or.inl q881) (Or.inl rfl) h20 dX5_takes_86 ?_
          refine J.iload dX5_takes_89 rfl ?_
          replace hf := jbd hf
          obtain ⟨v21, h22, hf⟩ := hf
          refine J.iald h22 dX5_takes_91 ?_
          replace hf := jbd hf
          obtain ⟨v23, h24, hf⟩ := hf
          refine J.iald h24 dX5_takes_92 ?_
          replace hf := jbd hf
          obtain ⟨v25, h26, hf⟩ := hf
          refine J.iald h26 dX5_takes_93 ?_
          refine J.aload_n (i := 0) dX5_takes_94 rfl rfl ?_
          replace hf := jbd hf
          obtain ⟨a27, h28, hf⟩ := hf
          refine J.getA 9 4 in_X5 rfl (Nat.le_of_ble_eq_true rfl) (Or.inl q871) (Or.inl rfl) h28 dX5_takes_95 ?_
          refine J.aload_n (i := 0) dX5_takes_98 rfl rfl ?_
          replace hf := jbd hf
          obtain ⟨a29, h30, hf⟩ := hf
          refine J.getA 9 7 in_X5 rfl (Nat.le_of_ble_eq_true rfl) (Or.inl q874) (Or.inl rfl) h30 dX5_takes_99 ?_
          refine J.aload_n (i := 0) dX5_takes_102 rfl rfl ?_
          replace hf := jbd hf
          obtain ⟨a31, h32, hf⟩ := hf
          refine J.getA 9 14 in_X5 rfl (Nat.le_of_ble_eq_true rfl) (Or.inl q881) (Or.inl rfl) h32 dX5_takes_103 ?_
          refine J.iload_n (i := 1) dX5_takes_106 rfl rfl ?_
          replace hf := jbd hf
          obtain ⟨v33, h34, hf⟩ := hf
          refine J.iald h34 dX5_takes_107 ?_
          replace hf := jbd hf
          obtain ⟨v35, h36, hf⟩ := hf
          refine J.iald h36 dX5_takes_108 ?_
          replace hf := jbd hf
          obtain ⟨v37, h38, hf⟩ := hf
          refine J.iald h38 dX5_takes_109 ?_
          refine J.icmp_ne (tgt := 166) dX5_takes_110 (by decide) (fun hc39 => ?_) (fun hc39 => ?_)
          · replace hf := (if_neg hc39).symm.trans hf
            exact w_X5_takes_j166 hDl hRm hE hX0 (fun z0 z1 z2 z3 z4 z5 z6 hz => ih54 z0 z1 z2 z3 z4 z5 z6 hz) hf
          · replace hf := (if_pos hc39).symm.trans hf
            refine J.iload_n (i := 2) dX5_takes_113 rfl rfl ?_
            refine J.if_eq (tgt := 133) dX5_takes_114 (by decide) (fun hc40 => ?_) (fun hc40 => ?_)
            · replace hf := (if_pos hc40).symm.trans hf
              refine J.mask (lv' := [some (.ref xa_0), some (.int xi_1), some (.int xi_2), some (.int xi_3), none, some (.int xi_5)]) [true, true, true, true, false, true] rfl ?_
              exact w_X5_takes_j133 hDl hRm hE hX0 (fun z0 z1 z2 z3 z4 z5 z6 hz => ih54 z0 z1 z2 z3 z4 z5 z6 hz) hf
            · replace hf := (if_neg hc40).symm.trans hf
              refine J.iload_n (i := 3) dX5_takes_117 rfl rfl ?_
              refine J.aload_n (i := 0) dX5_takes_118 rfl rfl ?_
              replace hf := jbd hf
              obtain ⟨a50, h51, hf⟩ := hf
              refine J.getA 9 17 in_X5 rfl (Nat.le_of_ble_eq_true rfl) (Or.inl q884) (Or.inl rfl) h51 dX5_takes_119 ?_
              refine J.iload dX5_takes_122 rfl ?_
              replace hf := jbd hf
              obtain ⟨v52, h53, hf⟩ := hf
              refine J.iald h53 dX5_takes_124 ?_
              refine J.iadd dX5_takes_125 ?_
              refine J.aload_n (i := 0) dX5_takes_126 rfl rfl ?_
              replace hf := jbd hf
              obtain ⟨v54, h55, hf⟩ := hf
              refine J.getI 9 44 in_X5 rfl (Nat.le_of_ble_eq_true rfl) (Or.inl q911) (Or.inl rfl) h55 dX5_takes_127 ?_
              refine J.icmp_gt (tgt := 137) dX5_takes_130 (by decide) (fun hc56 => ?_) (fun hc56 => ?_)
              · replace hf := (if_pos hc56).symm.trans hf
                refine J.iconst (v := 0) dX5_takes_137 (by decide) ?_
                refine J.mask (lv' := [some (.ref xa_0), some (.int xi_1), some (.int xi_2), some (.int xi_3), none, some (.int xi_5)]) [true, true, true, true, false, true] rfl ?_
                exact w_X5_takes_j138 hDl hRm hE hX0 (fun z0 z1 z2 z3 z4 z5 z6 hz => ih54 z0 z1 z2 z3 z4 z5 z6 hz) hf
              · replace hf := (if_neg hc56).symm.trans hf
                refine J.mask (lv' := [some (.ref xa_0), some (.int xi_1), some (.int xi_2), some (.int xi_3), none, some (.int xi_5)]) [true, true, true, true, false, true] rfl ?_
                exact w_X5_takes_j133 hDl hRm hE hX0 (fun z0 z1 z2 z3 z4 z5 z6 hz => ih54 z0 z1 z2 z3 z4 z5 z6 hz) hf
set_option maxHeartbeats 4000000 in
set_option maxRecDepth 100000 in
theorem w_X5_takes_j37 {D : va_G} {l : Launch} {X : jX} {hp0 hpE : jH} {rE : Int32} (hDl : jDl X D l) (hRm : jRoom X rm_X5_takes.frames rm_X5_takes.locals rm_X5_takes.cells rm_X5_takes.slots) (hE : jEnds X (some .int) (some (.int rE)) hpE rm_X5_takes.cells rm_X5_takes.slots) (hX0 : jX0 X hp0) {xa_0 : Nat} {xi_1 : Int32} {hp : jH} (hf : f_X5_takes_j37 xa_0 xi_1 hp = some (rE, hpE)) : J X cX5_takes 6 yX5_takes 0 0 37 [some (.ref xa_0), some (.int xi_1), none, none, none, none] [] hp := by
  rw [f_X5_takes_j37] at hf
  refine J.iload_n (i := 1) dX5_takes_37 rfl rfl ?_
  refine J.iconst (v := (-1)) dX5_takes_38 (by decide) ?_
  refine J.icmp_ne (tgt := 44) dX5_takes_39 (by decide) (fun hc4 => ?_) (fun hc4 => ?_)
  · replace hf := (if_neg hc4).symm.trans hf
    refine J.iconst (v := 0) dX5_takes_44 (by decide) ?_
    refine J.istore_n (i := 2) (lv' := [some (.ref xa_0), some (.int xi_1), some (.int 0), none, none, none]) dX5_takes_45 rfl (Nat.le_of_ble_eq_true rfl) rfl ?_
    refine J.iconst (v := 0) dX5_takes_46 (by decide) ?_
    refine J.istore_n (i := 3) (lv' := [some (.ref xa_0), some (.int xi_1), some (.int 0), some (.int 0), none, none]) dX5_takes_47 rfl (Nat.le_of_ble_eq_true rfl) rfl ?_
    refine J.iconst (v := 1) dX5_takes_48 (by decide) ?_
    refine J.istore (i := 4) (lv' := [some (.ref xa_0), some (.int xi_1), some (.int 0), some (.int 0), some (.int 1), none]) dX5_takes_49 (Nat.le_of_ble_eq_true rfl) rfl ?_
    refine J.iload_n (i := 1) dX5_takes_51 rfl rfl ?_
    refine J.istore (i := 5) (lv' := [some (.ref xa_0), some (.int xi_1), some (.int 0), some (.int 0), some (.int 1), some (.int xi_1)]) dX5_takes_52 (Nat.le_of_ble_eq_true rfl) rfl ?_
    exact w_X5_takes_L54 hDl hRm hE hX0 _ _ _ _ _ _ _ _ hf
  · replace hf := (if_pos hc4).symm.trans hf
    refine J.iconst (v := 0) dX5_takes_42 (by decide) ?_
    obtain ⟨rfl, rfl⟩ := jso hf
    exact J.iret hE (Nat.le_of_ble_eq_true rfl) (Nat.le_of_ble_eq_true rfl) dX5_takes_43
set_option maxHeartbeats 4000000 in
set_option maxRecDepth 100000 in
theorem w_X5_takes_j30 {D : va_G} {l : Launch} {X : jX} {hp0 hpE : jH} {rE : Int32} (hDl : jDl X D l) (hRm : jRoom X rm_X5_takes.frames rm_X5_takes.locals rm_X5_takes.cells rm_X5_takes.slots) (hE : jEnds X (some .int) (some (.int rE)) hpE rm_X5_takes.cells rm_X5_takes.slots) (hX0 : jX0 X hp0) {K4 : Nat → Int32 → Int32 → jH → Option (Int32 × jH)} (hK4 : ∀ (xa_0 : Nat) (xi_1 : Int32) (xi_2 : Int32) (hp : jH), K4 xa_0 xi_1 xi_2 hp = some (rE, hpE) → J X cX5_takes 6 yX5_takes 0 0 4 [some (.ref xa_0), some (.int xi_1), some (.int xi_2), none, none, none] [] hp) {xa_0 : Nat} {xi_2 : Int32} {xi_s0 : Int32} {hp : jH} (hf : f_X5_takes_j30 K4 xa_0 xi_2 xi_s0 hp = some (rE, hpE)) : J X cX5_takes 6 yX5_takes 0 0 30 [some (.ref xa_0), none, some (.int xi_2), none, none, none] [.int xi_s0] hp := by
  rw [f_X5_takes_j30] at hf
  refine J.istore_n (i := 1) (lv' := [some (.ref xa_0), some (.int xi_s0), some (.int xi_2), none, none, none]) dX5_takes_30 rfl (Nat.le_of_ble_eq_true rfl) rfl ?_
  refine J.iinc (i := 2) (v := (xi_2 + 1)) (lv' := [some (.ref xa_0), some (.int xi_s0), some (.int (xi_2 + 1)), none, none, none]) dX5_takes_31 rfl rfl (Nat.le_of_ble_eq_true rfl) rfl ?_
  refine J.goto (tgt := 4) dX5_takes_34 (by decide) ?_
  exact hK4 _ _ _ _ hf
set_option maxHeartbeats 4000000 in
set_option maxRecDepth 100000 in
theorem w_X5_takes_L4 {D : va_G} {l : Launch} {X : jX} {hp0 hpE : jH} {rE : Int32} (hDl : jDl X D l) (hRm : jRoom X rm_X5_takes.frames rm_X5_takes.locals rm_X5_takes.cells rm_X5_takes.slots) (hE : jEnds X (some .int) (some (.int rE)) hpE rm_X5_takes.cells rm_X5_takes.slots) (hX0 : jX0 X hp0) : ∀ (N : Nat) (xa_0 : Nat) (xi_1 : Int32) (xi_2 : Int32) (hp : jH), f_X5_takes_L4 N xa_0 xi_1 xi_2 hp = some (rE, hpE) → J X cX5_takes 6 yX5_takes 0 0 4 [some (.ref xa_0), some (.int xi_1), some (.int xi_2), none, none, none] [] hp := by
  intro N
  induction N with
  | zero =>
    intro xa_0 xi_1 xi_2 hp hf
    rw [f_X5_takes_L4] at hf
    cases hf
  | succ N ih4 =>
    intro xa_0 xi_1 xi_2 hp hf
    rw [f_X5_takes_L4] at hf
    refine J.iload_n (i := 2) dX5_takes_4 rfl rfl ?_
    refine J.aload_n (i := 0) dX5_takes_5 rfl rfl ?_
    replace hf := jbd hf
    obtain ⟨v1, h2, hf⟩ := hf
    refine J.getI 9 13 in_X5 rfl (Nat.le_of_ble_eq_true rfl) (Or.inl q880) (Or.inl rfl) h2 dX5_takes_6 ?_
    refine J.icmp_ge (tgt := 37) dX5_takes_9 (by decide) (fun hc3 => ?_) (fun hc3 => ?_)
    · replace hf := (if_pos hc3).symm.trans hf
      refine J.mask (lv' := [some (.ref xa_0), some (.int xi_1), none, none, none, none]) [true, true, false, false, false, false] rfl ?_
      exact w_X5_takes_j37 hDl hRm hE hX0 hf
    · replace hf := (if_neg hc3).symm.trans hf
      refine J.iload_n (i := 1) dX5_takes_12 rfl rfl ?_
      refine J.iconst (v := (-1)) dX5_takes_13 (by decide) ?_
      refine J.icmp_ne (tgt := 37) dX5_takes_14 (by decide) (fun hc57 => ?_) (fun hc57 => ?_)
      · replace hf := (if_neg hc57).symm.trans hf
        refine J.mask (lv' := [some (.ref xa_0), some (.int xi_1), none, none, none, none]) [true, true, false, false, false, false] rfl ?_
        exact w_X5_takes_j37 hDl hRm hE hX0 hf
      · replace hf := (if_pos hc57).symm.trans hf
        refine J.aload_n (i := 0) dX5_takes_17 rfl rfl ?_
        refine J.iload_n (i := 2) dX5_takes_18 rfl rfl ?_
        replace hf := jbd hf
        obtain ⟨u58, h59, hf⟩ := hf
        replace hf := jbs hf
        obtain ⟨v62, hp61, h60, hf⟩ := hf
        refine J.callV (As := [.int xi_2]) (k2 := 0) (n2 := 0) 9 hDl hRm (w_X5_waits h60) (lw_V q1187 q1189 qs33 q44 q1190) hd_X5_waits rfl ⟨_, h59⟩ rfl (Nat.le_of_ble_eq_true rfl) (Nat.le_of_ble_eq_true rfl) (Nat.le_of_ble_eq_true rfl) (Nat.le_of_ble_eq_true rfl) (Nat.le_of_ble_eq_true rfl) (Nat.le_of_ble_eq_true rfl) (Nat.le_of_ble_eq_true rfl) rfl dX5_takes_19 ?_
        refine J.if_eq (tgt := 29) dX5_takes_22 (by decide) (fun hc63 => ?_) (fun hc63 => ?_)
        · replace hf := (if_pos hc63).symm.trans hf
          refine J.iconst (v := (-1)) dX5_takes_29 (by decide) ?_
          refine J.mask (lv' := [some (.ref xa_0), none, some (.int xi_2), none, none, none]) [true, false, true, false, false, false] rfl ?_
          exact w_X5_takes_j30 hDl hRm hE hX0 (fun z0 z1 z2 z3 hz => ih4 z0 z1 z2 z3 hz) hf
        · replace hf := (if_neg hc63).symm.trans hf
          refine J.iload_n (i := 2) dX5_takes_25 rfl rfl ?_
          refine J.goto (tgt := 30) dX5_takes_26 (by decide) ?_
          refine J.mask (lv' := [some (.ref xa_0), none, some (.int xi_2), none, none, none]) [true, false, true, false, false, false] rfl ?_
          exact w_X5_takes_j30 hDl hRm hE hX0 (fun z0 z1 z2 z3 hz => ih4 z0 z1 z2 z3 hz) hf
set_option maxHeartbeats 4000000 in
set_option maxRecDepth 100000 in
theorem w_X5_takes {D : va_G} {l : Launch} {hp hpE : jH} {rE : Int32} {this : Nat} (hf : f_X5_takes this hp = some (rE, hpE)) : jM D l yX5_takes (ws_ yX5_takes cX5_takes 6 (some .int)) rm_X5_takes hp [.ref this] (some (.int rE)) hpE := by
  refine jM.of (lv0 := [some (.ref this), none, none, none, none, none]) (by decide) (Nat.le_of_ble_eq_true rfl) rfl (fun X hDl hRm hE hX0 => ?_)
  rw [f_X5_takes] at hf
  refine J.iconst (v := (-1)) dX5_takes_0 (by decide) ?_
  refine J.istore_n (i := 1) (lv' := [some (.ref this), some (.int (-1)), none, none, none, none]) dX5_takes_1 rfl (Nat.le_of_ble_eq_true rfl) rfl ?_
  refine J.iconst (v := 0) dX5_takes_2 (by decide) ?_
  refine J.istore_n (i := 2) (lv' := [some (.ref this), some (.int (-1)), some (.int 0), none, none, none]) dX5_takes_3 rfl (Nat.le_of_ble_eq_true rfl) rfl ?_
  exact w_X5_takes_L4 hDl hRm hE hX0 _ _ _ _ _ hf
def rm_X5_age : Room := { frames := 2, cells := 0, slots := 0, locals := 46 }
theorem hd_X5_age : yX5_age.cls = RX5 ∧ yX5_age.cls ≠ "java/lang/invoke/MethodHandle" ∧ yX5_age.cls ≠ "java/lang/invoke/VarHandle" ∧ (parseMethodDescriptor yX5_age.desc).map (fun d => d.parameters.length) = some 0 := by decide +kernel
set_option maxHeartbeats 4000000 in
set_option maxRecDepth 100000 in
theorem w_X5_age_j53 {D : va_G} {l : Launch} {X : jX} {hp0 hpE : jH} {rE : Int32} (hDl : jDl X D l) (hRm : jRoom X rm_X5_age.frames rm_X5_age.locals rm_X5_age.cells rm_X5_age.slots) (hE : jEnds X (some .int) (some (.int rE)) hpE rm_X5_age.cells rm_X5_age.slots) (hX0 : jX0 X hp0) {K18 : Nat → Int32 → Int32 → jH → Option (Int32 × jH)} (hK18 : ∀ (xa_0 : Nat) (xi_1 : Int32) (xi_2 : Int32) (hp : jH), K18 xa_0 xi_1 xi_2 hp = some (rE, hpE) → J X cX5_age 3 yX5_age 0 0 18 [some (.ref xa_0), some (.int xi_1), some (.int xi_2)] [] hp) {xa_0 : Nat} {xi_1 : Int32} {xi_2 : Int32} {xa_s0 : Nat} {xi_s1 : Int32} {xi_s2 : Int32} {hp : jH} (hf : f_X5_age_j53 K18 xa_0 xi_1 xi_2 xa_s0 xi_s1 xi_s2 hp = some (rE, hpE)) : J X cX5_age 3 yX5_age 0 0 53 [some (.ref xa_0), some (.int xi_1), some (.int xi_2)] [.int xi_s2, .int xi_s1, .ref xa_s0] hp := by
  rw [f_X5_age_j53] at hf
  replace hf := jbd hf
  obtain ⟨hp29, h30, hf⟩ := hf
  refine J.iast h30 dX5_age_53 ?_
  refine J.iinc (i := 2) (v := (xi_2 + 1)) (lv' := [some (.ref xa_0), some (.int xi_1), some (.int (xi_2 + 1))]) dX5_age_54 rfl rfl (Nat.le_of_ble_eq_true rfl) rfl ?_
  refine J.goto (tgt := 18) dX5_age_57 (by decide) ?_
  exact hK18 _ _ _ _ hf
set_option maxHeartbeats 4000000 in
set_option maxRecDepth 100000 in
theorem w_X5_age_L18 {D : va_G} {l : Launch} {X : jX} {hp0 hpE : jH} {rE : Int32} (hDl : jDl X D l) (hRm : jRoom X rm_X5_age.frames rm_X5_age.locals rm_X5_age.cells rm_X5_age.slots) (hE : jEnds X (some .int) (some (.int rE)) hpE rm_X5_age.cells rm_X5_age.slots) (hX0 : jX0 X hp0) : ∀ (N : Nat) (xa_0 : Nat) (xi_1 : Int32) (xi_2 : Int32) (hp : jH), f_X5_age_L18 N xa_0 xi_1 xi_2 hp = some (rE, hpE) → J X cX5_age 3 yX5_age 0 0 18 [some (.ref xa_0), some (.int xi_1), some (.int xi_2)] [] hp := by
  intro N
  induction N with
  | zero =>
    intro xa_0 xi_1 xi_2 hp hf
    rw [f_X5_age_L18] at hf
    cases hf
  | succ N ih18 =>
    intro xa_0 xi_1 xi_2 hp hf
    rw [f_X5_age_L18] at hf
    refine J.iload_n (i := 2) dX5_age_18 rfl rfl ?_
    refine J.aload_n (i := 0) dX5_age_19 rfl rfl ?_
    replace hf := jbd hf
    obtain ⟨v11, h12, hf⟩ := hf
    refine J.getI 9 13 in_X5 rfl (Nat.le_of_ble_eq_true rfl) (Or.inl q880) (Or.inl rfl) h12 dX5_age_20 ?_
    refine J.icmp_ge (tgt := 60) dX5_age_23 (by decide) (fun hc13 => ?_) (fun hc13 => ?_)
    · replace hf := (if_pos hc13).symm.trans hf
      refine J.aload_n (i := 0) dX5_age_60 rfl rfl ?_
      refine J.dup dX5_age_61 rfl ?_
      replace hf := jbd hf
      obtain ⟨v14, h15, hf⟩ := hf
      refine J.getI 9 45 in_X5 rfl (Nat.le_of_ble_eq_true rfl) (Or.inl q912) (Or.inl rfl) h15 dX5_age_62 ?_
      refine J.iconst (v := 1) dX5_age_65 (by decide) ?_
      refine J.iadd dX5_age_66 ?_
      replace hf := jbd hf
      obtain ⟨hp16, h17, hf⟩ := hf
      refine J.put (ty := .int) 9 45 in_X5 ap9 rfl (Nat.le_of_ble_eq_true rfl) (Or.inl q912) (Or.inl rfl) rfl (by decide +kernel) (fun _ => ⟨rfl, rfl⟩) h17 dX5_age_67 ?_
      refine J.iload_n (i := 1) dX5_age_70 rfl rfl ?_
      obtain ⟨rfl, rfl⟩ := jso hf
      exact J.iret hE (Nat.le_of_ble_eq_true rfl) (Nat.le_of_ble_eq_true rfl) dX5_age_71
    · replace hf := (if_neg hc13).symm.trans hf
      refine J.aload_n (i := 0) dX5_age_26 rfl rfl ?_
      replace hf := jbd hf
      obtain ⟨a18, h19, hf⟩ := hf
      refine J.getA 9 20 in_X5 rfl (Nat.le_of_ble_eq_true rfl) (Or.inl q887) (Or.inl rfl) h19 dX5_age_27 ?_
      refine J.iload_n (i := 2) dX5_age_30 rfl rfl ?_
      refine J.aload_n (i := 0) dX5_age_31 rfl rfl ?_
      replace hf := jbd hf
      obtain ⟨a20, h21, hf⟩ := hf
      refine J.getA 9 46 in_X5 rfl (Nat.le_of_ble_eq_true rfl) (Or.inl q913) (Or.inl rfl) h21 dX5_age_32 ?_
      refine J.iload_n (i := 2) dX5_age_35 rfl rfl ?_
      replace hf := jbd hf
      obtain ⟨v22, h23, hf⟩ := hf
      refine J.zald h23 dX5_age_36 ?_
      refine J.if_eq (tgt := 47) dX5_age_37 (by decide) (fun hc24 => ?_) (fun hc24 => ?_)
      · replace hf := (if_pos hc24).symm.trans hf
        refine J.aload_n (i := 0) dX5_age_47 rfl rfl ?_
        replace hf := jbd hf
        obtain ⟨a25, h26, hf⟩ := hf
        refine J.getA 9 20 in_X5 rfl (Nat.le_of_ble_eq_true rfl) (Or.inl q887) (Or.inl rfl) h26 dX5_age_48 ?_
        refine J.iload_n (i := 2) dX5_age_51 rfl rfl ?_
        replace hf := jbd hf
        obtain ⟨v27, h28, hf⟩ := hf
        refine J.iald h28 dX5_age_52 ?_
        exact w_X5_age_j53 hDl hRm hE hX0 (fun z0 z1 z2 z3 hz => ih18 z0 z1 z2 z3 hz) hf
      · replace hf := (if_neg hc24).symm.trans hf
        refine J.aload_n (i := 0) dX5_age_40 rfl rfl ?_
        replace hf := jbd hf
        obtain ⟨v31, h32, hf⟩ := hf
        refine J.getI 9 45 in_X5 rfl (Nat.le_of_ble_eq_true rfl) (Or.inl q912) (Or.inl rfl) h32 dX5_age_41 ?_
        refine J.goto (tgt := 53) dX5_age_44 (by decide) ?_
        exact w_X5_age_j53 hDl hRm hE hX0 (fun z0 z1 z2 z3 hz => ih18 z0 z1 z2 z3 hz) hf
set_option maxHeartbeats 4000000 in
set_option maxRecDepth 100000 in
theorem w_X5_age {D : va_G} {l : Launch} {hp hpE : jH} {rE : Int32} {this : Nat} (hf : f_X5_age this hp = some (rE, hpE)) : jM D l yX5_age (ws_ yX5_age cX5_age 3 (some .int)) rm_X5_age hp [.ref this] (some (.int rE)) hpE := by
  refine jM.of (lv0 := [some (.ref this), none, none]) (by decide) (Nat.le_of_ble_eq_true rfl) rfl (fun X hDl hRm hE hX0 => ?_)
  rw [f_X5_age] at hf
  refine J.aload_n (i := 0) dX5_age_0 rfl rfl ?_
  replace hf := jbd hf
  obtain ⟨u1, h2, hf⟩ := hf
  replace hf := jbd hf
  obtain ⟨hp4, h3, hf⟩ := hf
  refine J.callV (As := []) (k2 := 0) (n2 := 0) 9 hDl hRm (w_X5_noneGone h3) (lw_V q1179 q1181 qs31 q44 q1182) hd_X5_noneGone rfl ⟨_, h2⟩ rfl (Nat.le_of_ble_eq_true rfl) (Nat.le_of_ble_eq_true rfl) (Nat.le_of_ble_eq_true rfl) (Nat.le_of_ble_eq_true rfl) (Nat.le_of_ble_eq_true rfl) (Nat.le_of_ble_eq_true rfl) (Nat.le_of_ble_eq_true rfl) rfl dX5_age_1 ?_
  refine J.aload_n (i := 0) dX5_age_4 rfl rfl ?_
  replace hf := jbd hf
  obtain ⟨u5, h6, hf⟩ := hf
  replace hf := jbs hf
  obtain ⟨v9, hp8, h7, hf⟩ := hf
  refine J.callV (As := []) (k2 := 0) (n2 := 0) 9 hDl hRm (w_X5_takes h7) (lw_V q1183 q1185 qs32 q44 q1186) hd_X5_takes rfl ⟨_, h6⟩ rfl (Nat.le_of_ble_eq_true rfl) (Nat.le_of_ble_eq_true rfl) (Nat.le_of_ble_eq_true rfl) (Nat.le_of_ble_eq_true rfl) (Nat.le_of_ble_eq_true rfl) (Nat.le_of_ble_eq_true rfl) (Nat.le_of_ble_eq_true rfl) rfl dX5_age_5 ?_
  refine J.istore_n (i := 1) (lv' := [some (.ref this), some (.int v9), none]) dX5_age_8 rfl (Nat.le_of_ble_eq_true rfl) rfl ?_
  refine J.iload_n (i := 1) dX5_age_9 rfl rfl ?_
  refine J.if_ne (tgt := 16) dX5_age_10 (by decide) (fun hc10 => ?_) (fun hc10 => ?_)
  · replace hf := (if_neg hc10).symm.trans hf
    refine J.iconst (v := 0) dX5_age_16 (by decide) ?_
    refine J.istore_n (i := 2) (lv' := [some (.ref this), some (.int v9), some (.int 0)]) dX5_age_17 rfl (Nat.le_of_ble_eq_true rfl) rfl ?_
    exact w_X5_age_L18 hDl hRm hE hX0 _ _ _ _ _ hf
  · replace hf := (if_pos hc10).symm.trans hf
    refine J.bipush (v := (-3)) dX5_age_13 (by decide) ?_
    obtain ⟨rfl, rfl⟩ := jso hf
    exact J.iret hE (Nat.le_of_ble_eq_true rfl) (Nat.le_of_ble_eq_true rfl) dX5_age_15
def rm_X5_batches : Room := { frames := 2, cells := 0, slots := 0, locals := 46 }
theorem hd_X5_batches : yX5_batches.cls = RX5 ∧ yX5_batches.cls ≠ "java/lang/invoke/MethodHandle" ∧ yX5_batches.cls ≠ "java/lang/invoke/VarHandle" ∧ (parseMethodDescriptor yX5_batches.desc).map (fun d => d.parameters.length) = some 0 := by decide +kernel
set_option maxHeartbeats 4000000 in
set_option maxRecDepth 100000 in
theorem w_X5_batches_L6 {D : va_G} {l : Launch} {X : jX} {hp0 hpE : jH} {rE : Int32} (hDl : jDl X D l) (hRm : jRoom X rm_X5_batches.frames rm_X5_batches.locals rm_X5_batches.cells rm_X5_batches.slots) (hE : jEnds X (some .int) (some (.int rE)) hpE rm_X5_batches.cells rm_X5_batches.slots) (hX0 : jX0 X hp0) : ∀ (N : Nat) (xa_0 : Nat) (xi_1 : Int32) (hp : jH), f_X5_batches_L6 N xa_0 xi_1 hp = some (rE, hpE) → J X cX5_batches 2 yX5_batches 0 0 6 [some (.ref xa_0), some (.int xi_1)] [] hp := by
  intro N
  induction N with
  | zero =>
    intro xa_0 xi_1 hp hf
    rw [f_X5_batches_L6] at hf
    cases hf
  | succ N ih6 =>
    intro xa_0 xi_1 hp hf
    rw [f_X5_batches_L6] at hf
    refine J.aload_n (i := 0) dX5_batches_6 rfl rfl ?_
    replace hf := jbd hf
    obtain ⟨u5, h6, hf⟩ := hf
    replace hf := jbs hf
    obtain ⟨v9, hp8, h7, hf⟩ := hf
    refine J.callV (As := []) (k2 := 0) (n2 := 0) 9 hDl hRm (w_X5_takes h7) (lw_V q1183 q1185 qs32 q44 q1186) hd_X5_takes rfl ⟨_, h6⟩ rfl (Nat.le_of_ble_eq_true rfl) (Nat.le_of_ble_eq_true rfl) (Nat.le_of_ble_eq_true rfl) (Nat.le_of_ble_eq_true rfl) (Nat.le_of_ble_eq_true rfl) (Nat.le_of_ble_eq_true rfl) (Nat.le_of_ble_eq_true rfl) rfl dX5_batches_7 ?_
    refine J.if_le (tgt := 19) dX5_batches_10 (by decide) (fun hc10 => ?_) (fun hc10 => ?_)
    · replace hf := (if_pos hc10).symm.trans hf
      refine J.iload_n (i := 1) dX5_batches_19 rfl rfl ?_
      obtain ⟨rfl, rfl⟩ := jso hf
      exact J.iret hE (Nat.le_of_ble_eq_true rfl) (Nat.le_of_ble_eq_true rfl) dX5_batches_20
    · replace hf := (if_neg hc10).symm.trans hf
      refine J.iinc (i := 1) (v := (xi_1 + 1)) (lv' := [some (.ref xa_0), some (.int (xi_1 + 1))]) dX5_batches_13 rfl rfl (Nat.le_of_ble_eq_true rfl) rfl ?_
      refine J.goto (tgt := 6) dX5_batches_16 (by decide) ?_
      exact ih6 _ _ _ hf
set_option maxHeartbeats 4000000 in
set_option maxRecDepth 100000 in
theorem w_X5_batches {D : va_G} {l : Launch} {hp hpE : jH} {rE : Int32} {this : Nat} (hf : f_X5_batches this hp = some (rE, hpE)) : jM D l yX5_batches (ws_ yX5_batches cX5_batches 2 (some .int)) rm_X5_batches hp [.ref this] (some (.int rE)) hpE := by
  refine jM.of (lv0 := [some (.ref this), none]) (by decide) (Nat.le_of_ble_eq_true rfl) rfl (fun X hDl hRm hE hX0 => ?_)
  rw [f_X5_batches] at hf
  refine J.aload_n (i := 0) dX5_batches_0 rfl rfl ?_
  replace hf := jbd hf
  obtain ⟨u1, h2, hf⟩ := hf
  replace hf := jbd hf
  obtain ⟨hp4, h3, hf⟩ := hf
  refine J.callV (As := []) (k2 := 0) (n2 := 0) 9 hDl hRm (w_X5_noneGone h3) (lw_V q1179 q1181 qs31 q44 q1182) hd_X5_noneGone rfl ⟨_, h2⟩ rfl (Nat.le_of_ble_eq_true rfl) (Nat.le_of_ble_eq_true rfl) (Nat.le_of_ble_eq_true rfl) (Nat.le_of_ble_eq_true rfl) (Nat.le_of_ble_eq_true rfl) (Nat.le_of_ble_eq_true rfl) (Nat.le_of_ble_eq_true rfl) rfl dX5_batches_1 ?_
  refine J.iconst (v := 0) dX5_batches_4 (by decide) ?_
  refine J.istore_n (i := 1) (lv' := [some (.ref this), some (.int 0)]) dX5_batches_5 rfl (Nat.le_of_ble_eq_true rfl) rfl ?_
  exact w_X5_batches_L6 hDl hRm hE hX0 _ _ _ _ hf
def rm_X5_sample : Room := { frames := 2, cells := 0, slots := 0, locals := 46 }
theorem hd_X5_sample : yX5_sample.cls = RX5 ∧ yX5_sample.cls ≠ "java/lang/invoke/MethodHandle" ∧ yX5_sample.cls ≠ "java/lang/invoke/VarHandle" ∧ (parseMethodDescriptor yX5_sample.desc).map (fun d => d.parameters.length) = some 2 := by decide +kernel
set_option maxHeartbeats 4000000 in
set_option maxRecDepth 100000 in
theorem w_X5_sample {D : va_G} {l : Launch} {hp hpE : jH} {rE : Int32} {this : Nat} {p1 : Int32} {p2 : Int32} (hf : f_X5_sample this p1 p2 hp = some (rE, hpE)) : jM D l yX5_sample (ws_ yX5_sample cX5_sample 3 (some .int)) rm_X5_sample hp [.ref this, .int p1, .int p2] (some (.int rE)) hpE := by
  refine jM.of (lv0 := [some (.ref this), some (.int p1), some (.int p2)]) (by decide) (Nat.le_of_ble_eq_true rfl) rfl (fun X hDl hRm hE hX0 => ?_)
  rw [f_X5_sample] at hf
  refine J.aload_n (i := 0) dX5_sample_0 rfl rfl ?_
  refine J.iload_n (i := 1) dX5_sample_1 rfl rfl ?_
  replace hf := jbd hf
  obtain ⟨u1, h2, hf⟩ := hf
  replace hf := jbs hf
  obtain ⟨v5, hp4, h3, hf⟩ := hf
  refine J.callV (As := [.int p1]) (k2 := 0) (n2 := 0) 9 hDl hRm (w_X5_isBar h3) (lw_V q1114 q1116 qs28 q44 q1117) hd_X5_isBar rfl ⟨_, h2⟩ rfl (Nat.le_of_ble_eq_true rfl) (Nat.le_of_ble_eq_true rfl) (Nat.le_of_ble_eq_true rfl) (Nat.le_of_ble_eq_true rfl) (Nat.le_of_ble_eq_true rfl) (Nat.le_of_ble_eq_true rfl) (Nat.le_of_ble_eq_true rfl) rfl dX5_sample_2 ?_
  refine J.if_ne (tgt := 11) dX5_sample_5 (by decide) (fun hc6 => ?_) (fun hc6 => ?_)
  · replace hf := (if_neg hc6).symm.trans hf
    refine J.aload_n (i := 0) dX5_sample_11 rfl rfl ?_
    replace hf := jbd hf
    obtain ⟨a7, h8, hf⟩ := hf
    refine J.getA 9 21 in_X5 rfl (Nat.le_of_ble_eq_true rfl) (Or.inl q888) (Or.inl rfl) h8 dX5_sample_12 ?_
    refine J.iload_n (i := 1) dX5_sample_15 rfl rfl ?_
    refine J.iload_n (i := 2) dX5_sample_16 rfl rfl ?_
    refine J.if_eq (tgt := 24) dX5_sample_17 (by decide) (fun hc9 => ?_) (fun hc9 => ?_)
    · replace hf := (if_pos hc9).symm.trans hf
      refine J.iconst (v := 0) dX5_sample_24 (by decide) ?_
      replace hf := jbd hf
      obtain ⟨hp10, h11, hf⟩ := hf
      refine J.iast h11 dX5_sample_25 ?_
      refine J.iconst (v := 1) dX5_sample_26 (by decide) ?_
      obtain ⟨rfl, rfl⟩ := jso hf
      exact J.iret hE (Nat.le_of_ble_eq_true rfl) (Nat.le_of_ble_eq_true rfl) dX5_sample_27
    · replace hf := (if_neg hc9).symm.trans hf
      refine J.iconst (v := 1) dX5_sample_20 (by decide) ?_
      refine J.goto (tgt := 25) dX5_sample_21 (by decide) ?_
      replace hf := jbd hf
      obtain ⟨hp12, h13, hf⟩ := hf
      refine J.iast h13 dX5_sample_25 ?_
      refine J.iconst (v := 1) dX5_sample_26 (by decide) ?_
      obtain ⟨rfl, rfl⟩ := jso hf
      exact J.iret hE (Nat.le_of_ble_eq_true rfl) (Nat.le_of_ble_eq_true rfl) dX5_sample_27
  · replace hf := (if_pos hc6).symm.trans hf
    refine J.bipush (v := (-2)) dX5_sample_8 (by decide) ?_
    obtain ⟨rfl, rfl⟩ := jso hf
    exact J.iret hE (Nat.le_of_ble_eq_true rfl) (Nat.le_of_ble_eq_true rfl) dX5_sample_10
def rm_X5_isSuspect : Room := { frames := 0, cells := 0, slots := 0, locals := 0 }
theorem hd_X5_isSuspect : yX5_isSuspect.cls = RX5 ∧ yX5_isSuspect.cls ≠ "java/lang/invoke/MethodHandle" ∧ yX5_isSuspect.cls ≠ "java/lang/invoke/VarHandle" ∧ (parseMethodDescriptor yX5_isSuspect.desc).map (fun d => d.parameters.length) = some 1 := by decide +kernel
set_option maxHeartbeats 4000000 in
set_option maxRecDepth 100000 in
theorem w_X5_isSuspect_j124 {D : va_G} {l : Launch} {X : jX} {hp0 hpE : jH} {rE : Int32} (hDl : jDl X D l) (hRm : jRoom X rm_X5_isSuspect.frames rm_X5_isSuspect.locals rm_X5_isSuspect.cells rm_X5_isSuspect.slots) (hE : jEnds X (some .boolean) (some (.int rE)) hpE rm_X5_isSuspect.cells rm_X5_isSuspect.slots) (hX0 : jX0 X hp0) {K29 : Nat → Int32 → Int32 → Int32 → jH → Option (Int32 × jH)} (hK29 : ∀ (xa_0 : Nat) (xi_1 : Int32) (xi_2 : Int32) (xi_3 : Int32) (hp : jH), K29 xa_0 xi_1 xi_2 xi_3 hp = some (rE, hpE) → J X cX5_isSuspect 6 yX5_isSuspect 0 0 29 [some (.ref xa_0), some (.int xi_1), some (.int xi_2), some (.int xi_3), none, none] [] hp) {xa_0 : Nat} {xi_1 : Int32} {xi_2 : Int32} {xi_3 : Int32} {hp : jH} (hf : f_X5_isSuspect_j124 K29 xa_0 xi_1 xi_2 xi_3 hp = some (rE, hpE)) : J X cX5_isSuspect 6 yX5_isSuspect 0 0 124 [some (.ref xa_0), some (.int xi_1), some (.int xi_2), some (.int xi_3), none, none] [] hp := by
  rw [f_X5_isSuspect_j124] at hf
  refine J.iinc (i := 3) (v := (xi_3 + 2)) (lv' := [some (.ref xa_0), some (.int xi_1), some (.int xi_2), some (.int (xi_3 + 2)), none, none]) dX5_isSuspect_124 rfl rfl (Nat.le_of_ble_eq_true rfl) rfl ?_
  refine J.goto (tgt := 29) dX5_isSuspect_127 (by decide) ?_
  exact hK29 _ _ _ _ _ hf
set_option maxHeartbeats 4000000 in
set_option maxRecDepth 100000 in
theorem w_X5_isSuspect_j115 {D : va_G} {l : Launch} {X : jX} {hp0 hpE : jH} {rE : Int32} (hDl : jDl X D l) (hRm : jRoom X rm_X5_isSuspect.frames rm_X5_isSuspect.locals rm_X5_isSuspect.cells rm_X5_isSuspect.slots) (hE : jEnds X (some .boolean) (some (.int rE)) hpE rm_X5_isSuspect.cells rm_X5_isSuspect.slots) (hX0 : jX0 X hp0) {K29 : Nat → Int32 → Int32 → Int32 → jH → Option (Int32 × jH)} (hK29 : ∀ (xa_0 : Nat) (xi_1 : Int32) (xi_2 : Int32) (xi_3 : Int32) (hp : jH), K29 xa_0 xi_1 xi_2 xi_3 hp = some (rE, hpE) → J X cX5_isSuspect 6 yX5_isSuspect 0 0 29 [some (.ref xa_0), some (.int xi_1), some (.int xi_2), some (.int xi_3), none, none] [] hp) {K42 : Nat → Int32 → Int32 → Int32 → Int32 → Int32 → jH → Option (Int32 × jH)} (hK42 : ∀ (xa_0 : Nat) (xi_1 : Int32) (xi_2 : Int32) (xi_3 : Int32) (xi_4 : Int32) (xi_5 : Int32) (hp : jH), K42 xa_0 xi_1 xi_2 xi_3 xi_4 xi_5 hp = some (rE, hpE) → J X cX5_isSuspect 6 yX5_isSuspect 0 0 42 [some (.ref xa_0), some (.int xi_1), some (.int xi_2), some (.int xi_3), some (.int xi_4), some (.int xi_5)] [] hp) {xa_0 : Nat} {xi_1 : Int32} {xi_2 : Int32} {xi_3 : Int32} {xi_4 : Int32} {xi_5 : Int32} {hp : jH} (hf : f_X5_isSuspect_j115 K29 K42 xa_0 xi_1 xi_2 xi_3 xi_4 xi_5 hp = some (rE, hpE)) : J X cX5_isSuspect 6 yX5_isSuspect 0 0 115 [some (.ref xa_0), some (.int xi_1), some (.int xi_2), some (.int xi_3), some (.int xi_4), some (.int xi_5)] [] hp := by
  rw [f_X5_isSuspect_j115] at hf
  refine J.iload dX5_isSuspect_115 rfl ?_
  refine J.iload_n (i := 3) dX5_isSuspect_117 rfl rfl ?_
  refine J.iadd dX5_isSuspect_118 ?_
  refine J.istore (i := 5) (lv' := [some (.ref xa_0), some (.int xi_1), some (.int xi_2), some (.int xi_3), some (.int xi_4), some (.int (xi_5 + xi_3))]) dX5_isSuspect_119 (Nat.le_of_ble_eq_true rfl) rfl ?_
  refine J.goto (tgt := 42) dX5_isSuspect_121 (by decide) ?_
  exact hK42 _ _ _ _ _ _ _ hf
set_option maxHeartbeats 4000000 in
set_option maxRecDepth 100000 in
theorem w_X5_isSuspect_j114 {D : va_G} {l : Launch} {X : jX} {hp0 hpE : jH} {rE : Int32} (hDl : jDl X D l) (hRm : jRoom X rm_X5_isSuspect.frames rm_X5_isSuspect.locals rm_X5_isSuspect.cells rm_X5_isSuspect.slots) (hE : jEnds X (some .boolean) (some (.int rE)) hpE rm_X5_isSuspect.cells rm_X5_isSuspect.slots) (hX0 : jX0 X hp0) {K29 : Nat → Int32 → Int32 → Int32 → jH → Option (Int32 × jH)} (hK29 : ∀ (xa_0 : Nat) (xi_1 : Int32) (xi_2 : Int32) (xi_3 : Int32) (hp : jH), K29 xa_0 xi_1 xi_2 xi_3 hp = some (rE, hpE) → J X cX5_isSuspect 6 yX5_isSuspect 0 0 29 [some (.ref xa_0), some (.int xi_1), some (.int xi_2), some (.int xi_3), none, none] [] hp) {K42 : Nat → Int32 → Int32 → Int32 → Int32 → Int32 → jH → Option (Int32 × jH)} (hK42 : ∀ (xa_0 : Nat) (xi_1 : Int32) (xi_2 : Int32) (xi_3 : Int32) (xi_4 : Int32) (xi_5 : Int32) (hp : jH), K42 xa_0 xi_1 xi_2 xi_3 xi_4 xi_5 hp = some (rE, hpE) → J X cX5_isSuspect 6 yX5_isSuspect 0 0 42 [some (.ref xa_0), some (.int xi_1), some (.int xi_2), some (.int xi_3), some (.int xi_4), some (.int xi_5)] [] hp) {xa_0 : Nat} {xi_1 : Int32} {xi_3 : Int32} {xi_4 : Int32} {xi_5 : Int32} {xi_s0 : Int32} {hp : jH} (hf : f_X5_isSuspect_j114 K29 K42 xa_0 xi_1 xi_3 xi_4 xi_5 xi_s0 hp = some (rE, hpE)) : J X cX5_isSuspect 6 yX5_isSuspect 0 0 114 [some (.ref xa_0), some (.int xi_1), none, some (.int xi_3), some (.int xi_4), some (.int xi_5)] [.int xi_s0] hp := by
  rw [f_X5_isSuspect_j114] at hf
  refine J.istore_n (i := 2) (lv' := [some (.ref xa_0), some (.int xi_1), some (.int xi_s0), some (.int xi_3), some (.int xi_4), some (.int xi_5)]) dX5_isSuspect_114 rfl (Nat.le_of_ble_eq_true rfl) rfl ?_
  exact w_X5_isSuspect_j115 hDl hRm hE hX0 hK29 hK42 hf
set_option maxHeartbeats 4000000 in
set_option maxRecDepth 100000 in
theorem w_X5_isSuspect_j109 {D : va_G} {l : Launch} {X : jX} {hp0 hpE : jH} {rE : Int32} (hDl : jDl X D l) (hRm : jRoom X rm_X5_isSuspect.frames rm_X5_isSuspect.locals rm_X5_isSuspect.cells rm_X5_isSuspect.slots) (hE : jEnds X (some .boolean) (some (.int rE)) hpE rm_X5_isSuspect.cells rm_X5_isSuspect.slots) (hX0 : jX0 X hp0) {K29 : Nat → Int32 → Int32 → Int32 → jH → Option (Int32 × jH)} (hK29 : ∀ (xa_0 : Nat) (xi_1 : Int32) (xi_2 : Int32) (xi_3 : Int32) (hp : jH), K29 xa_0 xi_1 xi_2 xi_3 hp = some (rE, hpE) → J X cX5_isSuspect 6 yX5_isSuspect 0 0 29 [some (.ref xa_0), some (.int xi_1), some (.int xi_2), some (.int xi_3), none, none] [] hp) {K42 : Nat → Int32 → Int32 → Int32 → Int32 → Int32 → jH → Option (Int32 × jH)} (hK42 : ∀ (xa_0 : Nat) (xi_1 : Int32) (xi_2 : Int32) (xi_3 : Int32) (xi_4 : Int32) (xi_5 : Int32) (hp : jH), K42 xa_0 xi_1 xi_2 xi_3 xi_4 xi_5 hp = some (rE, hpE) → J X cX5_isSuspect 6 yX5_isSuspect 0 0 42 [some (.ref xa_0), some (.int xi_1), some (.int xi_2), some (.int xi_3), some (.int xi_4), some (.int xi_5)] [] hp) {xa_0 : Nat} {xi_1 : Int32} {xi_3 : Int32} {xi_4 : Int32} {xi_5 : Int32} {hp : jH} (hf : f_X5_isSuspect_j109 K29 K42 xa_0 xi_1 xi_3 xi_4 xi_5 hp = some (rE, hpE)) : J X cX5_isSuspect 6 yX5_isSuspect 0 0 109 [some (.ref xa_0), some (.int xi_1), none, some (.int xi_3), some (.int xi_4), some (.int xi_5)] [] hp := by
  rw [f_X5_isSuspect_j109] at hf
  refine J.iconst (v := 1) dX5_isSuspect_109 (by decide) ?_
  refine J.goto (tgt := 114) dX5_isSuspect_110 (by decide) ?_
  exact w_X5_isSuspect_j114 hDl hRm hE hX0 hK29 hK42 hf
set_option maxHeartbeats 4000000 in
set_option maxRecDepth 100000 in
theorem w_X5_isSuspect_j93 {D : va_G} {l : Launch} {X : jX} {hp0 hpE : jH} {rE : Int32} (hDl : jDl X D l) (hRm : jRoom X rm_X5_isSuspect.frames rm_X5_isSuspect.locals rm_X5_isSuspect.cells rm_X5_isSuspect.slots) (hE : jEnds X (some .boolean) (some (.int rE)) hpE rm_X5_isSuspect.cells rm_X5_isSuspect.slots) (hX0 : jX0 X hp0) {K29 : Nat → Int32 → Int32 → Int32 → jH → Option (Int32 × jH)} (hK29 : ∀ (xa_0 : Nat) (xi_1 : Int32) (xi_2 : Int32) (xi_3 : Int32) (hp : jH), K29 xa_0 xi_1 xi_2 xi_3 hp = some (rE, hpE) → J X cX5_isSuspect 6 yX5_isSuspect 0 0 29 [some (.ref xa_0), some (.int xi_1), some (.int xi_2), some (.int xi_3), none, none] [] hp) {K42 : Nat → Int32 → Int32 → Int32 → Int32 → Int32 → jH → Option (Int32 × jH)} (hK42 : ∀ (xa_0 : Nat) (xi_1 : Int32) (xi_2 : Int32) (xi_3 : Int32) (xi_4 : Int32) (xi_5 : Int32) (hp : jH), K42 xa_0 xi_1 xi_2 xi_3 xi_4 xi_5 hp = some (rE, hpE) → J X cX5_isSuspect 6 yX5_isSuspect 0 0 42 [some (.ref xa_0), some (.int xi_1), some (.int xi_2), some (.int xi_3), some (.int xi_4), some (.int xi_5)] [] hp) {xa_0 : Nat} {xi_1 : Int32} {xi_2 : Int32} {xi_3 : Int32} {xi_5 : Int32} {xi_s0 : Int32} {hp : jH} (hf : f_X5_isSuspect_j93 K29 K42 xa_0 xi_1 xi_2 xi_3 xi_5 xi_s0 hp = some (rE, hpE)) : J X cX5_isSuspect 6 yX5_isSuspect 0 0 93 [some (.ref xa_0), some (.int xi_1), some (.int xi_2), some (.int xi_3), none, some (.int xi_5)] [.int xi_s0] hp := by
  rw [f_X5_isSuspect_j93] at hf
  refine J.istore (i := 4) (lv' := [some (.ref xa_0), some (.int xi_1), some (.int xi_2), some (.int xi_3), some (.int xi_s0), some (.int xi_5)]) dX5_isSuspect_93 (Nat.le_of_ble_eq_true rfl) rfl ?_
  refine J.iload_n (i := 2) dX5_isSuspect_95 rfl rfl ?_
  refine J.if_ne (tgt := 109) dX5_isSuspect_96 (by decide) (fun hc32 => ?_) (fun hc32 => ?_)
  · replace hf := (if_neg hc32).symm.trans hf
    refine J.mask (lv' := [some (.ref xa_0), some (.int xi_1), none, some (.int xi_3), some (.int xi_s0), some (.int xi_5)]) [true, true, false, true, true, true] rfl ?_
    exact w_X5_isSuspect_j109 hDl hRm hE hX0 hK29 hK42 hf
  · replace hf := (if_pos hc32).symm.trans hf
    refine J.aload_n (i := 0) dX5_isSuspect_99 rfl rfl ?_
    replace hf := jbd hf
    obtain ⟨a33, h34, hf⟩ := hf
    refine J.getA 9 21 in_X5 rfl (Nat.le_of_ble_eq_true rfl) (Or.inl q888) (Or.inl rfl) h34 dX5_isSuspect_100 ?_
    refine J.iload dX5_isSuspect_103 rfl ?_
    replace hf := jbd hf
    obtain ⟨v35, h36, hf⟩ := hf
    refine J.iald h36 dX5_isSuspect_105 ?_
    refine J.if_ne (tgt := 113) dX5_isSuspect_106 (by decide) (fun hc37 => ?_) (fun hc37 => ?_)
    · replace hf := (if_neg hc37).symm.trans hf
      refine J.iconst (v := 0) dX5_isSuspect_113 (by decide) ?_
      refine J.mask (lv' := [some (.ref xa_0), some (.int xi_1), none, some (.int xi_3), some (.int xi_s0), some (.int xi_5)]) [true, true, false, true, true, true] rfl ?_
      exact w_X5_isSuspect_j114 hDl hRm hE hX0 hK29 hK42 hf
    · replace hf := (if_pos hc37).symm.trans hf
      refine J.mask (lv' := [some (.ref xa_0), some (.int xi_1), none, some (.int xi_3), some (.int xi_s0), some (.int xi_5)]) [true, true, false, true, true, true] rfl ?_
      exact w_X5_isSuspect_j109 hDl hRm hE hX0 hK29 hK42 hf
set_option maxHeartbeats 4000000 in
set_option maxRecDepth 100000 in
theorem w_X5_isSuspect_L42 {D : va_G} {l : Launch} {X : jX} {hp0 hpE : jH} {rE : Int32} (hDl : jDl X D l) (hRm : jRoom X rm_X5_isSuspect.frames rm_X5_isSuspect.locals rm_X5_isSuspect.cells rm_X5_isSuspect.slots) (hE : jEnds X (some .boolean) (some (.int rE)) hpE rm_X5_isSuspect.cells rm_X5_isSuspect.slots) (hX0 : jX0 X hp0) {K29 : Nat → Int32 → Int32 → Int32 → jH → Option (Int32 × jH)} (hK29 : ∀ (xa_0 : Nat) (xi_1 : Int32) (xi_2 : Int32) (xi_3 : Int32) (hp : jH), K29 xa_0 xi_1 xi_2 xi_3 hp = some (rE, hpE) → J X cX5_isSuspect 6 yX5_isSuspect 0 0 29 [some (.ref xa_0), some (.int xi_1), some (.int xi_2), some (.int xi_3), none, none] [] hp) : ∀ (N : Nat) (xa_0 : Nat) (xi_1 : Int32) (xi_2 : Int32) (xi_3 : Int32) (xi_4 : Int32) (xi_5 : Int32) (hp : jH), f_X5_isSuspect_L42 K29 N xa_0 xi_1 xi_2 xi_3 xi_4 xi_5 hp = some (rE, hpE) → J X cX5_isSuspect 6 yX5_isSuspect 0 0 42 [some (.ref xa_0), some (.int xi_1), some (.int xi_2), some (.int xi_3), some (.int xi_4), some (.int xi_5)] [] hp := by
  intro N
  induction N with
  | zero =>
    intro xa_0 xi_1 xi_2 xi_3 xi_4 xi_5 hp hf
    rw [f_X5_isSuspect_L42] at hf
    cases hf
  | succ N ih42 =>
    intro xa_0 xi_1 xi_2 xi_3 xi_4 xi_5 hp hf
    rw [f_X5_isSuspect_L42] at hf
    refine J.iload dX5_isSuspect_42 rfl ?_
    refine J.if_lt (tgt := 124) dX5_isSuspect_44 (by decide) (fun hc13 => ?_) (fun hc13 => ?_)
    · replace hf := (if_pos hc13).symm.trans hf
      refine J.mask (lv' := [some (.ref xa_0), some (.int xi_1), some (.int xi_2), some (.int xi_3), none, none]) [true, true, true, true, false, false] rfl ?_
      exact w_X5_isSuspect_j124 hDl hRm hE hX0 hK29 hf
    · replace hf := (if_neg hc13).symm.trans hf
      refine J.iload dX5_isSuspect_47 rfl ?_
      refine J.aload_n (i := 0) dX5_isSuspect_49 rfl rfl ?_
      replace hf := jbd hf
      obtain ⟨v14, h15, hf⟩ := hf
      refine J.getI 9 13 in_X5 rfl (Nat.le_of_ble_eq_true rfl) (Or.inl q880) (Or.inl rfl) h15 dX5_isSuspect_50 ?_
      refine J.icmp_ge (tgt := 124) dX5_isSuspect_53 (by decide) (fun hc16 => ?_) (fun hc16 => ?_)
      · replace hf := (if_pos hc16).symm.trans hf
        refine J.mask (lv' := [some (.ref xa_0), some (.int xi_1), some (.int xi_2), some (.int xi_3), none, none]) [true, true, true, true, false, false] rfl ?_
        exact w_X5_isSuspect_j124 hDl hRm hE hX0 hK29 hf
      · replace hf := (if_neg hc16).symm.trans hf
        refine J.iload dX5_isSuspect_56 rfl ?_
        refine J.if_ne (tgt := 124) dX5_isSuspect_58 (by decide) (fun hc17 => ?_) (fun hc17 => ?_)
        · replace hf := (if_neg hc17).symm.trans hf
          refine J.mask (lv' := [some (.ref xa_0), some (.int xi_1), some (.int xi_2), some (.int xi_3), none, none]) [true, true, true, true, false, false] rfl ?_
          exact w_X5_isSuspect_j124 hDl hRm hE hX0 hK29 hf
        · replace hf := (if_pos hc17).symm.trans hf
          refine J.aload_n (i := 0) dX5_isSuspect_61 rfl rfl ?_
          replace hf := jbd hf
          obtain ⟨a18, h19, hf⟩ := hf
          refine J.getA 9 14 in_X5 rfl (Nat.le_of_ble_eq_true rfl) (Or.inl q881) (Or.inl rfl) h19 dX5_isSuspect_62 ?_
          refine J.iload dX5_isSuspect_65 rfl ?_
          replace hf := jbd hf
          obtain ⟨v20, h21, hf⟩ := hf
          refine J.iald h21 dX5_isSuspect_67 ?_
          refine J.aload_n (i := 0) dX5_isSuspect_68 rfl rfl ?_
          replace hf := jbd hf
          obtain ⟨a22, h23, hf⟩ := hf
          refine J.getA 9 14 in_X5 rfl (Nat.le_of_ble_eq_true rfl) (Or.inl q881) (Or.inl rfl) h23 dX5_isSuspect_69 ?_
          refine J.iload_n (i := 1) dX5_isSuspect_72 rfl rfl ?_
          replace hf := jbd hf
          obtain ⟨v24, h25, hf⟩ := hf
          refine J.iald h25 dX5_isSuspect_73 ?_
          refine J.icmp_ne (tgt := 115) dX5_isSuspect_74 (by decide) (fun hc26 => ?_) (fun hc26 => ?_)
          · replace hf := (if_neg hc26).symm.trans hf
            exact w_X5_isSuspect_j115 hDl hRm hE hX0 hK29 (fun z0 z1 z2 z3 z4 z5 z6 hz => ih42 z0 z1 z2 z3 z4 z5 z6 hz) hf
          · replace hf := (if_pos hc26).symm.trans hf
            refine J.aload_n (i := 0) dX5_isSuspect_77 rfl rfl ?_
            replace hf := jbd hf
            obtain ⟨a27, h28, hf⟩ := hf
            refine J.getA 9 21 in_X5 rfl (Nat.le_of_ble_eq_true rfl) (Or.inl q888) (Or.inl rfl) h28 dX5_isSuspect_78 ?_
            refine J.iload dX5_isSuspect_81 rfl ?_
            replace hf := jbd hf
            obtain ⟨v29, h30, hf⟩ := hf
            refine J.iald h30 dX5_isSuspect_83 ?_
            refine J.iconst (v := 1) dX5_isSuspect_84 (by decide) ?_
            refine J.icmp_ne (tgt := 92) dX5_isSuspect_85 (by decide) (fun hc31 => ?_) (fun hc31 => ?_)
            · replace hf := (if_neg hc31).symm.trans hf
              refine J.iconst (v := 0) dX5_isSuspect_92 (by decide) ?_
              refine J.mask (lv' := [some (.ref xa_0), some (.int xi_1), some (.int xi_2), some (.int xi_3), none, some (.int xi_5)]) [true, true, true, true, false, true] rfl ?_
              exact w_X5_isSuspect_j93 hDl hRm hE hX0 hK29 (fun z0 z1 z2 z3 z4 z5 z6 hz => ih42 z0 z1 z2 z3 z4 z5 z6 hz) hf
            · replace hf := (if_pos hc31).symm.trans hf
              refine J.iconst (v := 1) dX5_isSuspect_88 (by decide) ?_
              refine J.goto (tgt := 93) dX5_isSuspect_89 (by decide) ?_
              refine J.mask (lv' := [some (.ref xa_0), some (.int xi_1), some (.int xi_2), some (.int xi_3), none, some (.int xi_5)]) [true, true, true, true, false, true] rfl ?_
              exact w_X5_isSuspect_j93 hDl hRm hE hX0 hK29 (fun z0 z1 z2 z3 z4 z5 z6 hz => ih42 z0 z1 z2 z3 z4 z5 z6 hz) hf
set_option maxHeartbeats 4000000 in
set_option maxRecDepth 100000 in
theorem w_X5_isSuspect_L29 {D : va_G} {l : Launch} {X : jX} {hp0 hpE : jH} {rE : Int32} (hDl : jDl X D l) (hRm : jRoom X rm_X5_isSuspect.frames rm_X5_isSuspect.locals rm_X5_isSuspect.cells rm_X5_isSuspect.slots) (hE : jEnds X (some .boolean) (some (.int rE)) hpE rm_X5_isSuspect.cells rm_X5_isSuspect.slots) (hX0 : jX0 X hp0) : ∀ (N : Nat) (xa_0 : Nat) (xi_1 : Int32) (xi_2 : Int32) (xi_3 : Int32) (hp : jH), f_X5_isSuspect_L29 N xa_0 xi_1 xi_2 xi_3 hp = some (rE, hpE) → J X cX5_isSuspect 6 yX5_isSuspect 0 0 29 [some (.ref xa_0), some (.int xi_1), some (.int xi_2), some (.int xi_3), none, none] [] hp := by
  intro N
  induction N with
  | zero =>
    intro xa_0 xi_1 xi_2 xi_3 hp hf
    rw [f_X5_isSuspect_L29] at hf
    cases hf
  | succ N ih29 =>
    intro xa_0 xi_1 xi_2 xi_3 hp hf
    rw [f_X5_isSuspect_L29] at hf
    refine J.iload_n (i := 3) dX5_isSuspect_29 rfl rfl ?_
    refine J.iconst (v := 2) dX5_isSuspect_30 (by decide) ?_
    refine J.icmp_ge (tgt := 130) dX5_isSuspect_31 (by decide) (fun hc11 => ?_) (fun hc11 => ?_)
    · replace hf := (if_pos hc11).symm.trans hf
      refine J.iload_n (i := 2) dX5_isSuspect_130 rfl rfl ?_
      by_cases hz12 : ¬ (xi_2 = (0 : Int32) ∨ xi_2 = (1 : Int32))
      · replace hf := (if_pos hz12).symm.trans hf
        cases hf
      replace hf := (if_neg hz12).symm.trans hf
      obtain ⟨rfl, rfl⟩ := jso hf
      exact J.zret hE (jz01n (Decidable.not_not.mp hz12)) (Nat.le_of_ble_eq_true rfl) (Nat.le_of_ble_eq_true rfl) dX5_isSuspect_131
    · replace hf := (if_neg hc11).symm.trans hf
      refine J.iconst (v := 0) dX5_isSuspect_34 (by decide) ?_
      refine J.istore (i := 4) (lv' := [some (.ref xa_0), some (.int xi_1), some (.int xi_2), some (.int xi_3), some (.int 0), none]) dX5_isSuspect_35 (Nat.le_of_ble_eq_true rfl) rfl ?_
      refine J.iload_n (i := 1) dX5_isSuspect_37 rfl rfl ?_
      refine J.iload_n (i := 3) dX5_isSuspect_38 rfl rfl ?_
      refine J.iadd dX5_isSuspect_39 ?_
      refine J.istore (i := 5) (lv' := [some (.ref xa_0), some (.int xi_1), some (.int xi_2), some (.int xi_3), some (.int 0), some (.int (xi_1 + xi_3))]) dX5_isSuspect_40 (Nat.le_of_ble_eq_true rfl) rfl ?_
      exact w_X5_isSuspect_L42 hDl hRm hE hX0 (fun z0 z1 z2 z3 z4 hz => ih29 z0 z1 z2 z3 z4 hz) _ _ _ _ _ _ _ _ hf
set_option maxHeartbeats 4000000 in
set_option maxRecDepth 100000 in
theorem w_X5_isSuspect_j26 {D : va_G} {l : Launch} {X : jX} {hp0 hpE : jH} {rE : Int32} (hDl : jDl X D l) (hRm : jRoom X rm_X5_isSuspect.frames rm_X5_isSuspect.locals rm_X5_isSuspect.cells rm_X5_isSuspect.slots) (hE : jEnds X (some .boolean) (some (.int rE)) hpE rm_X5_isSuspect.cells rm_X5_isSuspect.slots) (hX0 : jX0 X hp0) {xa_0 : Nat} {xi_1 : Int32} {xi_s0 : Int32} {hp : jH} (hf : f_X5_isSuspect_j26 xa_0 xi_1 xi_s0 hp = some (rE, hpE)) : J X cX5_isSuspect 6 yX5_isSuspect 0 0 26 [some (.ref xa_0), some (.int xi_1), none, none, none, none] [.int xi_s0] hp := by
  rw [f_X5_isSuspect_j26] at hf
  refine J.istore_n (i := 2) (lv' := [some (.ref xa_0), some (.int xi_1), some (.int xi_s0), none, none, none]) dX5_isSuspect_26 rfl (Nat.le_of_ble_eq_true rfl) rfl ?_
  refine J.iconst (v := (-1)) dX5_isSuspect_27 (by decide) ?_
  refine J.istore_n (i := 3) (lv' := [some (.ref xa_0), some (.int xi_1), some (.int xi_s0), some (.int (-1)), none, none]) dX5_isSuspect_28 rfl (Nat.le_of_ble_eq_true rfl) rfl ?_
  exact w_X5_isSuspect_L29 hDl hRm hE hX0 _ _ _ _ _ _ hf
set_option maxHeartbeats 4000000 in
set_option maxRecDepth 100000 in
theorem w_X5_isSuspect {D : va_G} {l : Launch} {hp hpE : jH} {rE : Int32} {this : Nat} {p1 : Int32} (hf : f_X5_isSuspect this p1 hp = some (rE, hpE)) : jM D l yX5_isSuspect (ws_ yX5_isSuspect cX5_isSuspect 6 (some .boolean)) rm_X5_isSuspect hp [.ref this, .int p1] (some (.int rE)) hpE := by
  refine jM.of (lv0 := [some (.ref this), some (.int p1), none, none, none, none]) (by decide) (Nat.le_of_ble_eq_true rfl) rfl (fun X hDl hRm hE hX0 => ?_)
  rw [f_X5_isSuspect] at hf
  refine J.aload_n (i := 0) dX5_isSuspect_0 rfl rfl ?_
  replace hf := jbd hf
  obtain ⟨a1, h2, hf⟩ := hf
  refine J.getA 9 21 in_X5 rfl (Nat.le_of_ble_eq_true rfl) (Or.inl q888) (Or.inl rfl) h2 dX5_isSuspect_1 ?_
  refine J.iload_n (i := 1) dX5_isSuspect_4 rfl rfl ?_
  replace hf := jbd hf
  obtain ⟨v3, h4, hf⟩ := hf
  refine J.iald h4 dX5_isSuspect_5 ?_
  refine J.iconst (v := 1) dX5_isSuspect_6 (by decide) ?_
  refine J.icmp_ne (tgt := 12) dX5_isSuspect_7 (by decide) (fun hc5 => ?_) (fun hc5 => ?_)
  · replace hf := (if_neg hc5).symm.trans hf
    refine J.aload_n (i := 0) dX5_isSuspect_12 rfl rfl ?_
    replace hf := jbd hf
    obtain ⟨a6, h7, hf⟩ := hf
    refine J.getA 9 21 in_X5 rfl (Nat.le_of_ble_eq_true rfl) (Or.inl q888) (Or.inl rfl) h7 dX5_isSuspect_13 ?_
    refine J.iload_n (i := 1) dX5_isSuspect_16 rfl rfl ?_
    replace hf := jbd hf
    obtain ⟨v8, h9, hf⟩ := hf
    refine J.iald h9 dX5_isSuspect_17 ?_
    refine J.if_ne (tgt := 25) dX5_isSuspect_18 (by decide) (fun hc10 => ?_) (fun hc10 => ?_)
    · replace hf := (if_neg hc10).symm.trans hf
      refine J.iconst (v := 0) dX5_isSuspect_25 (by decide) ?_
      exact w_X5_isSuspect_j26 hDl hRm hE hX0 hf
    · replace hf := (if_pos hc10).symm.trans hf
      refine J.iconst (v := 1) dX5_isSuspect_21 (by decide) ?_
      refine J.goto (tgt := 26) dX5_isSuspect_22 (by decide) ?_
      exact w_X5_isSuspect_j26 hDl hRm hE hX0 hf
  · replace hf := (if_pos hc5).symm.trans hf
    refine J.iconst (v := 0) dX5_isSuspect_10 (by decide) ?_
    obtain ⟨rfl, rfl⟩ := jso hf
    exact J.zret hE narrow_b0 (Nat.le_of_ble_eq_true rfl) (Nat.le_of_ble_eq_true rfl) dX5_isSuspect_11
def rm_X5_suspect : Room := { frames := 2, cells := 0, slots := 0, locals := 46 }
theorem hd_X5_suspect : yX5_suspect.cls = RX5 ∧ yX5_suspect.cls ≠ "java/lang/invoke/MethodHandle" ∧ yX5_suspect.cls ≠ "java/lang/invoke/VarHandle" ∧ (parseMethodDescriptor yX5_suspect.desc).map (fun d => d.parameters.length) = some 1 := by decide +kernel
set_option maxHeartbeats 4000000 in
set_option maxRecDepth 100000 in
theorem w_X5_suspect {D : va_G} {l : Launch} {hp hpE : jH} {rE : Int32} {this : Nat} {p1 : Int32} (hf : f_X5_suspect this p1 hp = some (rE, hpE)) : jM D l yX5_suspect (ws_ yX5_suspect cX5_suspect 2 (some .int)) rm_X5_suspect hp [.ref this, .int p1] (some (.int rE)) hpE := by
  refine jM.of (lv0 := [some (.ref this), some (.int p1)]) (by decide) (Nat.le_of_ble_eq_true rfl) rfl (fun X hDl hRm hE hX0 => ?_)
  rw [f_X5_suspect] at hf
  refine J.aload_n (i := 0) dX5_suspect_0 rfl rfl ?_
  refine J.iload_n (i := 1) dX5_suspect_1 rfl rfl ?_
  replace hf := jbd hf
  obtain ⟨u1, h2, hf⟩ := hf
  replace hf := jbs hf
  obtain ⟨v5, hp4, h3, hf⟩ := hf
  refine J.callV (As := [.int p1]) (k2 := 0) (n2 := 0) 9 hDl hRm (w_X5_isBar h3) (lw_V q1114 q1116 qs28 q44 q1117) hd_X5_isBar rfl ⟨_, h2⟩ rfl (Nat.le_of_ble_eq_true rfl) (Nat.le_of_ble_eq_true rfl) (Nat.le_of_ble_eq_true rfl) (Nat.le_of_ble_eq_true rfl) (Nat.le_of_ble_eq_true rfl) (Nat.le_of_ble_eq_true rfl) (Nat.le_of_ble_eq_true rfl) rfl dX5_suspect_2 ?_
  refine J.if_ne (tgt := 13) dX5_suspect_5 (by decide) (fun hc6 => ?_) (fun hc6 => ?_)
  · replace hf := (if_neg hc6).symm.trans hf
    refine J.aload_n (i := 0) dX5_suspect_13 rfl rfl ?_
    refine J.iload_n (i := 1) dX5_suspect_14 rfl rfl ?_
    replace hf := jbd hf
    obtain ⟨u7, h8, hf⟩ := hf
    replace hf := jbs hf
    obtain ⟨v11, hp10, h9, hf⟩ := hf
    refine J.callV (As := [.int p1]) (k2 := 0) (n2 := 0) 9 hDl hRm (w_X5_isSuspect h9) (lw_V q1203 q1205 qs34 q44 q1206) hd_X5_isSuspect rfl ⟨_, h8⟩ rfl (Nat.le_of_ble_eq_true rfl) (Nat.le_of_ble_eq_true rfl) (Nat.le_of_ble_eq_true rfl) (Nat.le_of_ble_eq_true rfl) (Nat.le_of_ble_eq_true rfl) (Nat.le_of_ble_eq_true rfl) (Nat.le_of_ble_eq_true rfl) rfl dX5_suspect_15 ?_
    refine J.if_eq (tgt := 25) dX5_suspect_18 (by decide) (fun hc12 => ?_) (fun hc12 => ?_)
    · replace hf := (if_pos hc12).symm.trans hf
      refine J.iconst (v := 0) dX5_suspect_25 (by decide) ?_
      obtain ⟨rfl, rfl⟩ := jso hf
      exact J.iret hE (Nat.le_of_ble_eq_true rfl) (Nat.le_of_ble_eq_true rfl) dX5_suspect_26
    · replace hf := (if_neg hc12).symm.trans hf
      refine J.iconst (v := 1) dX5_suspect_21 (by decide) ?_
      refine J.goto (tgt := 26) dX5_suspect_22 (by decide) ?_
      obtain ⟨rfl, rfl⟩ := jso hf
      exact J.iret hE (Nat.le_of_ble_eq_true rfl) (Nat.le_of_ble_eq_true rfl) dX5_suspect_26
  · replace hf := (if_pos hc6).symm.trans hf
    refine J.bipush (v := (-2)) dX5_suspect_8 (by decide) ?_
    refine J.goto (tgt := 26) dX5_suspect_10 (by decide) ?_
    obtain ⟨rfl, rfl⟩ := jso hf
    exact J.iret hE (Nat.le_of_ble_eq_true rfl) (Nat.le_of_ble_eq_true rfl) dX5_suspect_26
def rm_X5_held : Room := { frames := 1, cells := 0, slots := 0, locals := 25 }
theorem hd_X5_held : yX5_held.cls = RX5 ∧ yX5_held.cls ≠ "java/lang/invoke/MethodHandle" ∧ yX5_held.cls ≠ "java/lang/invoke/VarHandle" ∧ (parseMethodDescriptor yX5_held.desc).map (fun d => d.parameters.length) = some 0 := by decide +kernel
set_option maxHeartbeats 4000000 in
set_option maxRecDepth 100000 in
theorem w_X5_held_j31 {D : va_G} {l : Launch} {X : jX} {hp0 hpE : jH} {rE : Int32} (hDl : jDl X D l) (hRm : jRoom X rm_X5_held.frames rm_X5_held.locals rm_X5_held.cells rm_X5_held.slots) (hE : jEnds X (some .int) (some (.int rE)) hpE rm_X5_held.cells rm_X5_held.slots) (hX0 : jX0 X hp0) {K4 : Nat → Int32 → Int32 → jH → Option (Int32 × jH)} (hK4 : ∀ (xa_0 : Nat) (xi_1 : Int32) (xi_2 : Int32) (hp : jH), K4 xa_0 xi_1 xi_2 hp = some (rE, hpE) → J X cX5_held 3 yX5_held 0 0 4 [some (.ref xa_0), some (.int xi_1), some (.int xi_2)] [] hp) {xa_0 : Nat} {xi_2 : Int32} {xi_s0 : Int32} {xi_s1 : Int32} {hp : jH} (hf : f_X5_held_j31 K4 xa_0 xi_2 xi_s0 xi_s1 hp = some (rE, hpE)) : J X cX5_held 3 yX5_held 0 0 31 [some (.ref xa_0), none, some (.int xi_2)] [.int xi_s1, .int xi_s0] hp := by
  rw [f_X5_held_j31] at hf
  refine J.iadd dX5_held_31 ?_
  refine J.istore_n (i := 1) (lv' := [some (.ref xa_0), some (.int (xi_s0 + xi_s1)), some (.int xi_2)]) dX5_held_32 rfl (Nat.le_of_ble_eq_true rfl) rfl ?_
  refine J.iinc (i := 2) (v := (xi_2 + 1)) (lv' := [some (.ref xa_0), some (.int (xi_s0 + xi_s1)), some (.int (xi_2 + 1))]) dX5_held_33 rfl rfl (Nat.le_of_ble_eq_true rfl) rfl ?_
  refine J.goto (tgt := 4) dX5_held_36 (by decide) ?_
  exact hK4 _ _ _ _ hf
set_option maxHeartbeats 4000000 in
set_option maxRecDepth 100000 in
theorem w_X5_held_L4 {D : va_G} {l : Launch} {X : jX} {hp0 hpE : jH} {rE : Int32} (hDl : jDl X D l) (hRm : jRoom X rm_X5_held.frames rm_X5_held.locals rm_X5_held.cells rm_X5_held.slots) (hE : jEnds X (some .int) (some (.int rE)) hpE rm_X5_held.cells rm_X5_held.slots) (hX0 : jX0 X hp0) : ∀ (N : Nat) (xa_0 : Nat) (xi_1 : Int32) (xi_2 : Int32) (hp : jH), f_X5_held_L4 N xa_0 xi_1 xi_2 hp = some (rE, hpE) → J X cX5_held 3 yX5_held 0 0 4 [some (.ref xa_0), some (.int xi_1), some (.int xi_2)] [] hp := by
  intro N
  induction N with
  | zero =>
    intro xa_0 xi_1 xi_2 hp hf
    rw [f_X5_held_L4] at hf
    cases hf
  | succ N ih4 =>
    intro xa_0 xi_1 xi_2 hp hf
    rw [f_X5_held_L4] at hf
    refine J.iload_n (i := 2) dX5_held_4 rfl rfl ?_
    refine J.aload_n (i := 0) dX5_held_5 rfl rfl ?_
    replace hf := jbd hf
    obtain ⟨v1, h2, hf⟩ := hf
    refine J.getI 9 13 in_X5 rfl (Nat.le_of_ble_eq_true rfl) (Or.inl q880) (Or.inl rfl) h2 dX5_held_6 ?_
    refine J.icmp_ge (tgt := 39) dX5_held_9 (by decide) (fun hc3 => ?_) (fun hc3 => ?_)
    · replace hf := (if_pos hc3).symm.trans hf
      refine J.iload_n (i := 1) dX5_held_39 rfl rfl ?_
      obtain ⟨rfl, rfl⟩ := jso hf
      exact J.iret hE (Nat.le_of_ble_eq_true rfl) (Nat.le_of_ble_eq_true rfl) dX5_held_40
    · replace hf := (if_neg hc3).symm.trans hf
      refine J.iload_n (i := 1) dX5_held_12 rfl rfl ?_
      refine J.aload_n (i := 0) dX5_held_13 rfl rfl ?_
      refine J.iload_n (i := 2) dX5_held_14 rfl rfl ?_
      replace hf := jbd hf
      obtain ⟨u4, h5, hf⟩ := hf
      replace hf := jbs hf
      obtain ⟨v8, hp7, h6, hf⟩ := hf
      refine J.callV (As := [.int xi_2]) (k2 := 0) (n2 := 0) 9 hDl hRm (w_X5_isSuspect h6) (lw_V q1203 q1205 qs34 q44 q1206) hd_X5_isSuspect rfl ⟨_, h5⟩ rfl (Nat.le_of_ble_eq_true rfl) (Nat.le_of_ble_eq_true rfl) (Nat.le_of_ble_eq_true rfl) (Nat.le_of_ble_eq_true rfl) (Nat.le_of_ble_eq_true rfl) (Nat.le_of_ble_eq_true rfl) (Nat.le_of_ble_eq_true rfl) rfl dX5_held_15 ?_
      refine J.if_eq (tgt := 30) dX5_held_18 (by decide) (fun hc9 => ?_) (fun hc9 => ?_)
      · replace hf := (if_pos hc9).symm.trans hf
        refine J.iconst (v := 0) dX5_held_30 (by decide) ?_
        refine J.mask (lv' := [some (.ref xa_0), none, some (.int xi_2)]) [true, false, true] rfl ?_
        exact w_X5_held_j31 hDl hRm hE hX0 (fun z0 z1 z2 z3 hz => ih4 z0 z1 z2 z3 hz) hf
      · replace hf := (if_neg hc9).symm.trans hf
        refine J.aload_n (i := 0) dX5_held_21 rfl rfl ?_
        replace hf := jbd hf
        obtain ⟨a10, h11, hf⟩ := hf
        refine J.getA 9 17 in_X5 rfl (Nat.le_of_ble_eq_true rfl) (Or.inl q884) (Or.inl rfl) h11 dX5_held_22 ?_
        refine J.iload_n (i := 2) dX5_held_25 rfl rfl ?_
        replace hf := jbd hf
        obtain ⟨v12, h13, hf⟩ := hf
        refine J.iald h13 dX5_held_26 ?_
        refine J.goto (tgt := 31) dX5_held_27 (by decide) ?_
        refine J.mask (lv' := [some (.ref xa_0), none, some (.int xi_2)]) [true, false, true] rfl ?_
        exact w_X5_held_j31 hDl hRm hE hX0 (fun z0 z1 z2 z3 hz => ih4 z0 z1 z2 z3 hz) hf
set_option maxHeartbeats 4000000 in
set_option maxRecDepth 100000 in
theorem w_X5_held {D : va_G} {l : Launch} {hp hpE : jH} {rE : Int32} {this : Nat} (hf : f_X5_held this hp = some (rE, hpE)) : jM D l yX5_held (ws_ yX5_held cX5_held 3 (some .int)) rm_X5_held hp [.ref this] (some (.int rE)) hpE := by
  refine jM.of (lv0 := [some (.ref this), none, none]) (by decide) (Nat.le_of_ble_eq_true rfl) rfl (fun X hDl hRm hE hX0 => ?_)
  rw [f_X5_held] at hf
  refine J.iconst (v := 0) dX5_held_0 (by decide) ?_
  refine J.istore_n (i := 1) (lv' := [some (.ref this), some (.int 0), none]) dX5_held_1 rfl (Nat.le_of_ble_eq_true rfl) rfl ?_
  refine J.iconst (v := 0) dX5_held_2 (by decide) ?_
  refine J.istore_n (i := 2) (lv' := [some (.ref this), some (.int 0), some (.int 0)]) dX5_held_3 rfl (Nat.le_of_ble_eq_true rfl) rfl ?_
  exact w_X5_held_L4 hDl hRm hE hX0 _ _ _ _ _ hf
def rm_X5_drift : Room := { frames := 2, cells := 0, slots := 0, locals := 46 }
theorem hd_X5_drift : yX5_drift.cls = RX5 ∧ yX5_drift.cls ≠ "java/lang/invoke/MethodHandle" ∧ yX5_drift.cls ≠ "java/lang/invoke/VarHandle" ∧ (parseMethodDescriptor yX5_drift.desc).map (fun d => d.parameters.length) = some 2 := by decide +kernel
set_option maxHeartbeats 4000000 in
set_option maxRecDepth 100000 in
theorem w_X5_drift_j110 {D : va_G} {l : Launch} {X : jX} {hp0 hpE : jH} {rE : Int32} (hDl : jDl X D l) (hRm : jRoom X rm_X5_drift.frames rm_X5_drift.locals rm_X5_drift.cells rm_X5_drift.slots) (hE : jEnds X (some .int) (some (.int rE)) hpE rm_X5_drift.cells rm_X5_drift.slots) (hX0 : jX0 X hp0) {K32 : Nat → Int32 → Int32 → Int32 → Int32 → jH → Option (Int32 × jH)} (hK32 : ∀ (xa_0 : Nat) (xi_2 : Int32) (xi_3 : Int32) (xi_4 : Int32) (xi_5 : Int32) (hp : jH), K32 xa_0 xi_2 xi_3 xi_4 xi_5 hp = some (rE, hpE) → J X cX5_drift 7 yX5_drift 0 0 32 [some (.ref xa_0), none, some (.int xi_2), some (.int xi_3), some (.int xi_4), some (.int xi_5), none] [] hp) {xa_0 : Nat} {xi_2 : Int32} {xi_3 : Int32} {xi_4 : Int32} {xi_5 : Int32} {hp : jH} (hf : f_X5_drift_j110 K32 xa_0 xi_2 xi_3 xi_4 xi_5 hp = some (rE, hpE)) : J X cX5_drift 7 yX5_drift 0 0 110 [some (.ref xa_0), none, some (.int xi_2), some (.int xi_3), some (.int xi_4), some (.int xi_5), none] [] hp := by
  rw [f_X5_drift_j110] at hf
  refine J.iinc (i := 5) (v := (xi_5 + 1)) (lv' := [some (.ref xa_0), none, some (.int xi_2), some (.int xi_3), some (.int xi_4), some (.int (xi_5 + 1)), none]) dX5_drift_110 rfl rfl (Nat.le_of_ble_eq_true rfl) rfl ?_
  refine J.goto (tgt := 32) dX5_drift_113 (by decide) ?_
  exact hK32 _ _ _ _ _ _ hf
set_option maxHeartbeats 4000000 in
set_option maxRecDepth 100000 in
theorem w_X5_drift_j69 {D : va_G} {l : Launch} {X : jX} {hp0 hpE : jH} {rE : Int32} (hDl : jDl X D l) (hRm : jRoom X rm_X5_drift.frames rm_X5_drift.locals rm_X5_drift.cells rm_X5_drift.slots) (hE : jEnds X (some .int) (some (.int rE)) hpE rm_X5_drift.cells rm_X5_drift.slots) (hX0 : jX0 X hp0) {K32 : Nat → Int32 → Int32 → Int32 → Int32 → jH → Option (Int32 × jH)} (hK32 : ∀ (xa_0 : Nat) (xi_2 : Int32) (xi_3 : Int32) (xi_4 : Int32) (xi_5 : Int32) (hp : jH), K32 xa_0 xi_2 xi_3 xi_4 xi_5 hp = some (rE, hpE) → J X cX5_drift 7 yX5_drift 0 0 32 [some (.ref xa_0), none, some (.int xi_2), some (.int xi_3), some (.int xi_4), some (.int xi_5), none] [] hp) {xa_0 : Nat} {xi_2 : Int32} {xi_3 : Int32} {xi_4 : Int32} {xi_5 : Int32} {xi_s0 : Int32} {hp : jH} (hf : f_X5_drift_j69 K32 xa_0 xi_2 xi_3 xi_4 xi_5 xi_s0 hp = some (rE, hpE)) : J X cX5_drift 7 yX5_drift 0 0 69 [some (.ref xa_0), none, some (.int xi_2), some (.int xi_3), some (.int xi_4), some (.int xi_5), none] [.int xi_s0] hp := by
  rw [f_X5_drift_j69] at hf
  refine J.istore (i := 6) (lv' := [some (.ref xa_0), none, some (.int xi_2), some (.int xi_3), some (.int xi_4), some (.int xi_5), some (.int xi_s0)]) dX5_drift_69 (Nat.le_of_ble_eq_true rfl) rfl ?_
  refine J.iload dX5_drift_71 rfl ?_
  refine J.i2l dX5_drift_73 ?_
  refine J.lconst (v := 1) dX5_drift_74 (by decide) ?_
  refine J.ldc2 q1216 dX5_drift_75 ?_
  replace hf := jbs hf
  obtain ⟨v25, hp24, h23, hf⟩ := hf
  refine J.callS (As := [.long xi_s0.toInt64, .long (1 : Int64), .long (20000 : Int64)]) (k2 := 0) (n2 := 0) hDl hRm (w_X5_in h23) (lw_S q1031 q1032 q44 q1033) hs_X5_in rfl (Nat.le_of_ble_eq_true rfl) (Nat.le_of_ble_eq_true rfl) (Nat.le_of_ble_eq_true rfl) (Nat.le_of_ble_eq_true rfl) (Nat.le_of_ble_eq_true rfl) (Nat.le_of_ble_eq_true rfl) (Nat.le_of_ble_eq_true rfl) rfl dX5_drift_78 ?_
  refine J.if_eq (tgt := 110) dX5_drift_81 (by decide) (fun hc26 => ?_) (fun hc26 => ?_)
  · replace hf := (if_pos hc26).symm.trans hf
    refine J.mask (lv' := [some (.ref xa_0), none, some (.int xi_2), some (.int xi_3), some (.int xi_4), some (.int xi_5), none]) [true, false, true, true, true, true, false] rfl ?_
    exact w_X5_drift_j110 hDl hRm hE hX0 hK32 hf
  · replace hf := (if_neg hc26).symm.trans hf
    refine J.iload_n (i := 3) dX5_drift_84 rfl rfl ?_
    refine J.iload dX5_drift_85 rfl ?_
    refine J.aload_n (i := 0) dX5_drift_87 rfl rfl ?_
    replace hf := jbd hf
    obtain ⟨a27, h28, hf⟩ := hf
    refine J.getA 9 5 in_X5 rfl (Nat.le_of_ble_eq_true rfl) (Or.inl q872) (Or.inl rfl) h28 dX5_drift_88 ?_
    refine J.aload_n (i := 0) dX5_drift_91 rfl rfl ?_
    replace hf := jbd hf
    obtain ⟨a29, h30, hf⟩ := hf
    refine J.getA 9 7 in_X5 rfl (Nat.le_of_ble_eq_true rfl) (Or.inl q874) (Or.inl rfl) h30 dX5_drift_92 ?_
    refine J.aload_n (i := 0) dX5_drift_95 rfl rfl ?_
    replace hf := jbd hf
    obtain ⟨a31, h32, hf⟩ := hf
    refine J.getA 9 14 in_X5 rfl (Nat.le_of_ble_eq_true rfl) (Or.inl q881) (Or.inl rfl) h32 dX5_drift_96 ?_
    refine J.iload dX5_drift_99 rfl ?_
    replace hf := jbd hf
    obtain ⟨v33, h34, hf⟩ := hf
    refine J.iald h34 dX5_drift_101 ?_
    replace hf := jbd hf
    obtain ⟨v35, h36, hf⟩ := hf
    refine J.iald h36 dX5_drift_102 ?_
    replace hf := jbd hf
    obtain ⟨v37, h38, hf⟩ := hf
    refine J.iald h38 dX5_drift_103 ?_
    refine J.isub dX5_drift_104 ?_
    refine J.iadd dX5_drift_105 ?_
    refine J.istore_n (i := 3) (lv' := [some (.ref xa_0), none, some (.int xi_2), some (.int (xi_3 + (xi_s0 - v37))), some (.int xi_4), some (.int xi_5), some (.int xi_s0)]) dX5_drift_106 rfl (Nat.le_of_ble_eq_true rfl) rfl ?_
    refine J.iinc (i := 4) (v := (xi_4 + 1)) (lv' := [some (.ref xa_0), none, some (.int xi_2), some (.int (xi_3 + (xi_s0 - v37))), some (.int (xi_4 + 1)), some (.int xi_5), some (.int xi_s0)]) dX5_drift_107 rfl rfl (Nat.le_of_ble_eq_true rfl) rfl ?_
    refine J.mask (lv' := [some (.ref xa_0), none, some (.int xi_2), some (.int (xi_3 + (xi_s0 - v37))), some (.int (xi_4 + 1)), some (.int xi_5), none]) [true, false, true, true, true, true, false] rfl ?_
    exact w_X5_drift_j110 hDl hRm hE hX0 hK32 hf
set_option maxHeartbeats 4000000 in
set_option maxRecDepth 100000 in
theorem w_X5_drift_j58 {D : va_G} {l : Launch} {X : jX} {hp0 hpE : jH} {rE : Int32} (hDl : jDl X D l) (hRm : jRoom X rm_X5_drift.frames rm_X5_drift.locals rm_X5_drift.cells rm_X5_drift.slots) (hE : jEnds X (some .int) (some (.int rE)) hpE rm_X5_drift.cells rm_X5_drift.slots) (hX0 : jX0 X hp0) {K32 : Nat → Int32 → Int32 → Int32 → Int32 → jH → Option (Int32 × jH)} (hK32 : ∀ (xa_0 : Nat) (xi_2 : Int32) (xi_3 : Int32) (xi_4 : Int32) (xi_5 : Int32) (hp : jH), K32 xa_0 xi_2 xi_3 xi_4 xi_5 hp = some (rE, hpE) → J X cX5_drift 7 yX5_drift 0 0 32 [some (.ref xa_0), none, some (.int xi_2), some (.int xi_3), some (.int xi_4), some (.int xi_5), none] [] hp) {xa_0 : Nat} {xi_2 : Int32} {xi_3 : Int32} {xi_4 : Int32} {xi_5 : Int32} {hp : jH} (hf : f_X5_drift_j58 K32 xa_0 xi_2 xi_3 xi_4 xi_5 hp = some (rE, hpE)) : J X cX5_drift 7 yX5_drift 0 0 58 [some (.ref xa_0), none, some (.int xi_2), some (.int xi_3), some (.int xi_4), some (.int xi_5), none] [] hp := by
  rw [f_X5_drift_j58] at hf
  refine J.iconst (v := (-1)) dX5_drift_58 (by decide) ?_
  refine J.goto (tgt := 69) dX5_drift_59 (by decide) ?_
  exact w_X5_drift_j69 hDl hRm hE hX0 hK32 hf
set_option maxHeartbeats 4000000 in
set_option maxRecDepth 100000 in
theorem w_X5_drift_L32 {D : va_G} {l : Launch} {X : jX} {hp0 hpE : jH} {rE : Int32} (hDl : jDl X D l) (hRm : jRoom X rm_X5_drift.frames rm_X5_drift.locals rm_X5_drift.cells rm_X5_drift.slots) (hE : jEnds X (some .int) (some (.int rE)) hpE rm_X5_drift.cells rm_X5_drift.slots) (hX0 : jX0 X hp0) : ∀ (N : Nat) (xa_0 : Nat) (xi_2 : Int32) (xi_3 : Int32) (xi_4 : Int32) (xi_5 : Int32) (hp : jH), f_X5_drift_L32 N xa_0 xi_2 xi_3 xi_4 xi_5 hp = some (rE, hpE) → J X cX5_drift 7 yX5_drift 0 0 32 [some (.ref xa_0), none, some (.int xi_2), some (.int xi_3), some (.int xi_4), some (.int xi_5), none] [] hp := by
  intro N
  induction N with
  | zero =>
    intro xa_0 xi_2 xi_3 xi_4 xi_5 hp hf
    rw [f_X5_drift_L32] at hf
    cases hf
  | succ N ih32 =>
    intro xa_0 xi_2 xi_3 xi_4 xi_5 hp hf
    rw [f_X5_drift_L32] at hf
    refine J.iload dX5_drift_32 rfl ?_
    refine J.iload_n (i := 2) dX5_drift_34 rfl rfl ?_
    refine J.icmp_gt (tgt := 116) dX5_drift_35 (by decide) (fun hc14 => ?_) (fun hc14 => ?_)
    · replace hf := (if_pos hc14).symm.trans hf
      refine J.iload dX5_drift_116 rfl ?_
      refine J.if_ne (tgt := 125) dX5_drift_118 (by decide) (fun hc15 => ?_) (fun hc15 => ?_)
      · replace hf := (if_neg hc15).symm.trans hf
        refine J.iload_n (i := 3) dX5_drift_125 rfl rfl ?_
        refine J.iload dX5_drift_126 rfl ?_
        by_cases hz16 : xi_4 = (0 : Int32)
        · replace hf := (if_pos hz16).symm.trans hf
          cases hf
        replace hf := (if_neg hz16).symm.trans hf
        refine J.idiv dX5_drift_128 hz16 ?_
        refine J.istore (i := 5) (lv' := [some (.ref xa_0), none, some (.int xi_2), some (.int xi_3), some (.int xi_4), some (.int (xi_3 / xi_4)), none]) dX5_drift_129 (Nat.le_of_ble_eq_true rfl) rfl ?_
        refine J.iload dX5_drift_131 rfl ?_
        refine J.iload dX5_drift_133 rfl ?_
        refine J.imul dX5_drift_135 ?_
        refine J.iload_n (i := 3) dX5_drift_136 rfl rfl ?_
        refine J.icmp_le (tgt := 147) dX5_drift_137 (by decide) (fun hc17 => ?_) (fun hc17 => ?_)
        · replace hf := (if_pos hc17).symm.trans hf
          refine J.iload dX5_drift_147 rfl ?_
          obtain ⟨rfl, rfl⟩ := jso hf
          exact J.iret hE (Nat.le_of_ble_eq_true rfl) (Nat.le_of_ble_eq_true rfl) dX5_drift_149
        · replace hf := (if_neg hc17).symm.trans hf
          refine J.iload dX5_drift_140 rfl ?_
          refine J.iconst (v := 1) dX5_drift_142 (by decide) ?_
          refine J.isub dX5_drift_143 ?_
          refine J.goto (tgt := 149) dX5_drift_144 (by decide) ?_
          obtain ⟨rfl, rfl⟩ := jso hf
          exact J.iret hE (Nat.le_of_ble_eq_true rfl) (Nat.le_of_ble_eq_true rfl) dX5_drift_149
      · replace hf := (if_pos hc15).symm.trans hf
        refine J.ldcw q1217 dX5_drift_121 ?_
        obtain ⟨rfl, rfl⟩ := jso hf
        exact J.iret hE (Nat.le_of_ble_eq_true rfl) (Nat.le_of_ble_eq_true rfl) dX5_drift_124
    · replace hf := (if_neg hc14).symm.trans hf
      refine J.aload_n (i := 0) dX5_drift_38 rfl rfl ?_
      replace hf := jbd hf
      obtain ⟨a18, h19, hf⟩ := hf
      refine J.getA 9 47 in_X5 rfl (Nat.le_of_ble_eq_true rfl) (Or.inl q914) (Or.inl rfl) h19 dX5_drift_39 ?_
      refine J.iconst (v := 0) dX5_drift_42 (by decide) ?_
      replace hf := jbd hf
      obtain ⟨v20, h21, hf⟩ := hf
      refine J.iald h21 dX5_drift_43 ?_
      refine J.if_lt (tgt := 58) dX5_drift_44 (by decide) (fun hc22 => ?_) (fun hc22 => ?_)
      · replace hf := (if_pos hc22).symm.trans hf
        exact w_X5_drift_j58 hDl hRm hE hX0 (fun z0 z1 z2 z3 z4 z5 hz => ih32 z0 z1 z2 z3 z4 z5 hz) hf
      · replace hf := (if_neg hc22).symm.trans hf
        refine J.iload dX5_drift_47 rfl ?_
        refine J.aload_n (i := 0) dX5_drift_49 rfl rfl ?_
        replace hf := jbd hf
        obtain ⟨a39, h40, hf⟩ := hf
        refine J.getA 9 48 in_X5 rfl (Nat.le_of_ble_eq_true rfl) (Or.inl q915) (Or.inl rfl) h40 dX5_drift_50 ?_
        refine J.iconst (v := 0) dX5_drift_53 (by decide) ?_
        replace hf := jbd hf
        obtain ⟨v41, h42, hf⟩ := hf
        refine J.iald h42 dX5_drift_54 ?_
        refine J.icmp_lt (tgt := 62) dX5_drift_55 (by decide) (fun hc43 => ?_) (fun hc43 => ?_)
        · replace hf := (if_pos hc43).symm.trans hf
          refine J.aload_n (i := 0) dX5_drift_62 rfl rfl ?_
          replace hf := jbd hf
          obtain ⟨a44, h45, hf⟩ := hf
          refine J.getA 9 49 in_X5 rfl (Nat.le_of_ble_eq_true rfl) (Or.inl q916) (Or.inl rfl) h45 dX5_drift_63 ?_
          refine J.iload dX5_drift_66 rfl ?_
          replace hf := jbd hf
          obtain ⟨v46, h47, hf⟩ := hf
          refine J.iald h47 dX5_drift_68 ?_
          exact w_X5_drift_j69 hDl hRm hE hX0 (fun z0 z1 z2 z3 z4 z5 hz => ih32 z0 z1 z2 z3 z4 z5 hz) hf
        · replace hf := (if_neg hc43).symm.trans hf
          exact w_X5_drift_j58 hDl hRm hE hX0 (fun z0 z1 z2 z3 z4 z5 hz => ih32 z0 z1 z2 z3 z4 z5 hz) hf
set_option maxHeartbeats 4000000 in
set_option maxRecDepth 100000 in
theorem w_X5_drift {D : va_G} {l : Launch} {hp hpE : jH} {rE : Int32} {this : Nat} {p1 : Int32} {p2 : Int32} (hf : f_X5_drift this p1 p2 hp = some (rE, hpE)) : jM D l yX5_drift (ws_ yX5_drift cX5_drift 7 (some .int)) rm_X5_drift hp [.ref this, .int p1, .int p2] (some (.int rE)) hpE := by
  refine jM.of (lv0 := [some (.ref this), some (.int p1), some (.int p2), none, none, none, none]) (by decide) (Nat.le_of_ble_eq_true rfl) rfl (fun X hDl hRm hE hX0 => ?_)
  rw [f_X5_drift] at hf
  refine J.aload_n (i := 0) dX5_drift_0 rfl rfl ?_
  refine J.iload_n (i := 1) dX5_drift_1 rfl rfl ?_
  replace hf := jbd hf
  obtain ⟨u1, h2, hf⟩ := hf
  replace hf := jbs hf
  obtain ⟨v5, hp4, h3, hf⟩ := hf
  refine J.callV (As := [.int p1]) (k2 := 0) (n2 := 0) 9 hDl hRm (w_X5_isBar h3) (lw_V q1114 q1116 qs28 q44 q1117) hd_X5_isBar rfl ⟨_, h2⟩ rfl (Nat.le_of_ble_eq_true rfl) (Nat.le_of_ble_eq_true rfl) (Nat.le_of_ble_eq_true rfl) (Nat.le_of_ble_eq_true rfl) (Nat.le_of_ble_eq_true rfl) (Nat.le_of_ble_eq_true rfl) (Nat.le_of_ble_eq_true rfl) rfl dX5_drift_2 ?_
  refine J.if_eq (tgt := 21) dX5_drift_5 (by decide) (fun hc6 => ?_) (fun hc6 => ?_)
  · replace hf := (if_pos hc6).symm.trans hf
    refine J.ldc q1215 dX5_drift_21 ?_
    obtain ⟨rfl, rfl⟩ := jso hf
    exact J.iret hE (Nat.le_of_ble_eq_true rfl) (Nat.le_of_ble_eq_true rfl) dX5_drift_23
  · replace hf := (if_neg hc6).symm.trans hf
    refine J.aload_n (i := 0) dX5_drift_8 rfl rfl ?_
    refine J.iload_n (i := 2) dX5_drift_9 rfl rfl ?_
    replace hf := jbd hf
    obtain ⟨u7, h8, hf⟩ := hf
    replace hf := jbs hf
    obtain ⟨v11, hp10, h9, hf⟩ := hf
    refine J.callV (As := [.int p2]) (k2 := 0) (n2 := 0) 9 hDl hRm (w_X5_isBar h9) (lw_V q1114 q1116 qs28 q44 q1117) hd_X5_isBar rfl ⟨_, h8⟩ rfl (Nat.le_of_ble_eq_true rfl) (Nat.le_of_ble_eq_true rfl) (Nat.le_of_ble_eq_true rfl) (Nat.le_of_ble_eq_true rfl) (Nat.le_of_ble_eq_true rfl) (Nat.le_of_ble_eq_true rfl) (Nat.le_of_ble_eq_true rfl) rfl dX5_drift_10 ?_
    refine J.if_eq (tgt := 21) dX5_drift_13 (by decide) (fun hc12 => ?_) (fun hc12 => ?_)
    · replace hf := (if_pos hc12).symm.trans hf
      refine J.ldc q1215 dX5_drift_21 ?_
      obtain ⟨rfl, rfl⟩ := jso hf
      exact J.iret hE (Nat.le_of_ble_eq_true rfl) (Nat.le_of_ble_eq_true rfl) dX5_drift_23
    · replace hf := (if_neg hc12).symm.trans hf
      refine J.iload_n (i := 1) dX5_drift_16 rfl rfl ?_
      refine J.iload_n (i := 2) dX5_drift_17 rfl rfl ?_
      refine J.icmp_le (tgt := 24) dX5_drift_18 (by decide) (fun hc13 => ?_) (fun hc13 => ?_)
      · replace hf := (if_pos hc13).symm.trans hf
        refine J.iconst (v := 0) dX5_drift_24 (by decide) ?_
        refine J.istore_n (i := 3) (lv' := [some (.ref this), some (.int p1), some (.int p2), some (.int 0), none, none, none]) dX5_drift_25 rfl (Nat.le_of_ble_eq_true rfl) rfl ?_
        refine J.iconst (v := 0) dX5_drift_26 (by decide) ?_
        refine J.istore (i := 4) (lv' := [some (.ref this), some (.int p1), some (.int p2), some (.int 0), some (.int 0), none, none]) dX5_drift_27 (Nat.le_of_ble_eq_true rfl) rfl ?_
        refine J.iload_n (i := 1) dX5_drift_29 rfl rfl ?_
        refine J.istore (i := 5) (lv' := [some (.ref this), some (.int p1), some (.int p2), some (.int 0), some (.int 0), some (.int p1), none]) dX5_drift_30 (Nat.le_of_ble_eq_true rfl) rfl ?_
        refine J.mask (lv' := [some (.ref this), none, some (.int p2), some (.int 0), some (.int 0), some (.int p1), none]) [true, false, true, true, true, true, false] rfl ?_
        exact w_X5_drift_L32 hDl hRm hE hX0 _ _ _ _ _ _ _ hf
      · replace hf := (if_neg hc13).symm.trans hf
        refine J.ldc q1215 dX5_drift_21 ?_
        obtain ⟨rfl, rfl⟩ := jso hf
        exact J.iret hE (Nat.le_of_ble_eq_true rfl) (Nat.le_of_ble_eq_true rfl) dX5_drift_23
def rm_X5_met : Room := { frames := 0, cells := 0, slots := 0, locals := 0 }
theorem hd_X5_met : yX5_met.cls = RX5 ∧ yX5_met.cls ≠ "java/lang/invoke/MethodHandle" ∧ yX5_met.cls ≠ "java/lang/invoke/VarHandle" ∧ (parseMethodDescriptor yX5_met.desc).map (fun d => d.parameters.length) = some 1 := by decide +kernel
set_option maxHeartbeats 4000000 in
set_option maxRecDepth 100000 in
theorem w_X5_met {D : va_G} {l : Launch} {hp hpE : jH} {rE : Int32} {this : Nat} {p1 : Int32} (hf : f_X5_met this p1 hp = some (rE, hpE)) : jM D l yX5_met (ws_ yX5_met cX5_met 2 (some .int)) rm_X5_met hp [.ref this, .int p1] (some (.int rE)) hpE := by
  refine jM.of (lv0 := [some (.ref this), some (.int p1)]) (by decide) (Nat.le_of_ble_eq_true rfl) rfl (fun X hDl hRm hE hX0 => ?_)
  rw [f_X5_met] at hf
  refine J.aload_n (i := 0) dX5_met_0 rfl rfl ?_
  refine J.iload_n (i := 1) dX5_met_1 rfl rfl ?_
  replace hf := jbd hf
  obtain ⟨hp1, h2, hf⟩ := hf
  refine J.put (ty := .int) 9 51 in_X5 ap9 rfl (Nat.le_of_ble_eq_true rfl) (Or.inl q918) (Or.inl rfl) rfl (by decide +kernel) (fun _ => ⟨rfl, rfl⟩) h2 dX5_met_2 ?_
  refine J.bipush (v := (-10)) dX5_met_5 (by decide) ?_
  refine J.iload_n (i := 1) dX5_met_7 rfl rfl ?_
  refine J.isub dX5_met_8 ?_
  obtain ⟨rfl, rfl⟩ := jso hf
  exact J.iret hE (Nat.le_of_ble_eq_true rfl) (Nat.le_of_ble_eq_true rfl) dX5_met_9
def rm_X5_isSheet : Room := { frames := 1, cells := 0, slots := 0, locals := 25 }
theorem hs_X5_isSheet : yX5_isSheet.cls ≠ "java/lang/invoke/MethodHandle" ∧ yX5_isSheet.cls ≠ "java/lang/invoke/VarHandle" ∧ (parseMethodDescriptor yX5_isSheet.desc).map (fun d => d.parameters.length) = some 1 := by decide +kernel
set_option maxHeartbeats 4000000 in
set_option maxRecDepth 100000 in
theorem w_X5_isSheet {D : va_G} {l : Launch} {hp hpE : jH} {rE : Int32} {p1 : Int32} (hf : f_X5_isSheet p1 hp = some (rE, hpE)) : jM D l yX5_isSheet (ws_ yX5_isSheet cX5_isSheet 1 (some .boolean)) rm_X5_isSheet hp [.int p1] (some (.int rE)) hpE := by
  refine jM.of (lv0 := [some (.int p1)]) (by decide) (Nat.le_of_ble_eq_true rfl) rfl (fun X hDl hRm hE hX0 => ?_)
  rw [f_X5_isSheet] at hf
  refine J.iload_n (i := 0) dX5_isSheet_0 rfl rfl ?_
  refine J.i2l dX5_isSheet_1 ?_
  refine J.lconst (v := 0) dX5_isSheet_2 (by decide) ?_
  refine J.ldc2 q1036 dX5_isSheet_3 ?_
  replace hf := jbs hf
  obtain ⟨v3, hp2, h1, hf⟩ := hf
  refine J.callS (As := [.long p1.toInt64, .long (0 : Int64), .long (3 : Int64)]) (k2 := 0) (n2 := 0) hDl hRm (w_X5_in h1) (lw_S q1031 q1032 q44 q1033) hs_X5_in rfl (Nat.le_of_ble_eq_true rfl) (Nat.le_of_ble_eq_true rfl) (Nat.le_of_ble_eq_true rfl) (Nat.le_of_ble_eq_true rfl) (Nat.le_of_ble_eq_true rfl) (Nat.le_of_ble_eq_true rfl) (Nat.le_of_ble_eq_true rfl) rfl dX5_isSheet_6 ?_
  by_cases hz4 : ¬ (v3 = (0 : Int32) ∨ v3 = (1 : Int32))
  · replace hf := (if_pos hz4).symm.trans hf
    cases hf
  replace hf := (if_neg hz4).symm.trans hf
  obtain ⟨rfl, rfl⟩ := jso hf
  exact J.zret hE (jz01n (Decidable.not_not.mp hz4)) (Nat.le_of_ble_eq_true rfl) (Nat.le_of_ble_eq_true rfl) dX5_isSheet_9
def rm_X5_sheet : Room := { frames := 2, cells := 0, slots := 0, locals := 45 }
theorem hd_X5_sheet : yX5_sheet.cls = RX5 ∧ yX5_sheet.cls ≠ "java/lang/invoke/MethodHandle" ∧ yX5_sheet.cls ≠ "java/lang/invoke/VarHandle" ∧ (parseMethodDescriptor yX5_sheet.desc).map (fun d => d.parameters.length) = some 3 := by decide +kernel
set_option maxHeartbeats 4000000 in
set_option maxRecDepth 100000 in
theorem w_X5_sheet_L56 {D : va_G} {l : Launch} {X : jX} {hp0 hpE : jH} {rE : Int32} (hDl : jDl X D l) (hRm : jRoom X rm_X5_sheet.frames rm_X5_sheet.locals rm_X5_sheet.cells rm_X5_sheet.slots) (hE : jEnds X (some .int) (some (.int rE)) hpE rm_X5_sheet.cells rm_X5_sheet.slots) (hX0 : jX0 X hp0) : ∀ (N : Nat) (xa_0 : Nat) (xi_1 : Int32) (xi_3 : Int32) (xi_4 : Int32) (hp : jH), f_X5_sheet_L56 N xa_0 xi_1 xi_3 xi_4 hp = some (rE, hpE) → J X cX5_sheet 5 yX5_sheet 0 0 56 [some (.ref xa_0), some (.int xi_1), none, some (.int xi_3), some (.int xi_4)] [] hp := by
  intro N
  induction N with
  | zero =>
    intro xa_0 xi_1 xi_3 xi_4 hp hf
    rw [f_X5_sheet_L56] at hf
    cases hf
  | succ N ih56 =>
    intro xa_0 xi_1 xi_3 xi_4 hp hf
    rw [f_X5_sheet_L56] at hf
    refine J.iload dX5_sheet_56 rfl ?_
    refine J.iload_n (i := 3) dX5_sheet_58 rfl rfl ?_
    refine J.icmp_ge (tgt := 82) dX5_sheet_59 (by decide) (fun hc19 => ?_) (fun hc19 => ?_)
    · replace hf := (if_pos hc19).symm.trans hf
      refine J.iload_n (i := 3) dX5_sheet_82 rfl rfl ?_
      obtain ⟨rfl, rfl⟩ := jso hf
      exact J.iret hE (Nat.le_of_ble_eq_true rfl) (Nat.le_of_ble_eq_true rfl) dX5_sheet_83
    · replace hf := (if_neg hc19).symm.trans hf
      refine J.aload_n (i := 0) dX5_sheet_62 rfl rfl ?_
      replace hf := jbd hf
      obtain ⟨a20, h21, hf⟩ := hf
      refine J.getA 9 49 in_X5 rfl (Nat.le_of_ble_eq_true rfl) (Or.inl q916) (Or.inl rfl) h21 dX5_sheet_63 ?_
      refine J.sipush (v := 200) dX5_sheet_66 (by decide) ?_
      refine J.iload_n (i := 1) dX5_sheet_69 rfl rfl ?_
      refine J.imul dX5_sheet_70 ?_
      refine J.iload dX5_sheet_71 rfl ?_
      refine J.iadd dX5_sheet_73 ?_
      refine J.iconst (v := 0) dX5_sheet_74 (by decide) ?_
      replace hf := jbd hf
      obtain ⟨hp22, h23, hf⟩ := hf
      refine J.iast h23 dX5_sheet_75 ?_
      refine J.iinc (i := 4) (v := (xi_4 + 1)) (lv' := [some (.ref xa_0), some (.int xi_1), none, some (.int xi_3), some (.int (xi_4 + 1))]) dX5_sheet_76 rfl rfl (Nat.le_of_ble_eq_true rfl) rfl ?_
      refine J.goto (tgt := 56) dX5_sheet_79 (by decide) ?_
      exact ih56 _ _ _ _ _ hf
set_option maxHeartbeats 4000000 in
set_option maxRecDepth 100000 in
theorem w_X5_sheet {D : va_G} {l : Launch} {hp hpE : jH} {rE : Int32} {this : Nat} {p1 : Int32} {p2 : Int32} {p3 : Int32} (hf : f_X5_sheet this p1 p2 p3 hp = some (rE, hpE)) : jM D l yX5_sheet (ws_ yX5_sheet cX5_sheet 5 (some .int)) rm_X5_sheet hp [.ref this, .int p1, .int p2, .int p3] (some (.int rE)) hpE := by
  refine jM.of (lv0 := [some (.ref this), some (.int p1), some (.int p2), some (.int p3), none]) (by decide) (Nat.le_of_ble_eq_true rfl) rfl (fun X hDl hRm hE hX0 => ?_)
  rw [f_X5_sheet] at hf
  refine J.iload_n (i := 1) dX5_sheet_0 rfl rfl ?_
  replace hf := jbs hf
  obtain ⟨v3, hp2, h1, hf⟩ := hf
  refine J.callS (As := [.int p1]) (k2 := 0) (n2 := 0) hDl hRm (w_X5_isSheet h1) (lw_S q1222 q1223 q44 q1224) hs_X5_isSheet rfl (Nat.le_of_ble_eq_true rfl) (Nat.le_of_ble_eq_true rfl) (Nat.le_of_ble_eq_true rfl) (Nat.le_of_ble_eq_true rfl) (Nat.le_of_ble_eq_true rfl) (Nat.le_of_ble_eq_true rfl) (Nat.le_of_ble_eq_true rfl) rfl dX5_sheet_1 ?_
  refine J.if_eq (tgt := 26) dX5_sheet_4 (by decide) (fun hc4 => ?_) (fun hc4 => ?_)
  · replace hf := (if_pos hc4).symm.trans hf
    refine J.bipush (v := (-2)) dX5_sheet_26 (by decide) ?_
    obtain ⟨rfl, rfl⟩ := jso hf
    exact J.iret hE (Nat.le_of_ble_eq_true rfl) (Nat.le_of_ble_eq_true rfl) dX5_sheet_28
  · replace hf := (if_neg hc4).symm.trans hf
    refine J.iload_n (i := 2) dX5_sheet_7 rfl rfl ?_
    refine J.i2l dX5_sheet_8 ?_
    refine J.lconst (v := 0) dX5_sheet_9 (by decide) ?_
    refine J.ldc2 q1030 dX5_sheet_10 ?_
    replace hf := jbs hf
    obtain ⟨v7, hp6, h5, hf⟩ := hf
    refine J.callS (As := [.long p2.toInt64, .long (0 : Int64), .long (2 : Int64)]) (k2 := 0) (n2 := 0) hDl hRm (w_X5_in h5) (lw_S q1031 q1032 q44 q1033) hs_X5_in rfl (Nat.le_of_ble_eq_true rfl) (Nat.le_of_ble_eq_true rfl) (Nat.le_of_ble_eq_true rfl) (Nat.le_of_ble_eq_true rfl) (Nat.le_of_ble_eq_true rfl) (Nat.le_of_ble_eq_true rfl) (Nat.le_of_ble_eq_true rfl) rfl dX5_sheet_13 ?_
    refine J.if_eq (tgt := 26) dX5_sheet_16 (by decide) (fun hc8 => ?_) (fun hc8 => ?_)
    · replace hf := (if_pos hc8).symm.trans hf
      refine J.bipush (v := (-2)) dX5_sheet_26 (by decide) ?_
      obtain ⟨rfl, rfl⟩ := jso hf
      exact J.iret hE (Nat.le_of_ble_eq_true rfl) (Nat.le_of_ble_eq_true rfl) dX5_sheet_28
    · replace hf := (if_neg hc8).symm.trans hf
      refine J.iload_n (i := 3) dX5_sheet_19 rfl rfl ?_
      refine J.sipush (v := 200) dX5_sheet_20 (by decide) ?_
      refine J.icmp_le (tgt := 29) dX5_sheet_23 (by decide) (fun hc9 => ?_) (fun hc9 => ?_)
      · replace hf := (if_pos hc9).symm.trans hf
        refine J.iload_n (i := 3) dX5_sheet_29 rfl rfl ?_
        refine J.if_ge (tgt := 39) dX5_sheet_30 (by decide) (fun hc10 => ?_) (fun hc10 => ?_)
        · replace hf := (if_pos hc10).symm.trans hf
          refine J.aload_n (i := 0) dX5_sheet_39 rfl rfl ?_
          replace hf := jbd hf
          obtain ⟨a11, h12, hf⟩ := hf
          refine J.getA 9 47 in_X5 rfl (Nat.le_of_ble_eq_true rfl) (Or.inl q914) (Or.inl rfl) h12 dX5_sheet_40 ?_
          refine J.iload_n (i := 1) dX5_sheet_43 rfl rfl ?_
          refine J.iload_n (i := 2) dX5_sheet_44 rfl rfl ?_
          replace hf := jbd hf
          obtain ⟨hp13, h14, hf⟩ := hf
          refine J.iast h14 dX5_sheet_45 ?_
          refine J.aload_n (i := 0) dX5_sheet_46 rfl rfl ?_
          replace hf := jbd hf
          obtain ⟨a15, h16, hf⟩ := hf
          refine J.getA 9 48 in_X5 rfl (Nat.le_of_ble_eq_true rfl) (Or.inl q915) (Or.inl rfl) h16 dX5_sheet_47 ?_
          refine J.iload_n (i := 1) dX5_sheet_50 rfl rfl ?_
          refine J.iload_n (i := 3) dX5_sheet_51 rfl rfl ?_
          replace hf := jbd hf
          obtain ⟨hp17, h18, hf⟩ := hf
          refine J.iast h18 dX5_sheet_52 ?_
          refine J.iconst (v := 0) dX5_sheet_53 (by decide) ?_
          refine J.istore (i := 4) (lv' := [some (.ref this), some (.int p1), some (.int p2), some (.int p3), some (.int 0)]) dX5_sheet_54 (Nat.le_of_ble_eq_true rfl) rfl ?_
          refine J.mask (lv' := [some (.ref this), some (.int p1), none, some (.int p3), some (.int 0)]) [true, true, false, true, true] rfl ?_
          exact w_X5_sheet_L56 hDl hRm hE hX0 _ _ _ _ _ _ hf
        · replace hf := (if_neg hc10).symm.trans hf
          refine J.aload_n (i := 0) dX5_sheet_33 rfl rfl ?_
          refine J.iconst (v := 5) dX5_sheet_34 (by decide) ?_
          replace hf := jbd hf
          obtain ⟨u24, h25, hf⟩ := hf
          replace hf := jbs hf
          obtain ⟨v28, hp27, h26, hf⟩ := hf
          refine J.callV (As := [.int 5]) (k2 := 0) (n2 := 0) 9 hDl hRm (w_X5_met h26) (lw_V q1225 q1227 qs35 q44 q1228) hd_X5_met rfl ⟨_, h25⟩ rfl (Nat.le_of_ble_eq_true rfl) (Nat.le_of_ble_eq_true rfl) (Nat.le_of_ble_eq_true rfl) (Nat.le_of_ble_eq_true rfl) (Nat.le_of_ble_eq_true rfl) (Nat.le_of_ble_eq_true rfl) (Nat.le_of_ble_eq_true rfl) rfl dX5_sheet_35 ?_
          obtain ⟨rfl, rfl⟩ := jso hf
          exact J.iret hE (Nat.le_of_ble_eq_true rfl) (Nat.le_of_ble_eq_true rfl) dX5_sheet_38
      · replace hf := (if_neg hc9).symm.trans hf
        refine J.bipush (v := (-2)) dX5_sheet_26 (by decide) ?_
        obtain ⟨rfl, rfl⟩ := jso hf
        exact J.iret hE (Nat.le_of_ble_eq_true rfl) (Nat.le_of_ble_eq_true rfl) dX5_sheet_28
def rm_X5_lose : Room := { frames := 2, cells := 0, slots := 0, locals := 45 }
theorem hd_X5_lose : yX5_lose.cls = RX5 ∧ yX5_lose.cls ≠ "java/lang/invoke/MethodHandle" ∧ yX5_lose.cls ≠ "java/lang/invoke/VarHandle" ∧ (parseMethodDescriptor yX5_lose.desc).map (fun d => d.parameters.length) = some 1 := by decide +kernel
set_option maxHeartbeats 4000000 in
set_option maxRecDepth 100000 in
theorem w_X5_lose {D : va_G} {l : Launch} {hp hpE : jH} {rE : Int32} {this : Nat} {p1 : Int32} (hf : f_X5_lose this p1 hp = some (rE, hpE)) : jM D l yX5_lose (ws_ yX5_lose cX5_lose 2 (some .int)) rm_X5_lose hp [.ref this, .int p1] (some (.int rE)) hpE := by
  refine jM.of (lv0 := [some (.ref this), some (.int p1)]) (by decide) (Nat.le_of_ble_eq_true rfl) rfl (fun X hDl hRm hE hX0 => ?_)
  rw [f_X5_lose] at hf
  refine J.iload_n (i := 1) dX5_lose_0 rfl rfl ?_
  replace hf := jbs hf
  obtain ⟨v3, hp2, h1, hf⟩ := hf
  refine J.callS (As := [.int p1]) (k2 := 0) (n2 := 0) hDl hRm (w_X5_isSheet h1) (lw_S q1222 q1223 q44 q1224) hs_X5_isSheet rfl (Nat.le_of_ble_eq_true rfl) (Nat.le_of_ble_eq_true rfl) (Nat.le_of_ble_eq_true rfl) (Nat.le_of_ble_eq_true rfl) (Nat.le_of_ble_eq_true rfl) (Nat.le_of_ble_eq_true rfl) (Nat.le_of_ble_eq_true rfl) rfl dX5_lose_1 ?_
  refine J.if_ne (tgt := 10) dX5_lose_4 (by decide) (fun hc4 => ?_) (fun hc4 => ?_)
  · replace hf := (if_neg hc4).symm.trans hf
    refine J.aload_n (i := 0) dX5_lose_10 rfl rfl ?_
    replace hf := jbd hf
    obtain ⟨a5, h6, hf⟩ := hf
    refine J.getA 9 47 in_X5 rfl (Nat.le_of_ble_eq_true rfl) (Or.inl q914) (Or.inl rfl) h6 dX5_lose_11 ?_
    refine J.iload_n (i := 1) dX5_lose_14 rfl rfl ?_
    replace hf := jbd hf
    obtain ⟨v7, h8, hf⟩ := hf
    refine J.iald h8 dX5_lose_15 ?_
    refine J.if_ge (tgt := 25) dX5_lose_16 (by decide) (fun hc9 => ?_) (fun hc9 => ?_)
    · replace hf := (if_pos hc9).symm.trans hf
      refine J.aload_n (i := 0) dX5_lose_25 rfl rfl ?_
      replace hf := jbd hf
      obtain ⟨a10, h11, hf⟩ := hf
      refine J.getA 9 47 in_X5 rfl (Nat.le_of_ble_eq_true rfl) (Or.inl q914) (Or.inl rfl) h11 dX5_lose_26 ?_
      refine J.iload_n (i := 1) dX5_lose_29 rfl rfl ?_
      refine J.iconst (v := (-1)) dX5_lose_30 (by decide) ?_
      replace hf := jbd hf
      obtain ⟨hp12, h13, hf⟩ := hf
      refine J.iast h13 dX5_lose_31 ?_
      refine J.aload_n (i := 0) dX5_lose_32 rfl rfl ?_
      replace hf := jbd hf
      obtain ⟨a14, h15, hf⟩ := hf
      refine J.getA 9 48 in_X5 rfl (Nat.le_of_ble_eq_true rfl) (Or.inl q915) (Or.inl rfl) h15 dX5_lose_33 ?_
      refine J.iload_n (i := 1) dX5_lose_36 rfl rfl ?_
      replace hf := jbd hf
      obtain ⟨v16, h17, hf⟩ := hf
      refine J.iald h17 dX5_lose_37 ?_
      obtain ⟨rfl, rfl⟩ := jso hf
      exact J.iret hE (Nat.le_of_ble_eq_true rfl) (Nat.le_of_ble_eq_true rfl) dX5_lose_38
    · replace hf := (if_neg hc9).symm.trans hf
      refine J.aload_n (i := 0) dX5_lose_19 rfl rfl ?_
      refine J.iconst (v := 1) dX5_lose_20 (by decide) ?_
      replace hf := jbd hf
      obtain ⟨u18, h19, hf⟩ := hf
      replace hf := jbs hf
      obtain ⟨v22, hp21, h20, hf⟩ := hf
      refine J.callV (As := [.int 1]) (k2 := 0) (n2 := 0) 9 hDl hRm (w_X5_met h20) (lw_V q1225 q1227 qs35 q44 q1228) hd_X5_met rfl ⟨_, h19⟩ rfl (Nat.le_of_ble_eq_true rfl) (Nat.le_of_ble_eq_true rfl) (Nat.le_of_ble_eq_true rfl) (Nat.le_of_ble_eq_true rfl) (Nat.le_of_ble_eq_true rfl) (Nat.le_of_ble_eq_true rfl) (Nat.le_of_ble_eq_true rfl) rfl dX5_lose_21 ?_
      obtain ⟨rfl, rfl⟩ := jso hf
      exact J.iret hE (Nat.le_of_ble_eq_true rfl) (Nat.le_of_ble_eq_true rfl) dX5_lose_24
  · replace hf := (if_pos hc4).symm.trans hf
    refine J.bipush (v := (-2)) dX5_lose_7 (by decide) ?_
    obtain ⟨rfl, rfl⟩ := jso hf
    exact J.iret hE (Nat.le_of_ble_eq_true rfl) (Nat.le_of_ble_eq_true rfl) dX5_lose_9
def rm_X5_lacks : Room := { frames := 1, cells := 0, slots := 0, locals := 25 }
theorem hd_X5_lacks : yX5_lacks.cls = RX5 ∧ yX5_lacks.cls ≠ "java/lang/invoke/MethodHandle" ∧ yX5_lacks.cls ≠ "java/lang/invoke/VarHandle" ∧ (parseMethodDescriptor yX5_lacks.desc).map (fun d => d.parameters.length) = some 3 := by decide +kernel
set_option maxHeartbeats 4000000 in
set_option maxRecDepth 100000 in
theorem w_X5_lacks {D : va_G} {l : Launch} {hp hpE : jH} {rE : Int32} {this : Nat} {p1 : Int32} {p2 : Int32} {p3 : Int32} (hf : f_X5_lacks this p1 p2 p3 hp = some (rE, hpE)) : jM D l yX5_lacks (ws_ yX5_lacks cX5_lacks 4 (some .int)) rm_X5_lacks hp [.ref this, .int p1, .int p2, .int p3] (some (.int rE)) hpE := by
  refine jM.of (lv0 := [some (.ref this), some (.int p1), some (.int p2), some (.int p3)]) (by decide) (Nat.le_of_ble_eq_true rfl) rfl (fun X hDl hRm hE hX0 => ?_)
  rw [f_X5_lacks] at hf
  refine J.aload_n (i := 0) dX5_lacks_0 rfl rfl ?_
  replace hf := jbd hf
  obtain ⟨a1, h2, hf⟩ := hf
  refine J.getA 9 47 in_X5 rfl (Nat.le_of_ble_eq_true rfl) (Or.inl q914) (Or.inl rfl) h2 dX5_lacks_1 ?_
  refine J.iload_n (i := 1) dX5_lacks_4 rfl rfl ?_
  replace hf := jbd hf
  obtain ⟨v3, h4, hf⟩ := hf
  refine J.iald h4 dX5_lacks_5 ?_
  refine J.if_ge (tgt := 15) dX5_lacks_6 (by decide) (fun hc5 => ?_) (fun hc5 => ?_)
  · replace hf := (if_pos hc5).symm.trans hf
    refine J.aload_n (i := 0) dX5_lacks_15 rfl rfl ?_
    replace hf := jbd hf
    obtain ⟨a6, h7, hf⟩ := hf
    refine J.getA 9 47 in_X5 rfl (Nat.le_of_ble_eq_true rfl) (Or.inl q914) (Or.inl rfl) h7 dX5_lacks_16 ?_
    refine J.iload_n (i := 1) dX5_lacks_19 rfl rfl ?_
    replace hf := jbd hf
    obtain ⟨v8, h9, hf⟩ := hf
    refine J.iald h9 dX5_lacks_20 ?_
    refine J.iload_n (i := 2) dX5_lacks_21 rfl rfl ?_
    refine J.icmp_eq (tgt := 31) dX5_lacks_22 (by decide) (fun hc10 => ?_) (fun hc10 => ?_)
    · replace hf := (if_pos hc10).symm.trans hf
      refine J.iload_n (i := 3) dX5_lacks_31 rfl rfl ?_
      refine J.i2l dX5_lacks_32 ?_
      refine J.lconst (v := 0) dX5_lacks_33 (by decide) ?_
      refine J.aload_n (i := 0) dX5_lacks_34 rfl rfl ?_
      replace hf := jbd hf
      obtain ⟨a11, h12, hf⟩ := hf
      refine J.getA 9 48 in_X5 rfl (Nat.le_of_ble_eq_true rfl) (Or.inl q915) (Or.inl rfl) h12 dX5_lacks_35 ?_
      refine J.iload_n (i := 1) dX5_lacks_38 rfl rfl ?_
      replace hf := jbd hf
      obtain ⟨v13, h14, hf⟩ := hf
      refine J.iald h14 dX5_lacks_39 ?_
      refine J.iconst (v := 1) dX5_lacks_40 (by decide) ?_
      refine J.isub dX5_lacks_41 ?_
      refine J.i2l dX5_lacks_42 ?_
      replace hf := jbs hf
      obtain ⟨v17, hp16, h15, hf⟩ := hf
      refine J.callS (As := [.long p3.toInt64, .long (0 : Int64), .long ((v13 - 1).toInt64)]) (k2 := 0) (n2 := 0) hDl hRm (w_X5_in h15) (lw_S q1031 q1032 q44 q1033) hs_X5_in rfl (Nat.le_of_ble_eq_true rfl) (Nat.le_of_ble_eq_true rfl) (Nat.le_of_ble_eq_true rfl) (Nat.le_of_ble_eq_true rfl) (Nat.le_of_ble_eq_true rfl) (Nat.le_of_ble_eq_true rfl) (Nat.le_of_ble_eq_true rfl) rfl dX5_lacks_43 ?_
      refine J.if_eq (tgt := 53) dX5_lacks_46 (by decide) (fun hc18 => ?_) (fun hc18 => ?_)
      · replace hf := (if_pos hc18).symm.trans hf
        refine J.aload_n (i := 0) dX5_lacks_53 rfl rfl ?_
        refine J.iconst (v := 2) dX5_lacks_54 (by decide) ?_
        replace hf := jbd hf
        obtain ⟨u19, h20, hf⟩ := hf
        replace hf := jbs hf
        obtain ⟨v23, hp22, h21, hf⟩ := hf
        refine J.callV (As := [.int 2]) (k2 := 0) (n2 := 0) 9 hDl hRm (w_X5_met h21) (lw_V q1225 q1227 qs35 q44 q1228) hd_X5_met rfl ⟨_, h20⟩ rfl (Nat.le_of_ble_eq_true rfl) (Nat.le_of_ble_eq_true rfl) (Nat.le_of_ble_eq_true rfl) (Nat.le_of_ble_eq_true rfl) (Nat.le_of_ble_eq_true rfl) (Nat.le_of_ble_eq_true rfl) (Nat.le_of_ble_eq_true rfl) rfl dX5_lacks_55 ?_
        obtain ⟨rfl, rfl⟩ := jso hf
        exact J.iret hE (Nat.le_of_ble_eq_true rfl) (Nat.le_of_ble_eq_true rfl) dX5_lacks_58
      · replace hf := (if_neg hc18).symm.trans hf
        refine J.iconst (v := 0) dX5_lacks_49 (by decide) ?_
        refine J.goto (tgt := 58) dX5_lacks_50 (by decide) ?_
        obtain ⟨rfl, rfl⟩ := jso hf
        exact J.iret hE (Nat.le_of_ble_eq_true rfl) (Nat.le_of_ble_eq_true rfl) dX5_lacks_58
    · replace hf := (if_neg hc10).symm.trans hf
      refine J.aload_n (i := 0) dX5_lacks_25 rfl rfl ?_
      refine J.iconst (v := 3) dX5_lacks_26 (by decide) ?_
      replace hf := jbd hf
      obtain ⟨u24, h25, hf⟩ := hf
      replace hf := jbs hf
      obtain ⟨v28, hp27, h26, hf⟩ := hf
      refine J.callV (As := [.int 3]) (k2 := 0) (n2 := 0) 9 hDl hRm (w_X5_met h26) (lw_V q1225 q1227 qs35 q44 q1228) hd_X5_met rfl ⟨_, h25⟩ rfl (Nat.le_of_ble_eq_true rfl) (Nat.le_of_ble_eq_true rfl) (Nat.le_of_ble_eq_true rfl) (Nat.le_of_ble_eq_true rfl) (Nat.le_of_ble_eq_true rfl) (Nat.le_of_ble_eq_true rfl) (Nat.le_of_ble_eq_true rfl) rfl dX5_lacks_27 ?_
      obtain ⟨rfl, rfl⟩ := jso hf
      exact J.iret hE (Nat.le_of_ble_eq_true rfl) (Nat.le_of_ble_eq_true rfl) dX5_lacks_30
  · replace hf := (if_neg hc5).symm.trans hf
    refine J.aload_n (i := 0) dX5_lacks_9 rfl rfl ?_
    refine J.iconst (v := 1) dX5_lacks_10 (by decide) ?_
    replace hf := jbd hf
    obtain ⟨u29, h30, hf⟩ := hf
    replace hf := jbs hf
    obtain ⟨v33, hp32, h31, hf⟩ := hf
    refine J.callV (As := [.int 1]) (k2 := 0) (n2 := 0) 9 hDl hRm (w_X5_met h31) (lw_V q1225 q1227 qs35 q44 q1228) hd_X5_met rfl ⟨_, h30⟩ rfl (Nat.le_of_ble_eq_true rfl) (Nat.le_of_ble_eq_true rfl) (Nat.le_of_ble_eq_true rfl) (Nat.le_of_ble_eq_true rfl) (Nat.le_of_ble_eq_true rfl) (Nat.le_of_ble_eq_true rfl) (Nat.le_of_ble_eq_true rfl) rfl dX5_lacks_11 ?_
    obtain ⟨rfl, rfl⟩ := jso hf
    exact J.iret hE (Nat.le_of_ble_eq_true rfl) (Nat.le_of_ble_eq_true rfl) dX5_lacks_14
def rm_X5_put : Room := { frames := 2, cells := 0, slots := 0, locals := 48 }
theorem hd_X5_put : yX5_put.cls = RX5 ∧ yX5_put.cls ≠ "java/lang/invoke/MethodHandle" ∧ yX5_put.cls ≠ "java/lang/invoke/VarHandle" ∧ (parseMethodDescriptor yX5_put.desc).map (fun d => d.parameters.length) = some 4 := by decide +kernel
set_option maxHeartbeats 4000000 in
set_option maxRecDepth 100000 in
theorem w_X5_put {D : va_G} {l : Launch} {hp hpE : jH} {rE : Int32} {this : Nat} {p1 : Int32} {p2 : Int32} {p3 : Int32} {p4 : Int32} (hf : f_X5_put this p1 p2 p3 p4 hp = some (rE, hpE)) : jM D l yX5_put (ws_ yX5_put cX5_put 6 (some .int)) rm_X5_put hp [.ref this, .int p1, .int p2, .int p3, .int p4] (some (.int rE)) hpE := by
  refine jM.of (lv0 := [some (.ref this), some (.int p1), some (.int p2), some (.int p3), some (.int p4), none]) (by decide) (Nat.le_of_ble_eq_true rfl) rfl (fun X hDl hRm hE hX0 => ?_)
  rw [f_X5_put] at hf
  refine J.iload_n (i := 1) dX5_put_0 rfl rfl ?_
  replace hf := jbs hf
  obtain ⟨v3, hp2, h1, hf⟩ := hf
  refine J.callS (As := [.int p1]) (k2 := 0) (n2 := 0) hDl hRm (w_X5_isSheet h1) (lw_S q1222 q1223 q44 q1224) hs_X5_isSheet rfl (Nat.le_of_ble_eq_true rfl) (Nat.le_of_ble_eq_true rfl) (Nat.le_of_ble_eq_true rfl) (Nat.le_of_ble_eq_true rfl) (Nat.le_of_ble_eq_true rfl) (Nat.le_of_ble_eq_true rfl) (Nat.le_of_ble_eq_true rfl) rfl dX5_put_1 ?_
  refine J.if_eq (tgt := 19) dX5_put_4 (by decide) (fun hc4 => ?_) (fun hc4 => ?_)
  · replace hf := (if_pos hc4).symm.trans hf
    refine J.bipush (v := (-2)) dX5_put_19 (by decide) ?_
    obtain ⟨rfl, rfl⟩ := jso hf
    exact J.iret hE (Nat.le_of_ble_eq_true rfl) (Nat.le_of_ble_eq_true rfl) dX5_put_21
  · replace hf := (if_neg hc4).symm.trans hf
    refine J.iload_n (i := 2) dX5_put_7 rfl rfl ?_
    refine J.i2l dX5_put_8 ?_
    refine J.lconst (v := 0) dX5_put_9 (by decide) ?_
    refine J.ldc2 q1030 dX5_put_10 ?_
    replace hf := jbs hf
    obtain ⟨v7, hp6, h5, hf⟩ := hf
    refine J.callS (As := [.long p2.toInt64, .long (0 : Int64), .long (2 : Int64)]) (k2 := 0) (n2 := 0) hDl hRm (w_X5_in h5) (lw_S q1031 q1032 q44 q1033) hs_X5_in rfl (Nat.le_of_ble_eq_true rfl) (Nat.le_of_ble_eq_true rfl) (Nat.le_of_ble_eq_true rfl) (Nat.le_of_ble_eq_true rfl) (Nat.le_of_ble_eq_true rfl) (Nat.le_of_ble_eq_true rfl) (Nat.le_of_ble_eq_true rfl) rfl dX5_put_13 ?_
    refine J.if_ne (tgt := 22) dX5_put_16 (by decide) (fun hc8 => ?_) (fun hc8 => ?_)
    · replace hf := (if_neg hc8).symm.trans hf
      refine J.aload_n (i := 0) dX5_put_22 rfl rfl ?_
      refine J.iload_n (i := 1) dX5_put_23 rfl rfl ?_
      refine J.iload_n (i := 2) dX5_put_24 rfl rfl ?_
      refine J.iload_n (i := 3) dX5_put_25 rfl rfl ?_
      replace hf := jbd hf
      obtain ⟨u9, h10, hf⟩ := hf
      replace hf := jbs hf
      obtain ⟨v13, hp12, h11, hf⟩ := hf
      refine J.callV (As := [.int p1, .int p2, .int p3]) (k2 := 0) (n2 := 0) 9 hDl hRm (w_X5_lacks h11) (lw_V q1237 q1239 qs36 q44 q1240) hd_X5_lacks rfl ⟨_, h10⟩ rfl (Nat.le_of_ble_eq_true rfl) (Nat.le_of_ble_eq_true rfl) (Nat.le_of_ble_eq_true rfl) (Nat.le_of_ble_eq_true rfl) (Nat.le_of_ble_eq_true rfl) (Nat.le_of_ble_eq_true rfl) (Nat.le_of_ble_eq_true rfl) rfl dX5_put_26 ?_
      refine J.istore (i := 5) (lv' := [some (.ref this), some (.int p1), some (.int p2), some (.int p3), some (.int p4), some (.int v13)]) dX5_put_29 (Nat.le_of_ble_eq_true rfl) rfl ?_
      refine J.iload dX5_put_31 rfl ?_
      refine J.if_eq (tgt := 39) dX5_put_33 (by decide) (fun hc14 => ?_) (fun hc14 => ?_)
      · replace hf := (if_pos hc14).symm.trans hf
        refine J.aload_n (i := 0) dX5_put_39 rfl rfl ?_
        replace hf := jbd hf
        obtain ⟨a15, h16, hf⟩ := hf
        refine J.getA 9 49 in_X5 rfl (Nat.le_of_ble_eq_true rfl) (Or.inl q916) (Or.inl rfl) h16 dX5_put_40 ?_
        refine J.sipush (v := 200) dX5_put_43 (by decide) ?_
        refine J.iload_n (i := 1) dX5_put_46 rfl rfl ?_
        refine J.imul dX5_put_47 ?_
        refine J.iload_n (i := 3) dX5_put_48 rfl rfl ?_
        refine J.iadd dX5_put_49 ?_
        refine J.iload_n (i := 2) dX5_put_50 rfl rfl ?_
        refine J.if_ne (tgt := 60) dX5_put_51 (by decide) (fun hc17 => ?_) (fun hc17 => ?_)
        · replace hf := (if_neg hc17).symm.trans hf
          refine J.iload_n (i := 2) dX5_put_60 rfl rfl ?_
          refine J.iconst (v := 1) dX5_put_61 (by decide) ?_
          refine J.icmp_ne (tgt := 71) dX5_put_62 (by decide) (fun hc18 => ?_) (fun hc18 => ?_)
          · replace hf := (if_neg hc18).symm.trans hf
            refine J.iload dX5_put_71 rfl ?_
            replace hf := jbd hf
            obtain ⟨hp19, h20, hf⟩ := hf
            refine J.iast h20 dX5_put_73 ?_
            refine J.iconst (v := 1) dX5_put_74 (by decide) ?_
            obtain ⟨rfl, rfl⟩ := jso hf
            exact J.iret hE (Nat.le_of_ble_eq_true rfl) (Nat.le_of_ble_eq_true rfl) dX5_put_75
          · replace hf := (if_pos hc18).symm.trans hf
            refine J.iload dX5_put_65 rfl ?_
            refine J.i2s dX5_put_67 ?_
            refine J.goto (tgt := 73) dX5_put_68 (by decide) ?_
            replace hf := jbd hf
            obtain ⟨hp21, h22, hf⟩ := hf
            refine J.iast h22 dX5_put_73 ?_
            refine J.iconst (v := 1) dX5_put_74 (by decide) ?_
            obtain ⟨rfl, rfl⟩ := jso hf
            exact J.iret hE (Nat.le_of_ble_eq_true rfl) (Nat.le_of_ble_eq_true rfl) dX5_put_75
        · replace hf := (if_pos hc17).symm.trans hf
          refine J.iload dX5_put_54 rfl ?_
          refine J.i2b dX5_put_56 ?_
          refine J.goto (tgt := 73) dX5_put_57 (by decide) ?_
          replace hf := jbd hf
          obtain ⟨hp23, h24, hf⟩ := hf
          refine J.iast h24 dX5_put_73 ?_
          refine J.iconst (v := 1) dX5_put_74 (by decide) ?_
          obtain ⟨rfl, rfl⟩ := jso hf
          exact J.iret hE (Nat.le_of_ble_eq_true rfl) (Nat.le_of_ble_eq_true rfl) dX5_put_75
      · replace hf := (if_neg hc14).symm.trans hf
        refine J.iload dX5_put_36 rfl ?_
        obtain ⟨rfl, rfl⟩ := jso hf
        exact J.iret hE (Nat.le_of_ble_eq_true rfl) (Nat.le_of_ble_eq_true rfl) dX5_put_38
    · replace hf := (if_pos hc8).symm.trans hf
      refine J.bipush (v := (-2)) dX5_put_19 (by decide) ?_
      obtain ⟨rfl, rfl⟩ := jso hf
      exact J.iret hE (Nat.le_of_ble_eq_true rfl) (Nat.le_of_ble_eq_true rfl) dX5_put_21
def rm_X5_get : Room := { frames := 2, cells := 0, slots := 0, locals := 48 }
theorem hd_X5_get : yX5_get.cls = RX5 ∧ yX5_get.cls ≠ "java/lang/invoke/MethodHandle" ∧ yX5_get.cls ≠ "java/lang/invoke/VarHandle" ∧ (parseMethodDescriptor yX5_get.desc).map (fun d => d.parameters.length) = some 3 := by decide +kernel
set_option maxHeartbeats 4000000 in
set_option maxRecDepth 100000 in
theorem w_X5_get {D : va_G} {l : Launch} {hp hpE : jH} {rE : Int32} {this : Nat} {p1 : Int32} {p2 : Int32} {p3 : Int32} (hf : f_X5_get this p1 p2 p3 hp = some (rE, hpE)) : jM D l yX5_get (ws_ yX5_get cX5_get 4 (some .int)) rm_X5_get hp [.ref this, .int p1, .int p2, .int p3] (some (.int rE)) hpE := by
  refine jM.of (lv0 := [some (.ref this), some (.int p1), some (.int p2), some (.int p3)]) (by decide) (Nat.le_of_ble_eq_true rfl) rfl (fun X hDl hRm hE hX0 => ?_)
  rw [f_X5_get] at hf
  refine J.iload_n (i := 1) dX5_get_0 rfl rfl ?_
  replace hf := jbs hf
  obtain ⟨v3, hp2, h1, hf⟩ := hf
  refine J.callS (As := [.int p1]) (k2 := 0) (n2 := 0) hDl hRm (w_X5_isSheet h1) (lw_S q1222 q1223 q44 q1224) hs_X5_isSheet rfl (Nat.le_of_ble_eq_true rfl) (Nat.le_of_ble_eq_true rfl) (Nat.le_of_ble_eq_true rfl) (Nat.le_of_ble_eq_true rfl) (Nat.le_of_ble_eq_true rfl) (Nat.le_of_ble_eq_true rfl) (Nat.le_of_ble_eq_true rfl) rfl dX5_get_1 ?_
  refine J.if_eq (tgt := 29) dX5_get_4 (by decide) (fun hc4 => ?_) (fun hc4 => ?_)
  · replace hf := (if_pos hc4).symm.trans hf
    refine J.ldcw q1245 dX5_get_29 ?_
    obtain ⟨rfl, rfl⟩ := jso hf
    exact J.iret hE (Nat.le_of_ble_eq_true rfl) (Nat.le_of_ble_eq_true rfl) dX5_get_32
  · replace hf := (if_neg hc4).symm.trans hf
    refine J.iload_n (i := 2) dX5_get_7 rfl rfl ?_
    refine J.i2l dX5_get_8 ?_
    refine J.lconst (v := 0) dX5_get_9 (by decide) ?_
    refine J.ldc2 q1030 dX5_get_10 ?_
    replace hf := jbs hf
    obtain ⟨v7, hp6, h5, hf⟩ := hf
    refine J.callS (As := [.long p2.toInt64, .long (0 : Int64), .long (2 : Int64)]) (k2 := 0) (n2 := 0) hDl hRm (w_X5_in h5) (lw_S q1031 q1032 q44 q1033) hs_X5_in rfl (Nat.le_of_ble_eq_true rfl) (Nat.le_of_ble_eq_true rfl) (Nat.le_of_ble_eq_true rfl) (Nat.le_of_ble_eq_true rfl) (Nat.le_of_ble_eq_true rfl) (Nat.le_of_ble_eq_true rfl) (Nat.le_of_ble_eq_true rfl) rfl dX5_get_13 ?_
    refine J.if_eq (tgt := 29) dX5_get_16 (by decide) (fun hc8 => ?_) (fun hc8 => ?_)
    · replace hf := (if_pos hc8).symm.trans hf
      refine J.ldcw q1245 dX5_get_29 ?_
      obtain ⟨rfl, rfl⟩ := jso hf
      exact J.iret hE (Nat.le_of_ble_eq_true rfl) (Nat.le_of_ble_eq_true rfl) dX5_get_32
    · replace hf := (if_neg hc8).symm.trans hf
      refine J.aload_n (i := 0) dX5_get_19 rfl rfl ?_
      refine J.iload_n (i := 1) dX5_get_20 rfl rfl ?_
      refine J.iload_n (i := 2) dX5_get_21 rfl rfl ?_
      refine J.iload_n (i := 3) dX5_get_22 rfl rfl ?_
      replace hf := jbd hf
      obtain ⟨u9, h10, hf⟩ := hf
      replace hf := jbs hf
      obtain ⟨v13, hp12, h11, hf⟩ := hf
      refine J.callV (As := [.int p1, .int p2, .int p3]) (k2 := 0) (n2 := 0) 9 hDl hRm (w_X5_lacks h11) (lw_V q1237 q1239 qs36 q44 q1240) hd_X5_lacks rfl ⟨_, h10⟩ rfl (Nat.le_of_ble_eq_true rfl) (Nat.le_of_ble_eq_true rfl) (Nat.le_of_ble_eq_true rfl) (Nat.le_of_ble_eq_true rfl) (Nat.le_of_ble_eq_true rfl) (Nat.le_of_ble_eq_true rfl) (Nat.le_of_ble_eq_true rfl) rfl dX5_get_23 ?_
      refine J.if_eq (tgt := 33) dX5_get_26 (by decide) (fun hc14 => ?_) (fun hc14 => ?_)
      · replace hf := (if_pos hc14).symm.trans hf
        refine J.aload_n (i := 0) dX5_get_33 rfl rfl ?_
        replace hf := jbd hf
        obtain ⟨a15, h16, hf⟩ := hf
        refine J.getA 9 49 in_X5 rfl (Nat.le_of_ble_eq_true rfl) (Or.inl q916) (Or.inl rfl) h16 dX5_get_34 ?_
        refine J.sipush (v := 200) dX5_get_37 (by decide) ?_
        refine J.iload_n (i := 1) dX5_get_40 rfl rfl ?_
        refine J.imul dX5_get_41 ?_
        refine J.iload_n (i := 3) dX5_get_42 rfl rfl ?_
        refine J.iadd dX5_get_43 ?_
        replace hf := jbd hf
        obtain ⟨v17, h18, hf⟩ := hf
        refine J.iald h18 dX5_get_44 ?_
        obtain ⟨rfl, rfl⟩ := jso hf
        exact J.iret hE (Nat.le_of_ble_eq_true rfl) (Nat.le_of_ble_eq_true rfl) dX5_get_45
      · replace hf := (if_neg hc14).symm.trans hf
        refine J.ldcw q1245 dX5_get_29 ?_
        obtain ⟨rfl, rfl⟩ := jso hf
        exact J.iret hE (Nat.le_of_ble_eq_true rfl) (Nat.le_of_ble_eq_true rfl) dX5_get_32
def rm_X5_copy : Room := { frames := 2, cells := 0, slots := 0, locals := 45 }
theorem hd_X5_copy : yX5_copy.cls = RX5 ∧ yX5_copy.cls ≠ "java/lang/invoke/MethodHandle" ∧ yX5_copy.cls ≠ "java/lang/invoke/VarHandle" ∧ (parseMethodDescriptor yX5_copy.desc).map (fun d => d.parameters.length) = some 5 := by decide +kernel
set_option maxHeartbeats 4000000 in
set_option maxRecDepth 100000 in
theorem w_X5_copy_L158 {D : va_G} {l : Launch} {X : jX} {hp0 hpE : jH} {rE : Int32} (hDl : jDl X D l) (hRm : jRoom X rm_X5_copy.frames rm_X5_copy.locals rm_X5_copy.cells rm_X5_copy.slots) (hE : jEnds X (some .int) (some (.int rE)) hpE rm_X5_copy.cells rm_X5_copy.slots) (hX0 : jX0 X hp0) : ∀ (N : Nat) (xa_0 : Nat) (xi_3 : Int32) (xi_4 : Int32) (xi_5 : Int32) (xi_6 : Int32) (hp : jH), f_X5_copy_L158 N xa_0 xi_3 xi_4 xi_5 xi_6 hp = some (rE, hpE) → J X cX5_copy 7 yX5_copy 0 0 158 [some (.ref xa_0), none, none, some (.int xi_3), some (.int xi_4), some (.int xi_5), some (.int xi_6)] [] hp := by
  intro N
  induction N with
  | zero =>
    intro xa_0 xi_3 xi_4 xi_5 xi_6 hp hf
    rw [f_X5_copy_L158] at hf
    cases hf
  | succ N ih158 =>
    intro xa_0 xi_3 xi_4 xi_5 xi_6 hp hf
    rw [f_X5_copy_L158] at hf
    refine J.iload dX5_copy_158 rfl ?_
    refine J.iload dX5_copy_160 rfl ?_
    refine J.icmp_ge (tgt := 194) dX5_copy_162 (by decide) (fun hc67 => ?_) (fun hc67 => ?_)
    · replace hf := (if_pos hc67).symm.trans hf
      refine J.iconst (v := 1) dX5_copy_194 (by decide) ?_
      obtain ⟨rfl, rfl⟩ := jso hf
      exact J.iret hE (Nat.le_of_ble_eq_true rfl) (Nat.le_of_ble_eq_true rfl) dX5_copy_195
    · replace hf := (if_neg hc67).symm.trans hf
      refine J.aload_n (i := 0) dX5_copy_165 rfl rfl ?_
      replace hf := jbd hf
      obtain ⟨a68, h69, hf⟩ := hf
      refine J.getA 9 49 in_X5 rfl (Nat.le_of_ble_eq_true rfl) (Or.inl q916) (Or.inl rfl) h69 dX5_copy_166 ?_
      refine J.sipush (v := 200) dX5_copy_169 (by decide) ?_
      refine J.iload_n (i := 3) dX5_copy_172 rfl rfl ?_
      refine J.imul dX5_copy_173 ?_
      refine J.iload dX5_copy_174 rfl ?_
      refine J.iadd dX5_copy_176 ?_
      refine J.iload dX5_copy_177 rfl ?_
      refine J.iadd dX5_copy_179 ?_
      refine J.aload_n (i := 0) dX5_copy_180 rfl rfl ?_
      replace hf := jbd hf
      obtain ⟨a70, h71, hf⟩ := hf
      refine J.getA 9 50 in_X5 rfl (Nat.le_of_ble_eq_true rfl) (Or.inl q917) (Or.inl rfl) h71 dX5_copy_181 ?_
      refine J.iload dX5_copy_184 rfl ?_
      replace hf := jbd hf
      obtain ⟨v72, h73, hf⟩ := hf
      refine J.iald h73 dX5_copy_186 ?_
      replace hf := jbd hf
      obtain ⟨hp74, h75, hf⟩ := hf
      refine J.iast h75 dX5_copy_187 ?_
      refine J.iinc (i := 6) (v := (xi_6 + 1)) (lv' := [some (.ref xa_0), none, none, some (.int xi_3), some (.int xi_4), some (.int xi_5), some (.int (xi_6 + 1))]) dX5_copy_188 rfl rfl (Nat.le_of_ble_eq_true rfl) rfl ?_
      refine J.goto (tgt := 158) dX5_copy_191 (by decide) ?_
      exact ih158 _ _ _ _ _ _ hf
set_option maxHeartbeats 4000000 in
set_option maxRecDepth 100000 in
theorem w_X5_copy_L120 {D : va_G} {l : Launch} {X : jX} {hp0 hpE : jH} {rE : Int32} (hDl : jDl X D l) (hRm : jRoom X rm_X5_copy.frames rm_X5_copy.locals rm_X5_copy.cells rm_X5_copy.slots) (hE : jEnds X (some .int) (some (.int rE)) hpE rm_X5_copy.cells rm_X5_copy.slots) (hX0 : jX0 X hp0) : ∀ (N : Nat) (xa_0 : Nat) (xi_1 : Int32) (xi_2 : Int32) (xi_3 : Int32) (xi_4 : Int32) (xi_5 : Int32) (xi_6 : Int32) (hp : jH), f_X5_copy_L120 N xa_0 xi_1 xi_2 xi_3 xi_4 xi_5 xi_6 hp = some (rE, hpE) → J X cX5_copy 7 yX5_copy 0 0 120 [some (.ref xa_0), some (.int xi_1), some (.int xi_2), some (.int xi_3), some (.int xi_4), some (.int xi_5), some (.int xi_6)] [] hp := by
  intro N
  induction N with
  | zero =>
    intro xa_0 xi_1 xi_2 xi_3 xi_4 xi_5 xi_6 hp hf
    rw [f_X5_copy_L120] at hf
    cases hf
  | succ N ih120 =>
    intro xa_0 xi_1 xi_2 xi_3 xi_4 xi_5 xi_6 hp hf
    rw [f_X5_copy_L120] at hf
    refine J.iload dX5_copy_120 rfl ?_
    refine J.iload dX5_copy_122 rfl ?_
    refine J.icmp_ge (tgt := 155) dX5_copy_124 (by decide) (fun hc66 => ?_) (fun hc66 => ?_)
    · replace hf := (if_pos hc66).symm.trans hf
      refine J.iconst (v := 0) dX5_copy_155 (by decide) ?_
      refine J.istore (i := 6) (lv' := [some (.ref xa_0), some (.int xi_1), some (.int xi_2), some (.int xi_3), some (.int xi_4), some (.int xi_5), some (.int 0)]) dX5_copy_156 (Nat.le_of_ble_eq_true rfl) rfl ?_
      refine J.mask (lv' := [some (.ref xa_0), none, none, some (.int xi_3), some (.int xi_4), some (.int xi_5), some (.int 0)]) [true, false, false, true, true, true, true] rfl ?_
      exact w_X5_copy_L158 hDl hRm hE hX0 _ _ _ _ _ _ _ hf
    · replace hf := (if_neg hc66).symm.trans hf
      refine J.aload_n (i := 0) dX5_copy_127 rfl rfl ?_
      replace hf := jbd hf
      obtain ⟨a76, h77, hf⟩ := hf
      refine J.getA 9 50 in_X5 rfl (Nat.le_of_ble_eq_true rfl) (Or.inl q917) (Or.inl rfl) h77 dX5_copy_128 ?_
      refine J.iload dX5_copy_131 rfl ?_
      refine J.aload_n (i := 0) dX5_copy_133 rfl rfl ?_
      replace hf := jbd hf
      obtain ⟨a78, h79, hf⟩ := hf
      refine J.getA 9 49 in_X5 rfl (Nat.le_of_ble_eq_true rfl) (Or.inl q916) (Or.inl rfl) h79 dX5_copy_134 ?_
      refine J.sipush (v := 200) dX5_copy_137 (by decide) ?_
      refine J.iload_n (i := 1) dX5_copy_140 rfl rfl ?_
      refine J.imul dX5_copy_141 ?_
      refine J.iload_n (i := 2) dX5_copy_142 rfl rfl ?_
      refine J.iadd dX5_copy_143 ?_
      refine J.iload dX5_copy_144 rfl ?_
      refine J.iadd dX5_copy_146 ?_
      replace hf := jbd hf
      obtain ⟨v80, h81, hf⟩ := hf
      refine J.iald h81 dX5_copy_147 ?_
      replace hf := jbd hf
      obtain ⟨hp82, h83, hf⟩ := hf
      refine J.iast h83 dX5_copy_148 ?_
      refine J.iinc (i := 6) (v := (xi_6 + 1)) (lv' := [some (.ref xa_0), some (.int xi_1), some (.int xi_2), some (.int xi_3), some (.int xi_4), some (.int xi_5), some (.int (xi_6 + 1))]) dX5_copy_149 rfl rfl (Nat.le_of_ble_eq_true rfl) rfl ?_
      refine J.goto (tgt := 120) dX5_copy_152 (by decide) ?_
      exact ih120 _ _ _ _ _ _ _ _ hf
set_option maxHeartbeats 4000000 in
set_option maxRecDepth 100000 in
theorem w_X5_copy {D : va_G} {l : Launch} {hp hpE : jH} {rE : Int32} {this : Nat} {p1 : Int32} {p2 : Int32} {p3 : Int32} {p4 : Int32} {p5 : Int32} (hf : f_X5_copy this p1 p2 p3 p4 p5 hp = some (rE, hpE)) : jM D l yX5_copy (ws_ yX5_copy cX5_copy 7 (some .int)) rm_X5_copy hp [.ref this, .int p1, .int p2, .int p3, .int p4, .int p5] (some (.int rE)) hpE := by
  refine jM.of (lv0 := [some (.ref this), some (.int p1), some (.int p2), some (.int p3), some (.int p4), some (.int p5), none]) (by decide) (Nat.le_of_ble_eq_true rfl) rfl (fun X hDl hRm hE hX0 => ?_)
  rw [f_X5_copy] at hf
  refine J.iload_n (i := 1) dX5_copy_0 rfl rfl ?_
  replace hf := jbs hf
  obtain ⟨v3, hp2, h1, hf⟩ := hf
  refine J.callS (As := [.int p1]) (k2 := 0) (n2 := 0) hDl hRm (w_X5_isSheet h1) (lw_S q1222 q1223 q44 q1224) hs_X5_isSheet rfl (Nat.le_of_ble_eq_true rfl) (Nat.le_of_ble_eq_true rfl) (Nat.le_of_ble_eq_true rfl) (Nat.le_of_ble_eq_true rfl) (Nat.le_of_ble_eq_true rfl) (Nat.le_of_ble_eq_true rfl) (Nat.le_of_ble_eq_true rfl) rfl dX5_copy_1 ?_
  refine J.if_eq (tgt := 14) dX5_copy_4 (by decide) (fun hc4 => ?_) (fun hc4 => ?_)
  · replace hf := (if_pos hc4).symm.trans hf
    refine J.bipush (v := (-2)) dX5_copy_14 (by decide) ?_
    obtain ⟨rfl, rfl⟩ := jso hf
    exact J.iret hE (Nat.le_of_ble_eq_true rfl) (Nat.le_of_ble_eq_true rfl) dX5_copy_16
  · replace hf := (if_neg hc4).symm.trans hf
    refine J.iload_n (i := 3) dX5_copy_7 rfl rfl ?_
    replace hf := jbs hf
    obtain ⟨v7, hp6, h5, hf⟩ := hf
    refine J.callS (As := [.int p3]) (k2 := 0) (n2 := 0) hDl hRm (w_X5_isSheet h5) (lw_S q1222 q1223 q44 q1224) hs_X5_isSheet rfl (Nat.le_of_ble_eq_true rfl) (Nat.le_of_ble_eq_true rfl) (Nat.le_of_ble_eq_true rfl) (Nat.le_of_ble_eq_true rfl) (Nat.le_of_ble_eq_true rfl) (Nat.le_of_ble_eq_true rfl) (Nat.le_of_ble_eq_true rfl) rfl dX5_copy_8 ?_
    refine J.if_ne (tgt := 17) dX5_copy_11 (by decide) (fun hc8 => ?_) (fun hc8 => ?_)
    · replace hf := (if_neg hc8).symm.trans hf
      refine J.aload_n (i := 0) dX5_copy_17 rfl rfl ?_
      replace hf := jbd hf
      obtain ⟨a9, h10, hf⟩ := hf
      refine J.getA 9 47 in_X5 rfl (Nat.le_of_ble_eq_true rfl) (Or.inl q914) (Or.inl rfl) h10 dX5_copy_18 ?_
      refine J.iload_n (i := 1) dX5_copy_21 rfl rfl ?_
      replace hf := jbd hf
      obtain ⟨v11, h12, hf⟩ := hf
      refine J.iald h12 dX5_copy_22 ?_
      refine J.if_lt (tgt := 35) dX5_copy_23 (by decide) (fun hc13 => ?_) (fun hc13 => ?_)
      · replace hf := (if_pos hc13).symm.trans hf
        refine J.aload_n (i := 0) dX5_copy_35 rfl rfl ?_
        refine J.iconst (v := 1) dX5_copy_36 (by decide) ?_
        replace hf := jbd hf
        obtain ⟨u14, h15, hf⟩ := hf
        replace hf := jbs hf
        obtain ⟨v18, hp17, h16, hf⟩ := hf
        refine J.callV (As := [.int 1]) (k2 := 0) (n2 := 0) 9 hDl hRm (w_X5_met h16) (lw_V q1225 q1227 qs35 q44 q1228) hd_X5_met rfl ⟨_, h15⟩ rfl (Nat.le_of_ble_eq_true rfl) (Nat.le_of_ble_eq_true rfl) (Nat.le_of_ble_eq_true rfl) (Nat.le_of_ble_eq_true rfl) (Nat.le_of_ble_eq_true rfl) (Nat.le_of_ble_eq_true rfl) (Nat.le_of_ble_eq_true rfl) rfl dX5_copy_37 ?_
        obtain ⟨rfl, rfl⟩ := jso hf
        exact J.iret hE (Nat.le_of_ble_eq_true rfl) (Nat.le_of_ble_eq_true rfl) dX5_copy_40
      · replace hf := (if_neg hc13).symm.trans hf
        refine J.aload_n (i := 0) dX5_copy_26 rfl rfl ?_
        replace hf := jbd hf
        obtain ⟨a19, h20, hf⟩ := hf
        refine J.getA 9 47 in_X5 rfl (Nat.le_of_ble_eq_true rfl) (Or.inl q914) (Or.inl rfl) h20 dX5_copy_27 ?_
        refine J.iload_n (i := 3) dX5_copy_30 rfl rfl ?_
        replace hf := jbd hf
        obtain ⟨v21, h22, hf⟩ := hf
        refine J.iald h22 dX5_copy_31 ?_
        refine J.if_ge (tgt := 41) dX5_copy_32 (by decide) (fun hc23 => ?_) (fun hc23 => ?_)
        · replace hf := (if_pos hc23).symm.trans hf
          refine J.aload_n (i := 0) dX5_copy_41 rfl rfl ?_
          replace hf := jbd hf
          obtain ⟨a24, h25, hf⟩ := hf
          refine J.getA 9 47 in_X5 rfl (Nat.le_of_ble_eq_true rfl) (Or.inl q914) (Or.inl rfl) h25 dX5_copy_42 ?_
          refine J.iload_n (i := 1) dX5_copy_45 rfl rfl ?_
          replace hf := jbd hf
          obtain ⟨v26, h27, hf⟩ := hf
          refine J.iald h27 dX5_copy_46 ?_
          refine J.aload_n (i := 0) dX5_copy_47 rfl rfl ?_
          replace hf := jbd hf
          obtain ⟨a28, h29, hf⟩ := hf
          refine J.getA 9 47 in_X5 rfl (Nat.le_of_ble_eq_true rfl) (Or.inl q914) (Or.inl rfl) h29 dX5_copy_48 ?_
          refine J.iload_n (i := 3) dX5_copy_51 rfl rfl ?_
          replace hf := jbd hf
          obtain ⟨v30, h31, hf⟩ := hf
          refine J.iald h31 dX5_copy_52 ?_
          refine J.icmp_eq (tgt := 62) dX5_copy_53 (by decide) (fun hc32 => ?_) (fun hc32 => ?_)
          · replace hf := (if_pos hc32).symm.trans hf
            refine J.iload_n (i := 2) dX5_copy_62 rfl rfl ?_
            refine J.if_lt (tgt := 111) dX5_copy_63 (by decide) (fun hc33 => ?_) (fun hc33 => ?_)
            · replace hf := (if_pos hc33).symm.trans hf
              refine J.aload_n (i := 0) dX5_copy_111 rfl rfl ?_
              refine J.iconst (v := 2) dX5_copy_112 (by decide) ?_
              replace hf := jbd hf
              obtain ⟨u34, h35, hf⟩ := hf
              replace hf := jbs hf
              obtain ⟨v38, hp37, h36, hf⟩ := hf
              refine J.callV (As := [.int 2]) (k2 := 0) (n2 := 0) 9 hDl hRm (w_X5_met h36) (lw_V q1225 q1227 qs35 q44 q1228) hd_X5_met rfl ⟨_, h35⟩ rfl (Nat.le_of_ble_eq_true rfl) (Nat.le_of_ble_eq_true rfl) (Nat.le_of_ble_eq_true rfl) (Nat.le_of_ble_eq_true rfl) (Nat.le_of_ble_eq_true rfl) (Nat.le_of_ble_eq_true rfl) (Nat.le_of_ble_eq_true rfl) rfl dX5_copy_113 ?_
              obtain ⟨rfl, rfl⟩ := jso hf
              exact J.iret hE (Nat.le_of_ble_eq_true rfl) (Nat.le_of_ble_eq_true rfl) dX5_copy_116
            · replace hf := (if_neg hc33).symm.trans hf
              refine J.iload dX5_copy_66 rfl ?_
              refine J.if_lt (tgt := 111) dX5_copy_68 (by decide) (fun hc39 => ?_) (fun hc39 => ?_)
              · replace hf := (if_pos hc39).symm.trans hf
                refine J.aload_n (i := 0) dX5_copy_111 rfl rfl ?_
                refine J.iconst (v := 2) dX5_copy_112 (by decide) ?_
                replace hf := jbd hf
                obtain ⟨u40, h41, hf⟩ := hf
                replace hf := jbs hf
                obtain ⟨v44, hp43, h42, hf⟩ := hf
                refine J.callV (As := [.int 2]) (k2 := 0) (n2 := 0) 9 hDl hRm (w_X5_met h42) (lw_V q1225 q1227 qs35 q44 q1228) hd_X5_met rfl ⟨_, h41⟩ rfl (Nat.le_of_ble_eq_true rfl) (Nat.le_of_ble_eq_true rfl) (Nat.le_of_ble_eq_true rfl) (Nat.le_of_ble_eq_true rfl) (Nat.le_of_ble_eq_true rfl) (Nat.le_of_ble_eq_true rfl) (Nat.le_of_ble_eq_true rfl) rfl dX5_copy_113 ?_
                obtain ⟨rfl, rfl⟩ := jso hf
                exact J.iret hE (Nat.le_of_ble_eq_true rfl) (Nat.le_of_ble_eq_true rfl) dX5_copy_116
              · replace hf := (if_neg hc39).symm.trans hf
                refine J.iload dX5_copy_71 rfl ?_
                refine J.if_lt (tgt := 111) dX5_copy_73 (by decide) (fun hc45 => ?_) (fun hc45 => ?_)
                · replace hf := (if_pos hc45).symm.trans hf
                  refine J.aload_n (i := 0) dX5_copy_111 rfl rfl ?_
                  refine J.iconst (v := 2) dX5_copy_112 (by decide) ?_
                  replace hf := jbd hf
                  obtain ⟨u46, h47, hf⟩ := hf
                  replace hf := jbs hf
                  obtain ⟨v50, hp49, h48, hf⟩ := hf
                  refine J.callV (As := [.int 2]) (k2 := 0) (n2 := 0) 9 hDl hRm (w_X5_met h48) (lw_V q1225 q1227 qs35 q44 q1228) hd_X5_met rfl ⟨_, h47⟩ rfl (Nat.le_of_ble_eq_true rfl) (Nat.le_of_ble_eq_true rfl) (Nat.le_of_ble_eq_true rfl) (Nat.le_of_ble_eq_true rfl) (Nat.le_of_ble_eq_true rfl) (Nat.le_of_ble_eq_true rfl) (Nat.le_of_ble_eq_true rfl) rfl dX5_copy_113 ?_
                  obtain ⟨rfl, rfl⟩ := jso hf
                  exact J.iret hE (Nat.le_of_ble_eq_true rfl) (Nat.le_of_ble_eq_true rfl) dX5_copy_116
                · replace hf := (if_neg hc45).symm.trans hf
                  refine J.iload_n (i := 2) dX5_copy_76 rfl rfl ?_
                  refine J.i2l dX5_copy_77 ?_
                  refine J.iload dX5_copy_78 rfl ?_
                  refine J.i2l dX5_copy_80 ?_
                  refine J.ladd dX5_copy_81 ?_
                  refine J.aload_n (i := 0) dX5_copy_82 rfl rfl ?_
                  replace hf := jbd hf
                  obtain ⟨a51, h52, hf⟩ := hf
                  refine J.getA 9 48 in_X5 rfl (Nat.le_of_ble_eq_true rfl) (Or.inl q915) (Or.inl rfl) h52 dX5_copy_83 ?_
                  refine J.iload_n (i := 1) dX5_copy_86 rfl rfl ?_
                  replace hf := jbd hf
                  obtain ⟨v53, h54, hf⟩ := hf
                  refine J.iald h54 dX5_copy_87 ?_
                  refine J.i2l dX5_copy_88 ?_
                  refine J.lcmp dX5_copy_89 ?_
                  refine J.if_gt (tgt := 111) dX5_copy_90 (by decide) (fun hc55 => ?_) (fun hc55 => ?_)
                  · replace hf := (if_pos hc55).symm.trans hf
                    refine J.aload_n (i := 0) dX5_copy_111 rfl rfl ?_
                    refine J.iconst (v := 2) dX5_copy_112 (by decide) ?_
                    replace hf := jbd hf
                    obtain ⟨u56, h57, hf⟩ := hf
                    replace hf := jbs hf
                    obtain ⟨v60, hp59, h58, hf⟩ := hf
                    refine J.callV (As := [.int 2]) (k2 := 0) (n2 := 0) 9 hDl hRm (w_X5_met h58) (lw_V q1225 q1227 qs35 q44 q1228) hd_X5_met rfl ⟨_, h57⟩ rfl (Nat.le_of_ble_eq_true rfl) (Nat.le_of_ble_eq_true rfl) (Nat.le_of_ble_eq_true rfl) (Nat.le_of_ble_eq_true rfl) (Nat.le_of_ble_eq_true rfl) (Nat.le_of_ble_eq_true rfl) (Nat.le_of_ble_eq_true rfl) rfl dX5_copy_113 ?_
                    obtain ⟨rfl, rfl⟩ := jso hf
                    exact J.iret hE (Nat.le_of_ble_eq_true rfl) (Nat.le_of_ble_eq_true rfl) dX5_copy_116
                  · replace hf := (if_neg hc55).symm.trans hf
                    refine J.iload dX5_copy_93 rfl ?_
                    refine J.i2l dX5_copy_95 ?_
                    refine J.iload dX5_copy_96 rfl ?_
                    refine J.i2l dX5_copy_98 ?_
                    refine J.ladd dX5_copy_99 ?_
                    refine J.aload_n (i := 0) dX5_copy_100 rfl rfl ?_
                    replace hf := jbd hf
                    obtain ⟨a61, h62, hf⟩ := hf
                    refine J.getA 9 48 in_X5 rfl (Nat.le_of_ble_eq_true rfl) (Or.inl q915) (Or.inl rfl) h62 dX5_copy_101 ?_
                    refine J.iload_n (i := 3) dX5_copy_104 rfl rfl ?_
                    replace hf := jbd hf
                    obtain ⟨v63, h64, hf⟩ := hf
                    refine J.iald h64 dX5_copy_105 ?_
                    refine J.i2l dX5_copy_106 ?_
                    refine J.lcmp dX5_copy_107 ?_
                    refine J.if_le (tgt := 117) dX5_copy_108 (by decide) (fun hc65 => ?_) (fun hc65 => ?_)
                    · replace hf := (if_pos hc65).symm.trans hf
                      refine J.iconst (v := 0) dX5_copy_117 (by decide) ?_
                      refine J.istore (i := 6) (lv' := [some (.ref this), some (.int p1), some (.int p2), some (.int p3), some (.int p4), some (.int p5), some (.int 0)]) dX5_copy_118 (Nat.le_of_ble_eq_true rfl) rfl ?_
                      exact w_X5_copy_L120 hDl hRm hE hX0 _ _ _ _ _ _ _ _ _ hf
                    · replace hf := (if_neg hc65).symm.trans hf
                      refine J.aload_n (i := 0) dX5_copy_111 rfl rfl ?_
                      refine J.iconst (v := 2) dX5_copy_112 (by decide) ?_
                      replace hf := jbd hf
                      obtain ⟨u84, h85, hf⟩ := hf
                      replace hf := jbs hf
                      obtain ⟨v88, hp87, h86, hf⟩ := hf
                      refine J.callV (As := [.int 2]) (k2 := 0) (n2 := 0) 9 hDl hRm (w_X5_met h86) (lw_V q1225 q1227 qs35 q44 q1228) hd_X5_met rfl ⟨_, h85⟩ rfl (Nat.le_of_ble_eq_true rfl) (Nat.le_of_ble_eq_true rfl) (Nat.le_of_ble_eq_true rfl) (Nat.le_of_ble_eq_true rfl) (Nat.le_of_ble_eq_true rfl) (Nat.le_of_ble_eq_true rfl) (Nat.le_of_ble_eq_true rfl) rfl dX5_copy_113 ?_
                      obtain ⟨rfl, rfl⟩ := jso hf
                      exact J.iret hE (Nat.le_of_ble_eq_true rfl) (Nat.le_of_ble_eq_true rfl) dX5_copy_116
          · replace hf := (if_neg hc32).symm.trans hf
            refine J.aload_n (i := 0) dX5_copy_56 rfl rfl ?_
            refine J.iconst (v := 4) dX5_copy_57 (by decide) ?_
            replace hf := jbd hf
            obtain ⟨u89, h90, hf⟩ := hf
            replace hf := jbs hf
            obtain ⟨v93, hp92, h91, hf⟩ := hf
            refine J.callV (As := [.int 4]) (k2 := 0) (n2 := 0) 9 hDl hRm (w_X5_met h91) (lw_V q1225 q1227 qs35 q44 q1228) hd_X5_met rfl ⟨_, h90⟩ rfl (Nat.le_of_ble_eq_true rfl) (Nat.le_of_ble_eq_true rfl) (Nat.le_of_ble_eq_true rfl) (Nat.le_of_ble_eq_true rfl) (Nat.le_of_ble_eq_true rfl) (Nat.le_of_ble_eq_true rfl) (Nat.le_of_ble_eq_true rfl) rfl dX5_copy_58 ?_
            obtain ⟨rfl, rfl⟩ := jso hf
            exact J.iret hE (Nat.le_of_ble_eq_true rfl) (Nat.le_of_ble_eq_true rfl) dX5_copy_61
        · replace hf := (if_neg hc23).symm.trans hf
          refine J.aload_n (i := 0) dX5_copy_35 rfl rfl ?_
          refine J.iconst (v := 1) dX5_copy_36 (by decide) ?_
          replace hf := jbd hf
          obtain ⟨u94, h95, hf⟩ := hf
          replace hf := jbs hf
          obtain ⟨v98, hp97, h96, hf⟩ := hf
          refine J.callV (As := [.int 1]) (k2 := 0) (n2 := 0) 9 hDl hRm (w_X5_met h96) (lw_V q1225 q1227 qs35 q44 q1228) hd_X5_met rfl ⟨_, h95⟩ rfl (Nat.le_of_ble_eq_true rfl) (Nat.le_of_ble_eq_true rfl) (Nat.le_of_ble_eq_true rfl) (Nat.le_of_ble_eq_true rfl) (Nat.le_of_ble_eq_true rfl) (Nat.le_of_ble_eq_true rfl) (Nat.le_of_ble_eq_true rfl) rfl dX5_copy_37 ?_
          obtain ⟨rfl, rfl⟩ := jso hf
          exact J.iret hE (Nat.le_of_ble_eq_true rfl) (Nat.le_of_ble_eq_true rfl) dX5_copy_40
    · replace hf := (if_pos hc8).symm.trans hf
      refine J.bipush (v := (-2)) dX5_copy_14 (by decide) ?_
      obtain ⟨rfl, rfl⟩ := jso hf
      exact J.iret hE (Nat.le_of_ble_eq_true rfl) (Nat.le_of_ble_eq_true rfl) dX5_copy_16
def rm_X5_waiting : Room := { frames := 1, cells := 0, slots := 0, locals := 21 }
theorem hd_X5_waiting : yX5_waiting.cls = RX5 ∧ yX5_waiting.cls ≠ "java/lang/invoke/MethodHandle" ∧ yX5_waiting.cls ≠ "java/lang/invoke/VarHandle" ∧ (parseMethodDescriptor yX5_waiting.desc).map (fun d => d.parameters.length) = some 0 := by decide +kernel
set_option maxHeartbeats 4000000 in
set_option maxRecDepth 100000 in
theorem w_X5_waiting_j30 {D : va_G} {l : Launch} {X : jX} {hp0 hpE : jH} {rE : Int32} (hDl : jDl X D l) (hRm : jRoom X rm_X5_waiting.frames rm_X5_waiting.locals rm_X5_waiting.cells rm_X5_waiting.slots) (hE : jEnds X (some .int) (some (.int rE)) hpE rm_X5_waiting.cells rm_X5_waiting.slots) (hX0 : jX0 X hp0) {K8 : Nat → Int32 → Int32 → jH → Option (Int32 × jH)} (hK8 : ∀ (xa_0 : Nat) (xi_1 : Int32) (xi_2 : Int32) (hp : jH), K8 xa_0 xi_1 xi_2 hp = some (rE, hpE) → J X cX5_waiting 3 yX5_waiting 0 0 8 [some (.ref xa_0), some (.int xi_1), some (.int xi_2)] [] hp) {xa_0 : Nat} {xi_2 : Int32} {xi_s0 : Int32} {xi_s1 : Int32} {hp : jH} (hf : f_X5_waiting_j30 K8 xa_0 xi_2 xi_s0 xi_s1 hp = some (rE, hpE)) : J X cX5_waiting 3 yX5_waiting 0 0 30 [some (.ref xa_0), none, some (.int xi_2)] [.int xi_s1, .int xi_s0] hp := by
  rw [f_X5_waiting_j30] at hf
  refine J.iadd dX5_waiting_30 ?_
  refine J.istore_n (i := 1) (lv' := [some (.ref xa_0), some (.int (xi_s0 + xi_s1)), some (.int xi_2)]) dX5_waiting_31 rfl (Nat.le_of_ble_eq_true rfl) rfl ?_
  refine J.iinc (i := 2) (v := (xi_2 + 1)) (lv' := [some (.ref xa_0), some (.int (xi_s0 + xi_s1)), some (.int (xi_2 + 1))]) dX5_waiting_32 rfl rfl (Nat.le_of_ble_eq_true rfl) rfl ?_
  refine J.goto (tgt := 8) dX5_waiting_35 (by decide) ?_
  exact hK8 _ _ _ _ hf
set_option maxHeartbeats 4000000 in
set_option maxRecDepth 100000 in
theorem w_X5_waiting_L8 {D : va_G} {l : Launch} {X : jX} {hp0 hpE : jH} {rE : Int32} (hDl : jDl X D l) (hRm : jRoom X rm_X5_waiting.frames rm_X5_waiting.locals rm_X5_waiting.cells rm_X5_waiting.slots) (hE : jEnds X (some .int) (some (.int rE)) hpE rm_X5_waiting.cells rm_X5_waiting.slots) (hX0 : jX0 X hp0) : ∀ (N : Nat) (xa_0 : Nat) (xi_1 : Int32) (xi_2 : Int32) (hp : jH), f_X5_waiting_L8 N xa_0 xi_1 xi_2 hp = some (rE, hpE) → J X cX5_waiting 3 yX5_waiting 0 0 8 [some (.ref xa_0), some (.int xi_1), some (.int xi_2)] [] hp := by
  intro N
  induction N with
  | zero =>
    intro xa_0 xi_1 xi_2 hp hf
    rw [f_X5_waiting_L8] at hf
    cases hf
  | succ N ih8 =>
    intro xa_0 xi_1 xi_2 hp hf
    rw [f_X5_waiting_L8] at hf
    refine J.iload_n (i := 2) dX5_waiting_8 rfl rfl ?_
    refine J.aload_n (i := 0) dX5_waiting_9 rfl rfl ?_
    replace hf := jbd hf
    obtain ⟨v5, h6, hf⟩ := hf
    refine J.getI 9 13 in_X5 rfl (Nat.le_of_ble_eq_true rfl) (Or.inl q880) (Or.inl rfl) h6 dX5_waiting_10 ?_
    refine J.icmp_ge (tgt := 38) dX5_waiting_13 (by decide) (fun hc7 => ?_) (fun hc7 => ?_)
    · replace hf := (if_pos hc7).symm.trans hf
      refine J.iload_n (i := 1) dX5_waiting_38 rfl rfl ?_
      obtain ⟨rfl, rfl⟩ := jso hf
      exact J.iret hE (Nat.le_of_ble_eq_true rfl) (Nat.le_of_ble_eq_true rfl) dX5_waiting_39
    · replace hf := (if_neg hc7).symm.trans hf
      refine J.iload_n (i := 1) dX5_waiting_16 rfl rfl ?_
      refine J.aload_n (i := 0) dX5_waiting_17 rfl rfl ?_
      refine J.iload_n (i := 2) dX5_waiting_18 rfl rfl ?_
      replace hf := jbd hf
      obtain ⟨u8, h9, hf⟩ := hf
      replace hf := jbs hf
      obtain ⟨v12, hp11, h10, hf⟩ := hf
      refine J.callV (As := [.int xi_2]) (k2 := 0) (n2 := 0) 9 hDl hRm (w_X5_waits h10) (lw_V q1187 q1189 qs33 q44 q1190) hd_X5_waits rfl ⟨_, h9⟩ rfl (Nat.le_of_ble_eq_true rfl) (Nat.le_of_ble_eq_true rfl) (Nat.le_of_ble_eq_true rfl) (Nat.le_of_ble_eq_true rfl) (Nat.le_of_ble_eq_true rfl) (Nat.le_of_ble_eq_true rfl) (Nat.le_of_ble_eq_true rfl) rfl dX5_waiting_19 ?_
      refine J.if_eq (tgt := 29) dX5_waiting_22 (by decide) (fun hc13 => ?_) (fun hc13 => ?_)
      · replace hf := (if_pos hc13).symm.trans hf
        refine J.iconst (v := 0) dX5_waiting_29 (by decide) ?_
        refine J.mask (lv' := [some (.ref xa_0), none, some (.int xi_2)]) [true, false, true] rfl ?_
        exact w_X5_waiting_j30 hDl hRm hE hX0 (fun z0 z1 z2 z3 hz => ih8 z0 z1 z2 z3 hz) hf
      · replace hf := (if_neg hc13).symm.trans hf
        refine J.iconst (v := 1) dX5_waiting_25 (by decide) ?_
        refine J.goto (tgt := 30) dX5_waiting_26 (by decide) ?_
        refine J.mask (lv' := [some (.ref xa_0), none, some (.int xi_2)]) [true, false, true] rfl ?_
        exact w_X5_waiting_j30 hDl hRm hE hX0 (fun z0 z1 z2 z3 hz => ih8 z0 z1 z2 z3 hz) hf
set_option maxHeartbeats 4000000 in
set_option maxRecDepth 100000 in
theorem w_X5_waiting {D : va_G} {l : Launch} {hp hpE : jH} {rE : Int32} {this : Nat} (hf : f_X5_waiting this hp = some (rE, hpE)) : jM D l yX5_waiting (ws_ yX5_waiting cX5_waiting 3 (some .int)) rm_X5_waiting hp [.ref this] (some (.int rE)) hpE := by
  refine jM.of (lv0 := [some (.ref this), none, none]) (by decide) (Nat.le_of_ble_eq_true rfl) rfl (fun X hDl hRm hE hX0 => ?_)
  rw [f_X5_waiting] at hf
  refine J.aload_n (i := 0) dX5_waiting_0 rfl rfl ?_
  replace hf := jbd hf
  obtain ⟨u1, h2, hf⟩ := hf
  replace hf := jbd hf
  obtain ⟨hp4, h3, hf⟩ := hf
  refine J.callV (As := []) (k2 := 0) (n2 := 0) 9 hDl hRm (w_X5_noneGone h3) (lw_V q1179 q1181 qs31 q44 q1182) hd_X5_noneGone rfl ⟨_, h2⟩ rfl (Nat.le_of_ble_eq_true rfl) (Nat.le_of_ble_eq_true rfl) (Nat.le_of_ble_eq_true rfl) (Nat.le_of_ble_eq_true rfl) (Nat.le_of_ble_eq_true rfl) (Nat.le_of_ble_eq_true rfl) (Nat.le_of_ble_eq_true rfl) rfl dX5_waiting_1 ?_
  refine J.iconst (v := 0) dX5_waiting_4 (by decide) ?_
  refine J.istore_n (i := 1) (lv' := [some (.ref this), some (.int 0), none]) dX5_waiting_5 rfl (Nat.le_of_ble_eq_true rfl) rfl ?_
  refine J.iconst (v := 0) dX5_waiting_6 (by decide) ?_
  refine J.istore_n (i := 2) (lv' := [some (.ref this), some (.int 0), some (.int 0)]) dX5_waiting_7 rfl (Nat.le_of_ble_eq_true rfl) rfl ?_
  exact w_X5_waiting_L8 hDl hRm hE hX0 _ _ _ _ _ hf
def rm_X5_count : Room := { frames := 2, cells := 0, slots := 0, locals := 43 }
theorem hd_X5_count : yX5_count.cls = RX5 ∧ yX5_count.cls ≠ "java/lang/invoke/MethodHandle" ∧ yX5_count.cls ≠ "java/lang/invoke/VarHandle" ∧ (parseMethodDescriptor yX5_count.desc).map (fun d => d.parameters.length) = some 1 := by decide +kernel
set_option maxHeartbeats 4000000 in
set_option maxRecDepth 100000 in
theorem w_X5_count {D : va_G} {l : Launch} {hp hpE : jH} {rE : Int32} {this : Nat} {p1 : Int32} (hf : f_X5_count this p1 hp = some (rE, hpE)) : jM D l yX5_count (ws_ yX5_count cX5_count 2 (some .int)) rm_X5_count hp [.ref this, .int p1] (some (.int rE)) hpE := by
  refine jM.of (lv0 := [some (.ref this), some (.int p1)]) (by decide) (Nat.le_of_ble_eq_true rfl) rfl (fun X hDl hRm hE hX0 => ?_)
  rw [f_X5_count] at hf
  refine J.iload_n (i := 1) dX5_count_0 rfl rfl ?_
  by_cases hc1 : p1 = (0 : Int32)
  · replace hf := (if_pos hc1).symm.trans hf
    refine J.tableIn (tgt := 48) dX5_count_1 (by rw [hc1]; decide) (by rw [hc1]; decide) (by rw [hc1]; rfl) (by decide) ?_
    refine J.aload_n (i := 0) dX5_count_48 rfl rfl ?_
    replace hf := jbd hf
    obtain ⟨v2, h3, hf⟩ := hf
    refine J.getI 9 1 in_X5 rfl (Nat.le_of_ble_eq_true rfl) (Or.inl q868) (Or.inl rfl) h3 dX5_count_49 ?_
    obtain ⟨rfl, rfl⟩ := jso hf
    exact J.iret hE (Nat.le_of_ble_eq_true rfl) (Nat.le_of_ble_eq_true rfl) dX5_count_52
  replace hf := (if_neg hc1).symm.trans hf
  by_cases hc4 : p1 = (1 : Int32)
  · replace hf := (if_pos hc4).symm.trans hf
    refine J.tableIn (tgt := 53) dX5_count_1 (by rw [hc4]; decide) (by rw [hc4]; decide) (by rw [hc4]; rfl) (by decide) ?_
    refine J.aload_n (i := 0) dX5_count_53 rfl rfl ?_
    replace hf := jbd hf
    obtain ⟨v5, h6, hf⟩ := hf
    refine J.getI 9 6 in_X5 rfl (Nat.le_of_ble_eq_true rfl) (Or.inl q873) (Or.inl rfl) h6 dX5_count_54 ?_
    obtain ⟨rfl, rfl⟩ := jso hf
    exact J.iret hE (Nat.le_of_ble_eq_true rfl) (Nat.le_of_ble_eq_true rfl) dX5_count_57
  replace hf := (if_neg hc4).symm.trans hf
  by_cases hc7 : p1 = (2 : Int32)
  · replace hf := (if_pos hc7).symm.trans hf
    refine J.tableIn (tgt := 58) dX5_count_1 (by rw [hc7]; decide) (by rw [hc7]; decide) (by rw [hc7]; rfl) (by decide) ?_
    refine J.aload_n (i := 0) dX5_count_58 rfl rfl ?_
    replace hf := jbd hf
    obtain ⟨v8, h9, hf⟩ := hf
    refine J.getI 9 12 in_X5 rfl (Nat.le_of_ble_eq_true rfl) (Or.inl q879) (Or.inl rfl) h9 dX5_count_59 ?_
    obtain ⟨rfl, rfl⟩ := jso hf
    exact J.iret hE (Nat.le_of_ble_eq_true rfl) (Nat.le_of_ble_eq_true rfl) dX5_count_62
  replace hf := (if_neg hc7).symm.trans hf
  by_cases hc10 : p1 = (3 : Int32)
  · replace hf := (if_pos hc10).symm.trans hf
    refine J.tableIn (tgt := 63) dX5_count_1 (by rw [hc10]; decide) (by rw [hc10]; decide) (by rw [hc10]; rfl) (by decide) ?_
    refine J.aload_n (i := 0) dX5_count_63 rfl rfl ?_
    replace hf := jbd hf
    obtain ⟨v11, h12, hf⟩ := hf
    refine J.getI 9 13 in_X5 rfl (Nat.le_of_ble_eq_true rfl) (Or.inl q880) (Or.inl rfl) h12 dX5_count_64 ?_
    obtain ⟨rfl, rfl⟩ := jso hf
    exact J.iret hE (Nat.le_of_ble_eq_true rfl) (Nat.le_of_ble_eq_true rfl) dX5_count_67
  replace hf := (if_neg hc10).symm.trans hf
  by_cases hc13 : p1 = (4 : Int32)
  · replace hf := (if_pos hc13).symm.trans hf
    refine J.tableIn (tgt := 68) dX5_count_1 (by rw [hc13]; decide) (by rw [hc13]; decide) (by rw [hc13]; rfl) (by decide) ?_
    refine J.aload_n (i := 0) dX5_count_68 rfl rfl ?_
    replace hf := jbd hf
    obtain ⟨v14, h15, hf⟩ := hf
    refine J.getI 9 37 in_X5 rfl (Nat.le_of_ble_eq_true rfl) (Or.inl q904) (Or.inl rfl) h15 dX5_count_69 ?_
    obtain ⟨rfl, rfl⟩ := jso hf
    exact J.iret hE (Nat.le_of_ble_eq_true rfl) (Nat.le_of_ble_eq_true rfl) dX5_count_72
  replace hf := (if_neg hc13).symm.trans hf
  by_cases hc16 : p1 = (5 : Int32)
  · replace hf := (if_pos hc16).symm.trans hf
    refine J.tableIn (tgt := 73) dX5_count_1 (by rw [hc16]; decide) (by rw [hc16]; decide) (by rw [hc16]; rfl) (by decide) ?_
    refine J.aload_n (i := 0) dX5_count_73 rfl rfl ?_
    replace hf := jbd hf
    obtain ⟨v17, h18, hf⟩ := hf
    refine J.getI 9 45 in_X5 rfl (Nat.le_of_ble_eq_true rfl) (Or.inl q912) (Or.inl rfl) h18 dX5_count_74 ?_
    obtain ⟨rfl, rfl⟩ := jso hf
    exact J.iret hE (Nat.le_of_ble_eq_true rfl) (Nat.le_of_ble_eq_true rfl) dX5_count_77
  replace hf := (if_neg hc16).symm.trans hf
  by_cases hc19 : p1 = (6 : Int32)
  · replace hf := (if_pos hc19).symm.trans hf
    refine J.tableIn (tgt := 78) dX5_count_1 (by rw [hc19]; decide) (by rw [hc19]; decide) (by rw [hc19]; rfl) (by decide) ?_
    refine J.aload_n (i := 0) dX5_count_78 rfl rfl ?_
    replace hf := jbd hf
    obtain ⟨v20, h21, hf⟩ := hf
    refine J.getI 9 51 in_X5 rfl (Nat.le_of_ble_eq_true rfl) (Or.inl q918) (Or.inl rfl) h21 dX5_count_79 ?_
    obtain ⟨rfl, rfl⟩ := jso hf
    exact J.iret hE (Nat.le_of_ble_eq_true rfl) (Nat.le_of_ble_eq_true rfl) dX5_count_82
  replace hf := (if_neg hc19).symm.trans hf
  by_cases hc22 : p1 = (7 : Int32)
  · replace hf := (if_pos hc22).symm.trans hf
    refine J.tableIn (tgt := 83) dX5_count_1 (by rw [hc22]; decide) (by rw [hc22]; decide) (by rw [hc22]; rfl) (by decide) ?_
    refine J.aload_n (i := 0) dX5_count_83 rfl rfl ?_
    replace hf := jbd hf
    obtain ⟨u23, h24, hf⟩ := hf
    replace hf := jbs hf
    obtain ⟨v27, hp26, h25, hf⟩ := hf
    refine J.callV (As := []) (k2 := 0) (n2 := 0) 9 hDl hRm (w_X5_waiting h25) (lw_V q1254 q1256 qs37 q44 q1257) hd_X5_waiting rfl ⟨_, h24⟩ rfl (Nat.le_of_ble_eq_true rfl) (Nat.le_of_ble_eq_true rfl) (Nat.le_of_ble_eq_true rfl) (Nat.le_of_ble_eq_true rfl) (Nat.le_of_ble_eq_true rfl) (Nat.le_of_ble_eq_true rfl) (Nat.le_of_ble_eq_true rfl) rfl dX5_count_84 ?_
    obtain ⟨rfl, rfl⟩ := jso hf
    exact J.iret hE (Nat.le_of_ble_eq_true rfl) (Nat.le_of_ble_eq_true rfl) dX5_count_87
  replace hf := (if_neg hc22).symm.trans hf
  refine J.tableOut (tgt := 88) dX5_count_1 (by have ehc1 := lv_neT hc1 (show (0 : Int32).toInt = 0 from rfl); have ehc4 := lv_neT hc4 (show (1 : Int32).toInt = 1 from rfl); have ehc7 := lv_neT hc7 (show (2 : Int32).toInt = 2 from rfl); have ehc10 := lv_neT hc10 (show (3 : Int32).toInt = 3 from rfl); have ehc13 := lv_neT hc13 (show (4 : Int32).toInt = 4 from rfl); have ehc16 := lv_neT hc16 (show (5 : Int32).toInt = 5 from rfl); have ehc19 := lv_neT hc19 (show (6 : Int32).toInt = 6 from rfl); have ehc22 := lv_neT hc22 (show (7 : Int32).toInt = 7 from rfl); omega) (by decide) ?_
  refine J.bipush (v := (-2)) dX5_count_88 (by decide) ?_
  obtain ⟨rfl, rfl⟩ := jso hf
  exact J.iret hE (Nat.le_of_ble_eq_true rfl) (Nat.le_of_ble_eq_true rfl) dX5_count_90
def rm_X5_digest : Room := { frames := 3, cells := 0, slots := 0, locals := 68 }
theorem hd_X5_digest : yX5_digest.cls = RX5 ∧ yX5_digest.cls ≠ "java/lang/invoke/MethodHandle" ∧ yX5_digest.cls ≠ "java/lang/invoke/VarHandle" ∧ (parseMethodDescriptor yX5_digest.desc).map (fun d => d.parameters.length) = some 0 := by decide +kernel
set_option maxHeartbeats 4000000 in
set_option maxRecDepth 100000 in
theorem w_X5_digest_L174 {D : va_G} {l : Launch} {X : jX} {hp0 hpE : jH} {rE : Int64} (hDl : jDl X D l) (hRm : jRoom X rm_X5_digest.frames rm_X5_digest.locals rm_X5_digest.cells rm_X5_digest.slots) (hE : jEnds X (some .long) (some (.long rE)) hpE rm_X5_digest.cells rm_X5_digest.slots) (hX0 : jX0 X hp0) {K163 : Nat → Int64 → Int32 → jH → Option (Int64 × jH)} (hK163 : ∀ (xa_0 : Nat) (xl_1 : Int64) (xi_3 : Int32) (hp : jH), K163 xa_0 xl_1 xi_3 hp = some (rE, hpE) → J X cX5_digest 5 yX5_digest 0 0 163 [some (.ref xa_0), some (.long xl_1), none, some (.int xi_3), none] [] hp) : ∀ (N : Nat) (xa_0 : Nat) (xl_1 : Int64) (xi_3 : Int32) (xi_4 : Int32) (hp : jH), f_X5_digest_L174 K163 N xa_0 xl_1 xi_3 xi_4 hp = some (rE, hpE) → J X cX5_digest 5 yX5_digest 0 0 174 [some (.ref xa_0), some (.long xl_1), none, some (.int xi_3), some (.int xi_4)] [] hp := by
  intro N
  induction N with
  | zero =>
    intro xa_0 xl_1 xi_3 xi_4 hp hf
    rw [f_X5_digest_L174] at hf
    cases hf
  | succ N ih174 =>
    intro xa_0 xl_1 xi_3 xi_4 hp hf
    rw [f_X5_digest_L174] at hf
    refine J.iload dX5_digest_174 rfl ?_
    refine J.aload_n (i := 0) dX5_digest_176 rfl rfl ?_
    replace hf := jbd hf
    obtain ⟨a12, h13, hf⟩ := hf
    refine J.getA 9 25 in_X5 rfl (Nat.le_of_ble_eq_true rfl) (Or.inl q892) (Or.inl rfl) h13 dX5_digest_177 ?_
    refine J.iload_n (i := 3) dX5_digest_180 rfl rfl ?_
    replace hf := jbd hf
    obtain ⟨v14, h15, hf⟩ := hf
    refine J.iald h15 dX5_digest_181 ?_
    refine J.icmp_ge (tgt := 210) dX5_digest_182 (by decide) (fun hc16 => ?_) (fun hc16 => ?_)
    · replace hf := (if_pos hc16).symm.trans hf
      refine J.iinc (i := 3) (v := (xi_3 + 1)) (lv' := [some (.ref xa_0), some (.long xl_1), none, some (.int (xi_3 + 1)), some (.int xi_4)]) dX5_digest_210 rfl rfl (Nat.le_of_ble_eq_true rfl) rfl ?_
      refine J.goto (tgt := 163) dX5_digest_213 (by decide) ?_
      refine J.mask (lv' := [some (.ref xa_0), some (.long xl_1), none, some (.int (xi_3 + 1)), none]) [true, true, false, true, false] rfl ?_
      exact hK163 _ _ _ _ hf
    · replace hf := (if_neg hc16).symm.trans hf
      refine J.ldc2 q1263 dX5_digest_185 ?_
      refine J.lload_n (i := 1) dX5_digest_188 rfl rfl ?_
      refine J.lmul dX5_digest_189 ?_
      refine J.aload_n (i := 0) dX5_digest_190 rfl rfl ?_
      replace hf := jbd hf
      obtain ⟨a17, h18, hf⟩ := hf
      refine J.getA 9 27 in_X5 rfl (Nat.le_of_ble_eq_true rfl) (Or.inl q894) (Or.inl rfl) h18 dX5_digest_191 ?_
      refine J.iconst (v := 3) dX5_digest_194 (by decide) ?_
      refine J.iload_n (i := 3) dX5_digest_195 rfl rfl ?_
      refine J.imul dX5_digest_196 ?_
      refine J.iload dX5_digest_197 rfl ?_
      refine J.iadd dX5_digest_199 ?_
      replace hf := jbd hf
      obtain ⟨v19, h20, hf⟩ := hf
      refine J.iald h20 dX5_digest_200 ?_
      refine J.i2l dX5_digest_201 ?_
      refine J.ladd dX5_digest_202 ?_
      refine J.lstore_n (i := 1) (lv' := [some (.ref xa_0), some (.long (((31 : Int64) * xl_1) + v19.toInt64)), none, some (.int xi_3), some (.int xi_4)]) dX5_digest_203 rfl (Nat.le_of_ble_eq_true rfl) rfl ?_
      refine J.iinc (i := 4) (v := (xi_4 + 1)) (lv' := [some (.ref xa_0), some (.long (((31 : Int64) * xl_1) + v19.toInt64)), none, some (.int xi_3), some (.int (xi_4 + 1))]) dX5_digest_204 rfl rfl (Nat.le_of_ble_eq_true rfl) rfl ?_
      refine J.goto (tgt := 174) dX5_digest_207 (by decide) ?_
      exact ih174 _ _ _ _ _ hf
set_option maxHeartbeats 4000000 in
set_option maxRecDepth 100000 in
theorem w_X5_digest_L163 {D : va_G} {l : Launch} {X : jX} {hp0 hpE : jH} {rE : Int64} (hDl : jDl X D l) (hRm : jRoom X rm_X5_digest.frames rm_X5_digest.locals rm_X5_digest.cells rm_X5_digest.slots) (hE : jEnds X (some .long) (some (.long rE)) hpE rm_X5_digest.cells rm_X5_digest.slots) (hX0 : jX0 X hp0) : ∀ (N : Nat) (xa_0 : Nat) (xl_1 : Int64) (xi_3 : Int32) (hp : jH), f_X5_digest_L163 N xa_0 xl_1 xi_3 hp = some (rE, hpE) → J X cX5_digest 5 yX5_digest 0 0 163 [some (.ref xa_0), some (.long xl_1), none, some (.int xi_3), none] [] hp := by
  intro N
  induction N with
  | zero =>
    intro xa_0 xl_1 xi_3 hp hf
    rw [f_X5_digest_L163] at hf
    cases hf
  | succ N ih163 =>
    intro xa_0 xl_1 xi_3 hp hf
    rw [f_X5_digest_L163] at hf
    refine J.iload_n (i := 3) dX5_digest_163 rfl rfl ?_
    refine J.aload_n (i := 0) dX5_digest_164 rfl rfl ?_
    replace hf := jbd hf
    obtain ⟨v9, h10, hf⟩ := hf
    refine J.getI 9 1 in_X5 rfl (Nat.le_of_ble_eq_true rfl) (Or.inl q868) (Or.inl rfl) h10 dX5_digest_165 ?_
    refine J.icmp_ge (tgt := 216) dX5_digest_168 (by decide) (fun hc11 => ?_) (fun hc11 => ?_)
    · replace hf := (if_pos hc11).symm.trans hf
      refine J.lload_n (i := 1) dX5_digest_216 rfl rfl ?_
      obtain ⟨rfl, rfl⟩ := jso hf
      exact J.lret hE (Nat.le_of_ble_eq_true rfl) (Nat.le_of_ble_eq_true rfl) dX5_digest_217
    · replace hf := (if_neg hc11).symm.trans hf
      refine J.iconst (v := 0) dX5_digest_171 (by decide) ?_
      refine J.istore (i := 4) (lv' := [some (.ref xa_0), some (.long xl_1), none, some (.int xi_3), some (.int 0)]) dX5_digest_172 (Nat.le_of_ble_eq_true rfl) rfl ?_
      exact w_X5_digest_L174 hDl hRm hE hX0 (fun z0 z1 z2 z3 hz => ih163 z0 z1 z2 z3 hz) _ _ _ _ _ _ hf
set_option maxHeartbeats 4000000 in
set_option maxRecDepth 100000 in
theorem w_X5_digest_L136 {D : va_G} {l : Launch} {X : jX} {hp0 hpE : jH} {rE : Int64} (hDl : jDl X D l) (hRm : jRoom X rm_X5_digest.frames rm_X5_digest.locals rm_X5_digest.cells rm_X5_digest.slots) (hE : jEnds X (some .long) (some (.long rE)) hpE rm_X5_digest.cells rm_X5_digest.slots) (hX0 : jX0 X hp0) : ∀ (N : Nat) (xa_0 : Nat) (xl_1 : Int64) (xi_3 : Int32) (hp : jH), f_X5_digest_L136 N xa_0 xl_1 xi_3 hp = some (rE, hpE) → J X cX5_digest 5 yX5_digest 0 0 136 [some (.ref xa_0), some (.long xl_1), none, some (.int xi_3), none] [] hp := by
  intro N
  induction N with
  | zero =>
    intro xa_0 xl_1 xi_3 hp hf
    rw [f_X5_digest_L136] at hf
    cases hf
  | succ N ih136 =>
    intro xa_0 xl_1 xi_3 hp hf
    rw [f_X5_digest_L136] at hf
    refine J.iload_n (i := 3) dX5_digest_136 rfl rfl ?_
    refine J.bipush (v := 7) dX5_digest_137 (by decide) ?_
    refine J.icmp_ge (tgt := 161) dX5_digest_139 (by decide) (fun hc8 => ?_) (fun hc8 => ?_)
    · replace hf := (if_pos hc8).symm.trans hf
      refine J.iconst (v := 0) dX5_digest_161 (by decide) ?_
      refine J.istore_n (i := 3) (lv' := [some (.ref xa_0), some (.long xl_1), none, some (.int 0), none]) dX5_digest_162 rfl (Nat.le_of_ble_eq_true rfl) rfl ?_
      exact w_X5_digest_L163 hDl hRm hE hX0 _ _ _ _ _ hf
    · replace hf := (if_neg hc8).symm.trans hf
      refine J.ldc2 q1263 dX5_digest_142 ?_
      refine J.lload_n (i := 1) dX5_digest_145 rfl rfl ?_
      refine J.lmul dX5_digest_146 ?_
      refine J.aload_n (i := 0) dX5_digest_147 rfl rfl ?_
      refine J.iload_n (i := 3) dX5_digest_148 rfl rfl ?_
      replace hf := jbd hf
      obtain ⟨u21, h22, hf⟩ := hf
      replace hf := jbs hf
      obtain ⟨v25, hp24, h23, hf⟩ := hf
      refine J.callV (As := [.int xi_3]) (k2 := 0) (n2 := 0) 9 hDl hRm (w_X5_account h23) (lw_V q1267 q1134 q1135 q44 q1136) hd_X5_account rfl ⟨_, h22⟩ rfl (Nat.le_of_ble_eq_true rfl) (Nat.le_of_ble_eq_true rfl) (Nat.le_of_ble_eq_true rfl) (Nat.le_of_ble_eq_true rfl) (Nat.le_of_ble_eq_true rfl) (Nat.le_of_ble_eq_true rfl) (Nat.le_of_ble_eq_true rfl) rfl dX5_digest_149 ?_
      refine J.i2l dX5_digest_152 ?_
      refine J.ladd dX5_digest_153 ?_
      refine J.lstore_n (i := 1) (lv' := [some (.ref xa_0), some (.long (((31 : Int64) * xl_1) + v25.toInt64)), none, some (.int xi_3), none]) dX5_digest_154 rfl (Nat.le_of_ble_eq_true rfl) rfl ?_
      refine J.iinc (i := 3) (v := (xi_3 + 1)) (lv' := [some (.ref xa_0), some (.long (((31 : Int64) * xl_1) + v25.toInt64)), none, some (.int (xi_3 + 1)), none]) dX5_digest_155 rfl rfl (Nat.le_of_ble_eq_true rfl) rfl ?_
      refine J.goto (tgt := 136) dX5_digest_158 (by decide) ?_
      exact ih136 _ _ _ _ hf
set_option maxHeartbeats 4000000 in
set_option maxRecDepth 100000 in
theorem w_X5_digest_L100 {D : va_G} {l : Launch} {X : jX} {hp0 hpE : jH} {rE : Int64} (hDl : jDl X D l) (hRm : jRoom X rm_X5_digest.frames rm_X5_digest.locals rm_X5_digest.cells rm_X5_digest.slots) (hE : jEnds X (some .long) (some (.long rE)) hpE rm_X5_digest.cells rm_X5_digest.slots) (hX0 : jX0 X hp0) {K89 : Nat → Int64 → Int32 → jH → Option (Int64 × jH)} (hK89 : ∀ (xa_0 : Nat) (xl_1 : Int64) (xi_3 : Int32) (hp : jH), K89 xa_0 xl_1 xi_3 hp = some (rE, hpE) → J X cX5_digest 5 yX5_digest 0 0 89 [some (.ref xa_0), some (.long xl_1), none, some (.int xi_3), none] [] hp) : ∀ (N : Nat) (xa_0 : Nat) (xl_1 : Int64) (xi_3 : Int32) (xi_4 : Int32) (hp : jH), f_X5_digest_L100 K89 N xa_0 xl_1 xi_3 xi_4 hp = some (rE, hpE) → J X cX5_digest 5 yX5_digest 0 0 100 [some (.ref xa_0), some (.long xl_1), none, some (.int xi_3), some (.int xi_4)] [] hp := by
  intro N
  induction N with
  | zero =>
    intro xa_0 xl_1 xi_3 xi_4 hp hf
    rw [f_X5_digest_L100] at hf
    cases hf
  | succ N ih100 =>
    intro xa_0 xl_1 xi_3 xi_4 hp hf
    rw [f_X5_digest_L100] at hf
    refine J.iload dX5_digest_100 rfl ?_
    refine J.bipush (v := 7) dX5_digest_102 (by decide) ?_
    refine J.icmp_ge (tgt := 128) dX5_digest_104 (by decide) (fun hc26 => ?_) (fun hc26 => ?_)
    · replace hf := (if_pos hc26).symm.trans hf
      refine J.iinc (i := 3) (v := (xi_3 + 1)) (lv' := [some (.ref xa_0), some (.long xl_1), none, some (.int (xi_3 + 1)), some (.int xi_4)]) dX5_digest_128 rfl rfl (Nat.le_of_ble_eq_true rfl) rfl ?_
      refine J.goto (tgt := 89) dX5_digest_131 (by decide) ?_
      refine J.mask (lv' := [some (.ref xa_0), some (.long xl_1), none, some (.int (xi_3 + 1)), none]) [true, true, false, true, false] rfl ?_
      exact hK89 _ _ _ _ hf
    · replace hf := (if_neg hc26).symm.trans hf
      refine J.ldc2 q1263 dX5_digest_107 ?_
      refine J.lload_n (i := 1) dX5_digest_110 rfl rfl ?_
      refine J.lmul dX5_digest_111 ?_
      refine J.aload_n (i := 0) dX5_digest_112 rfl rfl ?_
      refine J.iload_n (i := 3) dX5_digest_113 rfl rfl ?_
      refine J.iload dX5_digest_114 rfl ?_
      replace hf := jbd hf
      obtain ⟨u27, h28, hf⟩ := hf
      replace hf := jbs hf
      obtain ⟨v31, hp30, h29, hf⟩ := hf
      refine J.callV (As := [.int xi_3, .int xi_4]) (k2 := 0) (n2 := 0) 9 hDl hRm (w_X5_bar h29) (lw_V q1266 q1111 q1112 q44 q1113) hd_X5_bar rfl ⟨_, h28⟩ rfl (Nat.le_of_ble_eq_true rfl) (Nat.le_of_ble_eq_true rfl) (Nat.le_of_ble_eq_true rfl) (Nat.le_of_ble_eq_true rfl) (Nat.le_of_ble_eq_true rfl) (Nat.le_of_ble_eq_true rfl) (Nat.le_of_ble_eq_true rfl) rfl dX5_digest_116 ?_
      refine J.i2l dX5_digest_119 ?_
      refine J.ladd dX5_digest_120 ?_
      refine J.lstore_n (i := 1) (lv' := [some (.ref xa_0), some (.long (((31 : Int64) * xl_1) + v31.toInt64)), none, some (.int xi_3), some (.int xi_4)]) dX5_digest_121 rfl (Nat.le_of_ble_eq_true rfl) rfl ?_
      refine J.iinc (i := 4) (v := (xi_4 + 1)) (lv' := [some (.ref xa_0), some (.long (((31 : Int64) * xl_1) + v31.toInt64)), none, some (.int xi_3), some (.int (xi_4 + 1))]) dX5_digest_122 rfl rfl (Nat.le_of_ble_eq_true rfl) rfl ?_
      refine J.goto (tgt := 100) dX5_digest_125 (by decide) ?_
      exact ih100 _ _ _ _ _ hf
set_option maxHeartbeats 4000000 in
set_option maxRecDepth 100000 in
theorem w_X5_digest_L89 {D : va_G} {l : Launch} {X : jX} {hp0 hpE : jH} {rE : Int64} (hDl : jDl X D l) (hRm : jRoom X rm_X5_digest.frames rm_X5_digest.locals rm_X5_digest.cells rm_X5_digest.slots) (hE : jEnds X (some .long) (some (.long rE)) hpE rm_X5_digest.cells rm_X5_digest.slots) (hX0 : jX0 X hp0) : ∀ (N : Nat) (xa_0 : Nat) (xl_1 : Int64) (xi_3 : Int32) (hp : jH), f_X5_digest_L89 N xa_0 xl_1 xi_3 hp = some (rE, hpE) → J X cX5_digest 5 yX5_digest 0 0 89 [some (.ref xa_0), some (.long xl_1), none, some (.int xi_3), none] [] hp := by
  intro N
  induction N with
  | zero =>
    intro xa_0 xl_1 xi_3 hp hf
    rw [f_X5_digest_L89] at hf
    cases hf
  | succ N ih89 =>
    intro xa_0 xl_1 xi_3 hp hf
    rw [f_X5_digest_L89] at hf
    refine J.iload_n (i := 3) dX5_digest_89 rfl rfl ?_
    refine J.aload_n (i := 0) dX5_digest_90 rfl rfl ?_
    replace hf := jbd hf
    obtain ⟨v5, h6, hf⟩ := hf
    refine J.getI 9 13 in_X5 rfl (Nat.le_of_ble_eq_true rfl) (Or.inl q880) (Or.inl rfl) h6 dX5_digest_91 ?_
    refine J.icmp_ge (tgt := 134) dX5_digest_94 (by decide) (fun hc7 => ?_) (fun hc7 => ?_)
    · replace hf := (if_pos hc7).symm.trans hf
      refine J.iconst (v := 0) dX5_digest_134 (by decide) ?_
      refine J.istore_n (i := 3) (lv' := [some (.ref xa_0), some (.long xl_1), none, some (.int 0), none]) dX5_digest_135 rfl (Nat.le_of_ble_eq_true rfl) rfl ?_
      exact w_X5_digest_L136 hDl hRm hE hX0 _ _ _ _ _ hf
    · replace hf := (if_neg hc7).symm.trans hf
      refine J.iconst (v := 3) dX5_digest_97 (by decide) ?_
      refine J.istore (i := 4) (lv' := [some (.ref xa_0), some (.long xl_1), none, some (.int xi_3), some (.int 3)]) dX5_digest_98 (Nat.le_of_ble_eq_true rfl) rfl ?_
      exact w_X5_digest_L100 hDl hRm hE hX0 (fun z0 z1 z2 z3 hz => ih89 z0 z1 z2 z3 hz) _ _ _ _ _ _ hf
set_option maxHeartbeats 4000000 in
set_option maxRecDepth 100000 in
theorem w_X5_digest_L54 {D : va_G} {l : Launch} {X : jX} {hp0 hpE : jH} {rE : Int64} (hDl : jDl X D l) (hRm : jRoom X rm_X5_digest.frames rm_X5_digest.locals rm_X5_digest.cells rm_X5_digest.slots) (hE : jEnds X (some .long) (some (.long rE)) hpE rm_X5_digest.cells rm_X5_digest.slots) (hX0 : jX0 X hp0) {K43 : Nat → Int64 → Int32 → jH → Option (Int64 × jH)} (hK43 : ∀ (xa_0 : Nat) (xl_1 : Int64) (xi_3 : Int32) (hp : jH), K43 xa_0 xl_1 xi_3 hp = some (rE, hpE) → J X cX5_digest 5 yX5_digest 0 0 43 [some (.ref xa_0), some (.long xl_1), none, some (.int xi_3), none] [] hp) : ∀ (N : Nat) (xa_0 : Nat) (xl_1 : Int64) (xi_3 : Int32) (xi_4 : Int32) (hp : jH), f_X5_digest_L54 K43 N xa_0 xl_1 xi_3 xi_4 hp = some (rE, hpE) → J X cX5_digest 5 yX5_digest 0 0 54 [some (.ref xa_0), some (.long xl_1), none, some (.int xi_3), some (.int xi_4)] [] hp := by
  intro N
  induction N with
  | zero =>
    intro xa_0 xl_1 xi_3 xi_4 hp hf
    rw [f_X5_digest_L54] at hf
    cases hf
  | succ N ih54 =>
    intro xa_0 xl_1 xi_3 xi_4 hp hf
    rw [f_X5_digest_L54] at hf
    refine J.iload dX5_digest_54 rfl ?_
    refine J.iconst (v := 5) dX5_digest_56 (by decide) ?_
    refine J.icmp_ge (tgt := 81) dX5_digest_57 (by decide) (fun hc32 => ?_) (fun hc32 => ?_)
    · replace hf := (if_pos hc32).symm.trans hf
      refine J.iinc (i := 3) (v := (xi_3 + 1)) (lv' := [some (.ref xa_0), some (.long xl_1), none, some (.int (xi_3 + 1)), some (.int xi_4)]) dX5_digest_81 rfl rfl (Nat.le_of_ble_eq_true rfl) rfl ?_
      refine J.goto (tgt := 43) dX5_digest_84 (by decide) ?_
      refine J.mask (lv' := [some (.ref xa_0), some (.long xl_1), none, some (.int (xi_3 + 1)), none]) [true, true, false, true, false] rfl ?_
      exact hK43 _ _ _ _ hf
    · replace hf := (if_neg hc32).symm.trans hf
      refine J.ldc2 q1263 dX5_digest_60 ?_
      refine J.lload_n (i := 1) dX5_digest_63 rfl rfl ?_
      refine J.lmul dX5_digest_64 ?_
      refine J.aload_n (i := 0) dX5_digest_65 rfl rfl ?_
      refine J.iload_n (i := 3) dX5_digest_66 rfl rfl ?_
      refine J.iload dX5_digest_67 rfl ?_
      replace hf := jbd hf
      obtain ⟨u33, h34, hf⟩ := hf
      replace hf := jbs hf
      obtain ⟨v37, hp36, h35, hf⟩ := hf
      refine J.callV (As := [.int xi_3, .int xi_4]) (k2 := 0) (n2 := 0) 9 hDl hRm (w_X5_about h35) (lw_V q1265 q1065 q1066 q44 q1067) hd_X5_about rfl ⟨_, h34⟩ rfl (Nat.le_of_ble_eq_true rfl) (Nat.le_of_ble_eq_true rfl) (Nat.le_of_ble_eq_true rfl) (Nat.le_of_ble_eq_true rfl) (Nat.le_of_ble_eq_true rfl) (Nat.le_of_ble_eq_true rfl) (Nat.le_of_ble_eq_true rfl) rfl dX5_digest_69 ?_
      refine J.i2l dX5_digest_72 ?_
      refine J.ladd dX5_digest_73 ?_
      refine J.lstore_n (i := 1) (lv' := [some (.ref xa_0), some (.long (((31 : Int64) * xl_1) + v37.toInt64)), none, some (.int xi_3), some (.int xi_4)]) dX5_digest_74 rfl (Nat.le_of_ble_eq_true rfl) rfl ?_
      refine J.iinc (i := 4) (v := (xi_4 + 1)) (lv' := [some (.ref xa_0), some (.long (((31 : Int64) * xl_1) + v37.toInt64)), none, some (.int xi_3), some (.int (xi_4 + 1))]) dX5_digest_75 rfl rfl (Nat.le_of_ble_eq_true rfl) rfl ?_
      refine J.goto (tgt := 54) dX5_digest_78 (by decide) ?_
      exact ih54 _ _ _ _ _ hf
set_option maxHeartbeats 4000000 in
set_option maxRecDepth 100000 in
theorem w_X5_digest_L43 {D : va_G} {l : Launch} {X : jX} {hp0 hpE : jH} {rE : Int64} (hDl : jDl X D l) (hRm : jRoom X rm_X5_digest.frames rm_X5_digest.locals rm_X5_digest.cells rm_X5_digest.slots) (hE : jEnds X (some .long) (some (.long rE)) hpE rm_X5_digest.cells rm_X5_digest.slots) (hX0 : jX0 X hp0) : ∀ (N : Nat) (xa_0 : Nat) (xl_1 : Int64) (xi_3 : Int32) (hp : jH), f_X5_digest_L43 N xa_0 xl_1 xi_3 hp = some (rE, hpE) → J X cX5_digest 5 yX5_digest 0 0 43 [some (.ref xa_0), some (.long xl_1), none, some (.int xi_3), none] [] hp := by
  intro N
  induction N with
  | zero =>
    intro xa_0 xl_1 xi_3 hp hf
    rw [f_X5_digest_L43] at hf
    cases hf
  | succ N ih43 =>
    intro xa_0 xl_1 xi_3 hp hf
    rw [f_X5_digest_L43] at hf
    refine J.iload_n (i := 3) dX5_digest_43 rfl rfl ?_
    refine J.aload_n (i := 0) dX5_digest_44 rfl rfl ?_
    replace hf := jbd hf
    obtain ⟨v2, h3, hf⟩ := hf
    refine J.getI 9 6 in_X5 rfl (Nat.le_of_ble_eq_true rfl) (Or.inl q873) (Or.inl rfl) h3 dX5_digest_45 ?_
    refine J.icmp_ge (tgt := 87) dX5_digest_48 (by decide) (fun hc4 => ?_) (fun hc4 => ?_)
    · replace hf := (if_pos hc4).symm.trans hf
      refine J.iconst (v := 0) dX5_digest_87 (by decide) ?_
      refine J.istore_n (i := 3) (lv' := [some (.ref xa_0), some (.long xl_1), none, some (.int 0), none]) dX5_digest_88 rfl (Nat.le_of_ble_eq_true rfl) rfl ?_
      exact w_X5_digest_L89 hDl hRm hE hX0 _ _ _ _ _ hf
    · replace hf := (if_neg hc4).symm.trans hf
      refine J.iconst (v := 2) dX5_digest_51 (by decide) ?_
      refine J.istore (i := 4) (lv' := [some (.ref xa_0), some (.long xl_1), none, some (.int xi_3), some (.int 2)]) dX5_digest_52 (Nat.le_of_ble_eq_true rfl) rfl ?_
      exact w_X5_digest_L54 hDl hRm hE hX0 (fun z0 z1 z2 z3 hz => ih43 z0 z1 z2 z3 hz) _ _ _ _ _ _ hf
set_option maxHeartbeats 4000000 in
set_option maxRecDepth 100000 in
theorem w_X5_digest_j34 {D : va_G} {l : Launch} {X : jX} {hp0 hpE : jH} {rE : Int64} (hDl : jDl X D l) (hRm : jRoom X rm_X5_digest.frames rm_X5_digest.locals rm_X5_digest.cells rm_X5_digest.slots) (hE : jEnds X (some .long) (some (.long rE)) hpE rm_X5_digest.cells rm_X5_digest.slots) (hX0 : jX0 X hp0) {K6 : Nat → Int64 → Int32 → jH → Option (Int64 × jH)} (hK6 : ∀ (xa_0 : Nat) (xl_1 : Int64) (xi_3 : Int32) (hp : jH), K6 xa_0 xl_1 xi_3 hp = some (rE, hpE) → J X cX5_digest 5 yX5_digest 0 0 6 [some (.ref xa_0), some (.long xl_1), none, some (.int xi_3), none] [] hp) {xa_0 : Nat} {xi_3 : Int32} {xl_s0 : Int64} {hp : jH} (hf : f_X5_digest_j34 K6 xa_0 xi_3 xl_s0 hp = some (rE, hpE)) : J X cX5_digest 5 yX5_digest 0 0 34 [some (.ref xa_0), none, none, some (.int xi_3), none] [.long xl_s0] hp := by
  rw [f_X5_digest_j34] at hf
  refine J.lstore_n (i := 1) (lv' := [some (.ref xa_0), some (.long xl_s0), none, some (.int xi_3), none]) dX5_digest_34 rfl (Nat.le_of_ble_eq_true rfl) rfl ?_
  refine J.iinc (i := 3) (v := (xi_3 + 1)) (lv' := [some (.ref xa_0), some (.long xl_s0), none, some (.int (xi_3 + 1)), none]) dX5_digest_35 rfl rfl (Nat.le_of_ble_eq_true rfl) rfl ?_
  refine J.goto (tgt := 6) dX5_digest_38 (by decide) ?_
  exact hK6 _ _ _ _ hf
set_option maxHeartbeats 4000000 in
set_option maxRecDepth 100000 in
theorem w_X5_digest_L6 {D : va_G} {l : Launch} {X : jX} {hp0 hpE : jH} {rE : Int64} (hDl : jDl X D l) (hRm : jRoom X rm_X5_digest.frames rm_X5_digest.locals rm_X5_digest.cells rm_X5_digest.slots) (hE : jEnds X (some .long) (some (.long rE)) hpE rm_X5_digest.cells rm_X5_digest.slots) (hX0 : jX0 X hp0) : ∀ (N : Nat) (xa_0 : Nat) (xl_1 : Int64) (xi_3 : Int32) (hp : jH), f_X5_digest_L6 N xa_0 xl_1 xi_3 hp = some (rE, hpE) → J X cX5_digest 5 yX5_digest 0 0 6 [some (.ref xa_0), some (.long xl_1), none, some (.int xi_3), none] [] hp := by
  intro N
  induction N with
  | zero =>
    intro xa_0 xl_1 xi_3 hp hf
    rw [f_X5_digest_L6] at hf
    cases hf
  | succ N ih6 =>
    intro xa_0 xl_1 xi_3 hp hf
    rw [f_X5_digest_L6] at hf
    refine J.iload_n (i := 3) dX5_digest_6 rfl rfl ?_
    refine J.bipush (v := 8) dX5_digest_7 (by decide) ?_
    refine J.icmp_ge (tgt := 41) dX5_digest_9 (by decide) (fun hc1 => ?_) (fun hc1 => ?_)
    · replace hf := (if_pos hc1).symm.trans hf
      refine J.iconst (v := 0) dX5_digest_41 (by decide) ?_
      refine J.istore_n (i := 3) (lv' := [some (.ref xa_0), some (.long xl_1), none, some (.int 0), none]) dX5_digest_42 rfl (Nat.le_of_ble_eq_true rfl) rfl ?_
      exact w_X5_digest_L43 hDl hRm hE hX0 _ _ _ _ _ hf
    · replace hf := (if_neg hc1).symm.trans hf
      refine J.iload_n (i := 3) dX5_digest_12 rfl rfl ?_
      refine J.bipush (v := 6) dX5_digest_13 (by decide) ?_
      refine J.icmp_ne (tgt := 22) dX5_digest_15 (by decide) (fun hc38 => ?_) (fun hc38 => ?_)
      · replace hf := (if_neg hc38).symm.trans hf
        refine J.ldc2 q1263 dX5_digest_22 ?_
        refine J.lload_n (i := 1) dX5_digest_25 rfl rfl ?_
        refine J.lmul dX5_digest_26 ?_
        refine J.aload_n (i := 0) dX5_digest_27 rfl rfl ?_
        refine J.iload_n (i := 3) dX5_digest_28 rfl rfl ?_
        replace hf := jbd hf
        obtain ⟨u39, h40, hf⟩ := hf
        replace hf := jbs hf
        obtain ⟨v43, hp42, h41, hf⟩ := hf
        refine J.callV (As := [.int xi_3]) (k2 := 0) (n2 := 0) 9 hDl hRm (w_X5_count h41) (lw_V q1264 q1251 q1252 q44 q1253) hd_X5_count rfl ⟨_, h40⟩ rfl (Nat.le_of_ble_eq_true rfl) (Nat.le_of_ble_eq_true rfl) (Nat.le_of_ble_eq_true rfl) (Nat.le_of_ble_eq_true rfl) (Nat.le_of_ble_eq_true rfl) (Nat.le_of_ble_eq_true rfl) (Nat.le_of_ble_eq_true rfl) rfl dX5_digest_29 ?_
        refine J.i2l dX5_digest_32 ?_
        refine J.ladd dX5_digest_33 ?_
        refine J.mask (lv' := [some (.ref xa_0), none, none, some (.int xi_3), none]) [true, false, false, true, false] rfl ?_
        exact w_X5_digest_j34 hDl hRm hE hX0 (fun z0 z1 z2 z3 hz => ih6 z0 z1 z2 z3 hz) hf
      · replace hf := (if_pos hc38).symm.trans hf
        refine J.lload_n (i := 1) dX5_digest_18 rfl rfl ?_
        refine J.goto (tgt := 34) dX5_digest_19 (by decide) ?_
        refine J.mask (lv' := [some (.ref xa_0), none, none, some (.int xi_3), none]) [true, false, false, true, false] rfl ?_
        exact w_X5_digest_j34 hDl hRm hE hX0 (fun z0 z1 z2 z3 hz => ih6 z0 z1 z2 z3 hz) hf
set_option maxHeartbeats 4000000 in
set_option maxRecDepth 100000 in
theorem w_X5_digest {D : va_G} {l : Launch} {hp hpE : jH} {rE : Int64} {this : Nat} (hf : f_X5_digest this hp = some (rE, hpE)) : jM D l yX5_digest (ws_ yX5_digest cX5_digest 5 (some .long)) rm_X5_digest hp [.ref this] (some (.long rE)) hpE := by
  refine jM.of (lv0 := [some (.ref this), none, none, none, none]) (by decide) (Nat.le_of_ble_eq_true rfl) rfl (fun X hDl hRm hE hX0 => ?_)
  rw [f_X5_digest] at hf
  refine J.ldc2 q1262 dX5_digest_0 ?_
  refine J.lstore_n (i := 1) (lv' := [some (.ref this), some (.long (17 : Int64)), none, none, none]) dX5_digest_3 rfl (Nat.le_of_ble_eq_true rfl) rfl ?_
  refine J.iconst (v := 0) dX5_digest_4 (by decide) ?_
  refine J.istore_n (i := 3) (lv' := [some (.ref this), some (.long (17 : Int64)), none, some (.int 0), none]) dX5_digest_5 rfl (Nat.le_of_ble_eq_true rfl) rfl ?_
  exact w_X5_digest_L6 hDl hRm hE hX0 _ _ _ _ _ hf
