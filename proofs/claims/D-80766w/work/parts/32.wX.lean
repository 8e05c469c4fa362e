/-! BilletBars: walks (printed by gen/comp.py) -/
set_option maxRecDepth 100000
def rm_X0_isProfile : Room := { frames := 1, cells := 0, slots := 0, locals := 22 }
theorem hd_X0_isProfile : yX0_isProfile.cls = RX0 ∧ yX0_isProfile.cls ≠ "java/lang/invoke/MethodHandle" ∧ yX0_isProfile.cls ≠ "java/lang/invoke/VarHandle" ∧ (parseMethodDescriptor yX0_isProfile.desc).map (fun d => d.parameters.length) = some 1 := by decide +kernel
set_option maxHeartbeats 4000000 in
set_option maxRecDepth 100000 in
theorem w_X0_isProfile {D : va_G} {l : Launch} {hp hpE : jH} {rE : Int32} {this : Nat} {p1 : Int32} (hf : f_X0_isProfile this p1 hp = some (rE, hpE)) : jM D l yX0_isProfile (ws_ yX0_isProfile cX0_isProfile 2 (some .boolean)) rm_X0_isProfile hp [.ref this, .int p1] (some (.int rE)) hpE := by
  refine jM.of (lv0 := [some (.ref this), some (.int p1)]) (by decide) (Nat.le_of_ble_eq_true rfl) rfl (fun X hDl hRm hE hX0 => ?_)
  rw [f_X0_isProfile] at hf
  refine J.iload_n (i := 1) dX0_isProfile_0 rfl rfl ?_
  refine J.iconst (v := 0) dX0_isProfile_1 (by decide) ?_
  refine J.aload_n (i := 0) dX0_isProfile_2 rfl rfl ?_
  replace hf := jbd hf
  obtain ⟨v1, h2, hf⟩ := hf
  refine J.getI 0 1 in_X0 rfl (Nat.le_of_ble_eq_true rfl) (Or.inl q144) (Or.inl rfl) h2 dX0_isProfile_3 ?_
  refine J.iconst (v := 1) dX0_isProfile_6 (by decide) ?_
  refine J.isub dX0_isProfile_7 ?_
  replace hf := jbs hf
  obtain ⟨v5, hp4, h3, hf⟩ := hf
  refine J.callS (As := [.int p1, .int 0, .int (v1 - 1)]) (k2 := 0) (n2 := 0) hDl hRm (w_X0_in h3) (lw_S q234 q235 q39 q236) hs_X0_in rfl (Nat.le_of_ble_eq_true rfl) (Nat.le_of_ble_eq_true rfl) (Nat.le_of_ble_eq_true rfl) (Nat.le_of_ble_eq_true rfl) (Nat.le_of_ble_eq_true rfl) (Nat.le_of_ble_eq_true rfl) (Nat.le_of_ble_eq_true rfl) rfl dX0_isProfile_8 ?_
  by_cases hz6 : ¬ (v5 = (0 : Int32) ∨ v5 = (1 : Int32))
  · replace hf := (if_pos hz6).symm.trans hf
    cases hf
  replace hf := (if_neg hz6).symm.trans hf
  obtain ⟨rfl, rfl⟩ := jso hf
  exact J.zret hE (jz01n (Decidable.not_not.mp hz6)) (Nat.le_of_ble_eq_true rfl) (Nat.le_of_ble_eq_true rfl) dX0_isProfile_11
def rm_X0_isDie : Room := { frames := 1, cells := 0, slots := 0, locals := 22 }
theorem hd_X0_isDie : yX0_isDie.cls = RX0 ∧ yX0_isDie.cls ≠ "java/lang/invoke/MethodHandle" ∧ yX0_isDie.cls ≠ "java/lang/invoke/VarHandle" ∧ (parseMethodDescriptor yX0_isDie.desc).map (fun d => d.parameters.length) = some 1 := by decide +kernel
set_option maxHeartbeats 4000000 in
set_option maxRecDepth 100000 in
theorem w_X0_isDie {D : va_G} {l : Launch} {hp hpE : jH} {rE : Int32} {this : Nat} {p1 : Int32} (hf : f_X0_isDie this p1 hp = some (rE, hpE)) : jM D l yX0_isDie (ws_ yX0_isDie cX0_isDie 2 (some .boolean)) rm_X0_isDie hp [.ref this, .int p1] (some (.int rE)) hpE := by
  refine jM.of (lv0 := [some (.ref this), some (.int p1)]) (by decide) (Nat.le_of_ble_eq_true rfl) rfl (fun X hDl hRm hE hX0 => ?_)
  rw [f_X0_isDie] at hf
  refine J.iload_n (i := 1) dX0_isDie_0 rfl rfl ?_
  refine J.iconst (v := 0) dX0_isDie_1 (by decide) ?_
  refine J.aload_n (i := 0) dX0_isDie_2 rfl rfl ?_
  replace hf := jbd hf
  obtain ⟨v1, h2, hf⟩ := hf
  refine J.getI 0 3 in_X0 rfl (Nat.le_of_ble_eq_true rfl) (Or.inl q146) (Or.inl rfl) h2 dX0_isDie_3 ?_
  refine J.iconst (v := 1) dX0_isDie_6 (by decide) ?_
  refine J.isub dX0_isDie_7 ?_
  replace hf := jbs hf
  obtain ⟨v5, hp4, h3, hf⟩ := hf
  refine J.callS (As := [.int p1, .int 0, .int (v1 - 1)]) (k2 := 0) (n2 := 0) hDl hRm (w_X0_in h3) (lw_S q234 q235 q39 q236) hs_X0_in rfl (Nat.le_of_ble_eq_true rfl) (Nat.le_of_ble_eq_true rfl) (Nat.le_of_ble_eq_true rfl) (Nat.le_of_ble_eq_true rfl) (Nat.le_of_ble_eq_true rfl) (Nat.le_of_ble_eq_true rfl) (Nat.le_of_ble_eq_true rfl) rfl dX0_isDie_8 ?_
  by_cases hz6 : ¬ (v5 = (0 : Int32) ∨ v5 = (1 : Int32))
  · replace hf := (if_pos hz6).symm.trans hf
    cases hf
  replace hf := (if_neg hz6).symm.trans hf
  obtain ⟨rfl, rfl⟩ := jso hf
  exact J.zret hE (jz01n (Decidable.not_not.mp hz6)) (Nat.le_of_ble_eq_true rfl) (Nat.le_of_ble_eq_true rfl) dX0_isDie_11
def rm_X0_profile : Room := { frames := 5, cells := 2, slots := 8, locals := 108 }
theorem hd_X0_profile : yX0_profile.cls = RX0 ∧ yX0_profile.cls ≠ "java/lang/invoke/MethodHandle" ∧ yX0_profile.cls ≠ "java/lang/invoke/VarHandle" ∧ (parseMethodDescriptor yX0_profile.desc).map (fun d => d.parameters.length) = some 4 := by decide +kernel
set_option maxHeartbeats 4000000 in
set_option maxRecDepth 100000 in
theorem w_X0_profile {D : va_G} {l : Launch} {hp hpE : jH} {rE : Int32} {this : Nat} {p1 : Int32} {p2 : Int32} {p3 : Int32} {p4 : Int32} (hf : f_X0_profile this p1 p2 p3 p4 hp = some (rE, hpE)) : jM D l yX0_profile (ws_ yX0_profile cX0_profile 5 (some .int)) rm_X0_profile hp [.ref this, .int p1, .int p2, .int p3, .int p4] (some (.int rE)) hpE := by
  refine jM.of (lv0 := [some (.ref this), some (.int p1), some (.int p2), some (.int p3), some (.int p4)]) (by decide) (Nat.le_of_ble_eq_true rfl) rfl (fun X hDl hRm hE hX0 => ?_)
  rw [f_X0_profile] at hf
  refine J.iload_n (i := 1) dX0_profile_0 rfl rfl ?_
  refine J.iconst (v := 0) dX0_profile_1 (by decide) ?_
  refine J.iconst (v := 2) dX0_profile_2 (by decide) ?_
  replace hf := jbs hf
  obtain ⟨v3, hp2, h1, hf⟩ := hf
  refine J.callS (As := [.int p1, .int 0, .int 2]) (k2 := 0) (n2 := 0) hDl hRm (w_X0_in h1) (lw_S q234 q235 q39 q236) hs_X0_in rfl (Nat.le_of_ble_eq_true rfl) (Nat.le_of_ble_eq_true rfl) (Nat.le_of_ble_eq_true rfl) (Nat.le_of_ble_eq_true rfl) (Nat.le_of_ble_eq_true rfl) (Nat.le_of_ble_eq_true rfl) (Nat.le_of_ble_eq_true rfl) rfl dX0_profile_3 ?_
  refine J.if_eq (tgt := 41) dX0_profile_6 (by decide) (fun hc4 => ?_) (fun hc4 => ?_)
  · replace hf := (if_pos hc4).symm.trans hf
    refine J.bipush (v := (-2)) dX0_profile_41 (by decide) ?_
    obtain ⟨rfl, rfl⟩ := jso hf
    exact J.iret hE (Nat.le_of_ble_eq_true rfl) (Nat.le_of_ble_eq_true rfl) dX0_profile_43
  · replace hf := (if_neg hc4).symm.trans hf
    refine J.iload_n (i := 2) dX0_profile_9 rfl rfl ?_
    refine J.iconst (v := 5) dX0_profile_10 (by decide) ?_
    refine J.bipush (v := 80) dX0_profile_11 (by decide) ?_
    replace hf := jbs hf
    obtain ⟨v7, hp6, h5, hf⟩ := hf
    refine J.callS (As := [.int p2, .int 5, .int 80]) (k2 := 0) (n2 := 0) hDl hRm (w_X0_in h5) (lw_S q234 q235 q39 q236) hs_X0_in rfl (Nat.le_of_ble_eq_true rfl) (Nat.le_of_ble_eq_true rfl) (Nat.le_of_ble_eq_true rfl) (Nat.le_of_ble_eq_true rfl) (Nat.le_of_ble_eq_true rfl) (Nat.le_of_ble_eq_true rfl) (Nat.le_of_ble_eq_true rfl) rfl dX0_profile_13 ?_
    refine J.if_eq (tgt := 41) dX0_profile_16 (by decide) (fun hc8 => ?_) (fun hc8 => ?_)
    · replace hf := (if_pos hc8).symm.trans hf
      refine J.bipush (v := (-2)) dX0_profile_41 (by decide) ?_
      obtain ⟨rfl, rfl⟩ := jso hf
      exact J.iret hE (Nat.le_of_ble_eq_true rfl) (Nat.le_of_ble_eq_true rfl) dX0_profile_43
    · replace hf := (if_neg hc8).symm.trans hf
      refine J.iload_n (i := 3) dX0_profile_19 rfl rfl ?_
      refine J.iconst (v := 0) dX0_profile_20 (by decide) ?_
      refine J.iconst (v := 3) dX0_profile_21 (by decide) ?_
      replace hf := jbs hf
      obtain ⟨v11, hp10, h9, hf⟩ := hf
      refine J.callS (As := [.int p3, .int 0, .int 3]) (k2 := 0) (n2 := 0) hDl hRm (w_X0_in h9) (lw_S q234 q235 q39 q236) hs_X0_in rfl (Nat.le_of_ble_eq_true rfl) (Nat.le_of_ble_eq_true rfl) (Nat.le_of_ble_eq_true rfl) (Nat.le_of_ble_eq_true rfl) (Nat.le_of_ble_eq_true rfl) (Nat.le_of_ble_eq_true rfl) (Nat.le_of_ble_eq_true rfl) rfl dX0_profile_22 ?_
      refine J.if_eq (tgt := 41) dX0_profile_25 (by decide) (fun hc12 => ?_) (fun hc12 => ?_)
      · replace hf := (if_pos hc12).symm.trans hf
        refine J.bipush (v := (-2)) dX0_profile_41 (by decide) ?_
        obtain ⟨rfl, rfl⟩ := jso hf
        exact J.iret hE (Nat.le_of_ble_eq_true rfl) (Nat.le_of_ble_eq_true rfl) dX0_profile_43
      · replace hf := (if_neg hc12).symm.trans hf
        refine J.iload dX0_profile_28 rfl ?_
        refine J.bipush (v := 100) dX0_profile_30 (by decide) ?_
        refine J.sipush (v := 9999) dX0_profile_32 (by decide) ?_
        replace hf := jbs hf
        obtain ⟨v15, hp14, h13, hf⟩ := hf
        refine J.callS (As := [.int p4, .int 100, .int 9999]) (k2 := 0) (n2 := 0) hDl hRm (w_X0_in h13) (lw_S q234 q235 q39 q236) hs_X0_in rfl (Nat.le_of_ble_eq_true rfl) (Nat.le_of_ble_eq_true rfl) (Nat.le_of_ble_eq_true rfl) (Nat.le_of_ble_eq_true rfl) (Nat.le_of_ble_eq_true rfl) (Nat.le_of_ble_eq_true rfl) (Nat.le_of_ble_eq_true rfl) rfl dX0_profile_35 ?_
        refine J.if_ne (tgt := 44) dX0_profile_38 (by decide) (fun hc16 => ?_) (fun hc16 => ?_)
        · replace hf := (if_neg hc16).symm.trans hf
          refine J.aload_n (i := 0) dX0_profile_44 rfl rfl ?_
          replace hf := jbd hf
          obtain ⟨v17, h18, hf⟩ := hf
          refine J.getI 0 1 in_X0 rfl (Nat.le_of_ble_eq_true rfl) (Or.inl q144) (Or.inl rfl) h18 dX0_profile_45 ?_
          refine J.bipush (v := 8) dX0_profile_48 (by decide) ?_
          refine J.icmp_ne (tgt := 56) dX0_profile_50 (by decide) (fun hc19 => ?_) (fun hc19 => ?_)
          · replace hf := (if_neg hc19).symm.trans hf
            refine J.aload_n (i := 0) dX0_profile_56 rfl rfl ?_
            replace hf := jbd hf
            obtain ⟨a20, h21, hf⟩ := hf
            refine J.getA 0 0 in_X0 rfl (Nat.le_of_ble_eq_true rfl) (Or.inl q143) (Or.inl rfl) h21 dX0_profile_57 ?_
            refine J.aload_n (i := 0) dX0_profile_60 rfl rfl ?_
            replace hf := jbd hf
            obtain ⟨v22, h23, hf⟩ := hf
            refine J.getI 0 1 in_X0 rfl (Nat.le_of_ble_eq_true rfl) (Or.inl q144) (Or.inl rfl) h23 dX0_profile_61 ?_
            replace hf := jbd hf
            obtain ⟨hp24, h25, hf⟩ := hf
            refine J.new (fs := [.int 0, .int 0, .int 0, .int 0, .null]) (k2 := 1) (n2 := 5) 4 hRm in_X6 tyX6 tyX6_ok rfl q75 q237 q45 (by decide +kernel) (fun _ => rfl) rfl (Nat.le_of_ble_eq_true rfl) (Nat.le_of_ble_eq_true rfl) (Nat.le_of_ble_eq_true rfl) (Nat.le_of_ble_eq_true rfl) h25 dX0_profile_64 ?_
            refine J.dup dX0_profile_67 rfl ?_
            refine J.iload_n (i := 1) dX0_profile_68 rfl rfl ?_
            refine J.iload_n (i := 2) dX0_profile_69 rfl rfl ?_
            refine J.iload_n (i := 3) dX0_profile_70 rfl rfl ?_
            refine J.iload dX0_profile_71 rfl ?_
            replace hf := jbd hf
            obtain ⟨hp27, h26, hf⟩ := hf
            refine J.callI (As := [.int p1, .int p2, .int p3, .int p4]) (k2 := 2) (n2 := 8) hDl hRm (w_X6_init h26) (lw_meth q240) q45 q238 q239 hi_X6_init rfl (Nat.le_of_ble_eq_true rfl) (Nat.le_of_ble_eq_true rfl) (Nat.le_of_ble_eq_true rfl) (Nat.le_of_ble_eq_true rfl) (Nat.le_of_ble_eq_true rfl) (Nat.le_of_ble_eq_true rfl) (Nat.le_of_ble_eq_true rfl) rfl dX0_profile_73 ?_
            replace hf := jbd hf
            obtain ⟨hp28, h29, hf⟩ := hf
            refine J.aast (ci := 4) rfl (Or.inl rfl) h29 dX0_profile_76 ?_
            refine J.aload_n (i := 0) dX0_profile_77 rfl rfl ?_
            refine J.dup dX0_profile_78 rfl ?_
            replace hf := jbd hf
            obtain ⟨v30, h31, hf⟩ := hf
            refine J.getI 0 1 in_X0 rfl (Nat.le_of_ble_eq_true rfl) (Or.inl q144) (Or.inl rfl) h31 dX0_profile_79 ?_
            refine J.iconst (v := 1) dX0_profile_82 (by decide) ?_
            refine J.iadd dX0_profile_83 ?_
            replace hf := jbd hf
            obtain ⟨hp32, h33, hf⟩ := hf
            refine J.put (ty := .int) 0 1 in_X0 ap0 rfl (Nat.le_of_ble_eq_true rfl) (Or.inl q144) (Or.inl rfl) rfl (by decide +kernel) (fun _ => ⟨rfl, rfl⟩) h33 dX0_profile_84 ?_
            refine J.aload_n (i := 0) dX0_profile_87 rfl rfl ?_
            replace hf := jbd hf
            obtain ⟨v34, h35, hf⟩ := hf
            refine J.getI 0 1 in_X0 rfl (Nat.le_of_ble_eq_true rfl) (Or.inl q144) (Or.inl rfl) h35 dX0_profile_88 ?_
            refine J.iconst (v := 1) dX0_profile_91 (by decide) ?_
            refine J.isub dX0_profile_92 ?_
            obtain ⟨rfl, rfl⟩ := jso hf
            exact J.iret hE (Nat.le_of_ble_eq_true rfl) (Nat.le_of_ble_eq_true rfl) dX0_profile_93
          · replace hf := (if_pos hc19).symm.trans hf
            refine J.bipush (v := (-4)) dX0_profile_53 (by decide) ?_
            obtain ⟨rfl, rfl⟩ := jso hf
            exact J.iret hE (Nat.le_of_ble_eq_true rfl) (Nat.le_of_ble_eq_true rfl) dX0_profile_55
        · replace hf := (if_pos hc16).symm.trans hf
          refine J.bipush (v := (-2)) dX0_profile_41 (by decide) ?_
          obtain ⟨rfl, rfl⟩ := jso hf
          exact J.iret hE (Nat.le_of_ble_eq_true rfl) (Nat.le_of_ble_eq_true rfl) dX0_profile_43
def rm_X0_die : Room := { frames := 2, cells := 1, slots := 7, locals := 47 }
theorem hd_X0_die : yX0_die.cls = RX0 ∧ yX0_die.cls ≠ "java/lang/invoke/MethodHandle" ∧ yX0_die.cls ≠ "java/lang/invoke/VarHandle" ∧ (parseMethodDescriptor yX0_die.desc).map (fun d => d.parameters.length) = some 2 := by decide +kernel
set_option maxHeartbeats 4000000 in
set_option maxRecDepth 100000 in
theorem w_X0_die {D : va_G} {l : Launch} {hp hpE : jH} {rE : Int32} {this : Nat} {p1 : Int32} {p2 : Int32} (hf : f_X0_die this p1 p2 hp = some (rE, hpE)) : jM D l yX0_die (ws_ yX0_die cX0_die 3 (some .int)) rm_X0_die hp [.ref this, .int p1, .int p2] (some (.int rE)) hpE := by
  refine jM.of (lv0 := [some (.ref this), some (.int p1), some (.int p2)]) (by decide) (Nat.le_of_ble_eq_true rfl) rfl (fun X hDl hRm hE hX0 => ?_)
  rw [f_X0_die] at hf
  refine J.aload_n (i := 0) dX0_die_0 rfl rfl ?_
  refine J.iload_n (i := 1) dX0_die_1 rfl rfl ?_
  replace hf := jbd hf
  obtain ⟨u1, h2, hf⟩ := hf
  replace hf := jbs hf
  obtain ⟨v5, hp4, h3, hf⟩ := hf
  refine J.callV (As := [.int p1]) (k2 := 0) (n2 := 0) 0 hDl hRm (w_X0_isProfile h3) (lw_V q293 q295 qs0 q39 q296) hd_X0_isProfile rfl ⟨_, h2⟩ rfl (Nat.le_of_ble_eq_true rfl) (Nat.le_of_ble_eq_true rfl) (Nat.le_of_ble_eq_true rfl) (Nat.le_of_ble_eq_true rfl) (Nat.le_of_ble_eq_true rfl) (Nat.le_of_ble_eq_true rfl) (Nat.le_of_ble_eq_true rfl) rfl dX0_die_2 ?_
  refine J.if_eq (tgt := 18) dX0_die_5 (by decide) (fun hc6 => ?_) (fun hc6 => ?_)
  · replace hf := (if_pos hc6).symm.trans hf
    refine J.bipush (v := (-2)) dX0_die_18 (by decide) ?_
    obtain ⟨rfl, rfl⟩ := jso hf
    exact J.iret hE (Nat.le_of_ble_eq_true rfl) (Nat.le_of_ble_eq_true rfl) dX0_die_20
  · replace hf := (if_neg hc6).symm.trans hf
    refine J.iload_n (i := 2) dX0_die_8 rfl rfl ?_
    refine J.iconst (v := 1) dX0_die_9 (by decide) ?_
    refine J.bipush (v := 50) dX0_die_10 (by decide) ?_
    replace hf := jbs hf
    obtain ⟨v9, hp8, h7, hf⟩ := hf
    refine J.callS (As := [.int p2, .int 1, .int 50]) (k2 := 0) (n2 := 0) hDl hRm (w_X0_in h7) (lw_S q234 q235 q39 q236) hs_X0_in rfl (Nat.le_of_ble_eq_true rfl) (Nat.le_of_ble_eq_true rfl) (Nat.le_of_ble_eq_true rfl) (Nat.le_of_ble_eq_true rfl) (Nat.le_of_ble_eq_true rfl) (Nat.le_of_ble_eq_true rfl) (Nat.le_of_ble_eq_true rfl) rfl dX0_die_12 ?_
    refine J.if_ne (tgt := 21) dX0_die_15 (by decide) (fun hc10 => ?_) (fun hc10 => ?_)
    · replace hf := (if_neg hc10).symm.trans hf
      refine J.aload_n (i := 0) dX0_die_21 rfl rfl ?_
      replace hf := jbd hf
      obtain ⟨v11, h12, hf⟩ := hf
      refine J.getI 0 3 in_X0 rfl (Nat.le_of_ble_eq_true rfl) (Or.inl q146) (Or.inl rfl) h12 dX0_die_22 ?_
      refine J.bipush (v := 12) dX0_die_25 (by decide) ?_
      refine J.icmp_ne (tgt := 33) dX0_die_27 (by decide) (fun hc13 => ?_) (fun hc13 => ?_)
      · replace hf := (if_neg hc13).symm.trans hf
        refine J.aload_n (i := 0) dX0_die_33 rfl rfl ?_
        replace hf := jbd hf
        obtain ⟨a14, h15, hf⟩ := hf
        refine J.getA 0 2 in_X0 rfl (Nat.le_of_ble_eq_true rfl) (Or.inl q145) (Or.inl rfl) h15 dX0_die_34 ?_
        refine J.aload_n (i := 0) dX0_die_37 rfl rfl ?_
        replace hf := jbd hf
        obtain ⟨v16, h17, hf⟩ := hf
        refine J.getI 0 3 in_X0 rfl (Nat.le_of_ble_eq_true rfl) (Or.inl q146) (Or.inl rfl) h17 dX0_die_38 ?_
        replace hf := jbd hf
        obtain ⟨hp18, h19, hf⟩ := hf
        refine J.new (fs := [.null, .int 0, .int 0, .int 0, .int 0, .int 0, .int 0]) (k2 := 1) (n2 := 7) 6 hRm in_X7 tyX7 tyX7_ok rfl q77 q297 q49 (by decide +kernel) (fun _ => rfl) rfl (Nat.le_of_ble_eq_true rfl) (Nat.le_of_ble_eq_true rfl) (Nat.le_of_ble_eq_true rfl) (Nat.le_of_ble_eq_true rfl) h19 dX0_die_41 ?_
        refine J.dup dX0_die_44 rfl ?_
        refine J.aload_n (i := 0) dX0_die_45 rfl rfl ?_
        replace hf := jbd hf
        obtain ⟨v20, h21, hf⟩ := hf
        refine J.getI 0 3 in_X0 rfl (Nat.le_of_ble_eq_true rfl) (Or.inl q146) (Or.inl rfl) h21 dX0_die_46 ?_
        refine J.aload_n (i := 0) dX0_die_49 rfl rfl ?_
        replace hf := jbd hf
        obtain ⟨a22, h23, hf⟩ := hf
        refine J.getA 0 0 in_X0 rfl (Nat.le_of_ble_eq_true rfl) (Or.inl q143) (Or.inl rfl) h23 dX0_die_50 ?_
        refine J.iload_n (i := 1) dX0_die_53 rfl rfl ?_
        replace hf := jbd hf
        obtain ⟨a24, h25, hf⟩ := hf
        refine J.aaldA h25 dX0_die_54 ?_
        refine J.iload_n (i := 2) dX0_die_55 rfl rfl ?_
        replace hf := jbd hf
        obtain ⟨hp27, h26, hf⟩ := hf
        refine J.callI (As := [.int v20, .ref a24, .int p2]) (k2 := 1) (n2 := 7) hDl hRm (w_X7_init h26) (lw_meth q300) q49 q298 q299 hi_X7_init rfl (Nat.le_of_ble_eq_true rfl) (Nat.le_of_ble_eq_true rfl) (Nat.le_of_ble_eq_true rfl) (Nat.le_of_ble_eq_true rfl) (Nat.le_of_ble_eq_true rfl) (Nat.le_of_ble_eq_true rfl) (Nat.le_of_ble_eq_true rfl) rfl dX0_die_56 ?_
        replace hf := jbd hf
        obtain ⟨hp28, h29, hf⟩ := hf
        refine J.aast (ci := 6) rfl (Or.inl rfl) h29 dX0_die_59 ?_
        refine J.aload_n (i := 0) dX0_die_60 rfl rfl ?_
        refine J.dup dX0_die_61 rfl ?_
        replace hf := jbd hf
        obtain ⟨v30, h31, hf⟩ := hf
        refine J.getI 0 3 in_X0 rfl (Nat.le_of_ble_eq_true rfl) (Or.inl q146) (Or.inl rfl) h31 dX0_die_62 ?_
        refine J.iconst (v := 1) dX0_die_65 (by decide) ?_
        refine J.iadd dX0_die_66 ?_
        replace hf := jbd hf
        obtain ⟨hp32, h33, hf⟩ := hf
        refine J.put (ty := .int) 0 3 in_X0 ap0 rfl (Nat.le_of_ble_eq_true rfl) (Or.inl q146) (Or.inl rfl) rfl (by decide +kernel) (fun _ => ⟨rfl, rfl⟩) h33 dX0_die_67 ?_
        refine J.aload_n (i := 0) dX0_die_70 rfl rfl ?_
        replace hf := jbd hf
        obtain ⟨v34, h35, hf⟩ := hf
        refine J.getI 0 3 in_X0 rfl (Nat.le_of_ble_eq_true rfl) (Or.inl q146) (Or.inl rfl) h35 dX0_die_71 ?_
        refine J.iconst (v := 1) dX0_die_74 (by decide) ?_
        refine J.isub dX0_die_75 ?_
        obtain ⟨rfl, rfl⟩ := jso hf
        exact J.iret hE (Nat.le_of_ble_eq_true rfl) (Nat.le_of_ble_eq_true rfl) dX0_die_76
      · replace hf := (if_pos hc13).symm.trans hf
        refine J.bipush (v := (-4)) dX0_die_30 (by decide) ?_
        obtain ⟨rfl, rfl⟩ := jso hf
        exact J.iret hE (Nat.le_of_ble_eq_true rfl) (Nat.le_of_ble_eq_true rfl) dX0_die_32
    · replace hf := (if_pos hc10).symm.trans hf
      refine J.bipush (v := (-2)) dX0_die_18 (by decide) ?_
      obtain ⟨rfl, rfl⟩ := jso hf
      exact J.iret hE (Nat.le_of_ble_eq_true rfl) (Nat.le_of_ble_eq_true rfl) dX0_die_20
def rm_X0_warm : Room := { frames := 2, cells := 0, slots := 0, locals := 43 }
theorem hd_X0_warm : yX0_warm.cls = RX0 ∧ yX0_warm.cls ≠ "java/lang/invoke/MethodHandle" ∧ yX0_warm.cls ≠ "java/lang/invoke/VarHandle" ∧ (parseMethodDescriptor yX0_warm.desc).map (fun d => d.parameters.length) = some 1 := by decide +kernel
set_option maxHeartbeats 4000000 in
set_option maxRecDepth 100000 in
theorem w_X0_warm {D : va_G} {l : Launch} {hp hpE : jH} {rE : Int32} {this : Nat} {p1 : Int32} (hf : f_X0_warm this p1 hp = some (rE, hpE)) : jM D l yX0_warm (ws_ yX0_warm cX0_warm 2 (some .int)) rm_X0_warm hp [.ref this, .int p1] (some (.int rE)) hpE := by
  refine jM.of (lv0 := [some (.ref this), some (.int p1)]) (by decide) (Nat.le_of_ble_eq_true rfl) rfl (fun X hDl hRm hE hX0 => ?_)
  rw [f_X0_warm] at hf
  refine J.aload_n (i := 0) dX0_warm_0 rfl rfl ?_
  refine J.iload_n (i := 1) dX0_warm_1 rfl rfl ?_
  replace hf := jbd hf
  obtain ⟨u1, h2, hf⟩ := hf
  replace hf := jbs hf
  obtain ⟨v5, hp4, h3, hf⟩ := hf
  refine J.callV (As := [.int p1]) (k2 := 0) (n2 := 0) 0 hDl hRm (w_X0_isDie h3) (lw_V q334 q336 qs1 q39 q337) hd_X0_isDie rfl ⟨_, h2⟩ rfl (Nat.le_of_ble_eq_true rfl) (Nat.le_of_ble_eq_true rfl) (Nat.le_of_ble_eq_true rfl) (Nat.le_of_ble_eq_true rfl) (Nat.le_of_ble_eq_true rfl) (Nat.le_of_ble_eq_true rfl) (Nat.le_of_ble_eq_true rfl) rfl dX0_warm_2 ?_
  refine J.if_ne (tgt := 11) dX0_warm_5 (by decide) (fun hc6 => ?_) (fun hc6 => ?_)
  · replace hf := (if_neg hc6).symm.trans hf
    refine J.aload_n (i := 0) dX0_warm_11 rfl rfl ?_
    replace hf := jbd hf
    obtain ⟨a7, h8, hf⟩ := hf
    refine J.getA 0 2 in_X0 rfl (Nat.le_of_ble_eq_true rfl) (Or.inl q145) (Or.inl rfl) h8 dX0_warm_12 ?_
    refine J.iload_n (i := 1) dX0_warm_15 rfl rfl ?_
    replace hf := jbd hf
    obtain ⟨a9, h10, hf⟩ := hf
    refine J.aaldA h10 dX0_warm_16 ?_
    replace hf := jbd hf
    obtain ⟨v11, h12, hf⟩ := hf
    refine J.getI 6 5 in_X7 rfl (Nat.le_of_ble_eq_true rfl) (Or.inr ⟨_, q312⟩) (Or.inl rfl) h12 dX0_warm_17 ?_
    refine J.if_eq (tgt := 26) dX0_warm_20 (by decide) (fun hc13 => ?_) (fun hc13 => ?_)
    · replace hf := (if_pos hc13).symm.trans hf
      refine J.aload_n (i := 0) dX0_warm_26 rfl rfl ?_
      replace hf := jbd hf
      obtain ⟨a14, h15, hf⟩ := hf
      refine J.getA 0 2 in_X0 rfl (Nat.le_of_ble_eq_true rfl) (Or.inl q145) (Or.inl rfl) h15 dX0_warm_27 ?_
      refine J.iload_n (i := 1) dX0_warm_30 rfl rfl ?_
      replace hf := jbd hf
      obtain ⟨a16, h17, hf⟩ := hf
      refine J.aaldA h17 dX0_warm_31 ?_
      refine J.iconst (v := 1) dX0_warm_32 (by decide) ?_
      replace hf := jbd hf
      obtain ⟨hp18, h19, hf⟩ := hf
      refine J.put (ty := .boolean) 6 5 in_X7 ap6 rfl (Nat.le_of_ble_eq_true rfl) (Or.inr ⟨_, q312⟩) (Or.inl rfl) rfl (by decide +kernel) (jz01 (Or.inr rfl)) h19 dX0_warm_33 ?_
      refine J.aload_n (i := 0) dX0_warm_36 rfl rfl ?_
      replace hf := jbd hf
      obtain ⟨a20, h21, hf⟩ := hf
      refine J.getA 0 2 in_X0 rfl (Nat.le_of_ble_eq_true rfl) (Or.inl q145) (Or.inl rfl) h21 dX0_warm_37 ?_
      refine J.iload_n (i := 1) dX0_warm_40 rfl rfl ?_
      replace hf := jbd hf
      obtain ⟨a22, h23, hf⟩ := hf
      refine J.aaldA h23 dX0_warm_41 ?_
      refine J.aload_n (i := 0) dX0_warm_42 rfl rfl ?_
      replace hf := jbd hf
      obtain ⟨v24, h25, hf⟩ := hf
      refine J.getI 0 4 in_X0 rfl (Nat.le_of_ble_eq_true rfl) (Or.inl q147) (Or.inl rfl) h25 dX0_warm_43 ?_
      replace hf := jbd hf
      obtain ⟨hp26, h27, hf⟩ := hf
      refine J.put (ty := .int) 6 6 in_X7 ap6 rfl (Nat.le_of_ble_eq_true rfl) (Or.inr ⟨_, q314⟩) (Or.inl rfl) rfl (by decide +kernel) (fun _ => ⟨rfl, rfl⟩) h27 dX0_warm_46 ?_
      refine J.iconst (v := 1) dX0_warm_49 (by decide) ?_
      obtain ⟨rfl, rfl⟩ := jso hf
      exact J.iret hE (Nat.le_of_ble_eq_true rfl) (Nat.le_of_ble_eq_true rfl) dX0_warm_50
    · replace hf := (if_neg hc13).symm.trans hf
      refine J.bipush (v := (-3)) dX0_warm_23 (by decide) ?_
      obtain ⟨rfl, rfl⟩ := jso hf
      exact J.iret hE (Nat.le_of_ble_eq_true rfl) (Nat.le_of_ble_eq_true rfl) dX0_warm_25
  · replace hf := (if_pos hc6).symm.trans hf
    refine J.bipush (v := (-2)) dX0_warm_8 (by decide) ?_
    obtain ⟨rfl, rfl⟩ := jso hf
    exact J.iret hE (Nat.le_of_ble_eq_true rfl) (Nat.le_of_ble_eq_true rfl) dX0_warm_10
def rm_X0_cool : Room := { frames := 2, cells := 0, slots := 0, locals := 43 }
theorem hd_X0_cool : yX0_cool.cls = RX0 ∧ yX0_cool.cls ≠ "java/lang/invoke/MethodHandle" ∧ yX0_cool.cls ≠ "java/lang/invoke/VarHandle" ∧ (parseMethodDescriptor yX0_cool.desc).map (fun d => d.parameters.length) = some 1 := by decide +kernel
set_option maxHeartbeats 4000000 in
set_option maxRecDepth 100000 in
theorem w_X0_cool {D : va_G} {l : Launch} {hp hpE : jH} {rE : Int32} {this : Nat} {p1 : Int32} (hf : f_X0_cool this p1 hp = some (rE, hpE)) : jM D l yX0_cool (ws_ yX0_cool cX0_cool 2 (some .int)) rm_X0_cool hp [.ref this, .int p1] (some (.int rE)) hpE := by
  refine jM.of (lv0 := [some (.ref this), some (.int p1)]) (by decide) (Nat.le_of_ble_eq_true rfl) rfl (fun X hDl hRm hE hX0 => ?_)
  rw [f_X0_cool] at hf
  refine J.aload_n (i := 0) dX0_cool_0 rfl rfl ?_
  refine J.iload_n (i := 1) dX0_cool_1 rfl rfl ?_
  replace hf := jbd hf
  obtain ⟨u1, h2, hf⟩ := hf
  replace hf := jbs hf
  obtain ⟨v5, hp4, h3, hf⟩ := hf
  refine J.callV (As := [.int p1]) (k2 := 0) (n2 := 0) 0 hDl hRm (w_X0_isDie h3) (lw_V q334 q336 qs1 q39 q337) hd_X0_isDie rfl ⟨_, h2⟩ rfl (Nat.le_of_ble_eq_true rfl) (Nat.le_of_ble_eq_true rfl) (Nat.le_of_ble_eq_true rfl) (Nat.le_of_ble_eq_true rfl) (Nat.le_of_ble_eq_true rfl) (Nat.le_of_ble_eq_true rfl) (Nat.le_of_ble_eq_true rfl) rfl dX0_cool_2 ?_
  refine J.if_ne (tgt := 11) dX0_cool_5 (by decide) (fun hc6 => ?_) (fun hc6 => ?_)
  · replace hf := (if_neg hc6).symm.trans hf
    refine J.aload_n (i := 0) dX0_cool_11 rfl rfl ?_
    replace hf := jbd hf
    obtain ⟨a7, h8, hf⟩ := hf
    refine J.getA 0 2 in_X0 rfl (Nat.le_of_ble_eq_true rfl) (Or.inl q145) (Or.inl rfl) h8 dX0_cool_12 ?_
    refine J.iload_n (i := 1) dX0_cool_15 rfl rfl ?_
    replace hf := jbd hf
    obtain ⟨a9, h10, hf⟩ := hf
    refine J.aaldA h10 dX0_cool_16 ?_
    replace hf := jbd hf
    obtain ⟨v11, h12, hf⟩ := hf
    refine J.getI 6 5 in_X7 rfl (Nat.le_of_ble_eq_true rfl) (Or.inr ⟨_, q312⟩) (Or.inl rfl) h12 dX0_cool_17 ?_
    refine J.if_ne (tgt := 26) dX0_cool_20 (by decide) (fun hc13 => ?_) (fun hc13 => ?_)
    · replace hf := (if_neg hc13).symm.trans hf
      refine J.aload_n (i := 0) dX0_cool_26 rfl rfl ?_
      replace hf := jbd hf
      obtain ⟨a14, h15, hf⟩ := hf
      refine J.getA 0 2 in_X0 rfl (Nat.le_of_ble_eq_true rfl) (Or.inl q145) (Or.inl rfl) h15 dX0_cool_27 ?_
      refine J.iload_n (i := 1) dX0_cool_30 rfl rfl ?_
      replace hf := jbd hf
      obtain ⟨a16, h17, hf⟩ := hf
      refine J.aaldA h17 dX0_cool_31 ?_
      refine J.iconst (v := 0) dX0_cool_32 (by decide) ?_
      replace hf := jbd hf
      obtain ⟨hp18, h19, hf⟩ := hf
      refine J.put (ty := .boolean) 6 5 in_X7 ap6 rfl (Nat.le_of_ble_eq_true rfl) (Or.inr ⟨_, q312⟩) (Or.inl rfl) rfl (by decide +kernel) (jz01 (Or.inl rfl)) h19 dX0_cool_33 ?_
      refine J.aload_n (i := 0) dX0_cool_36 rfl rfl ?_
      replace hf := jbd hf
      obtain ⟨v20, h21, hf⟩ := hf
      refine J.getI 0 4 in_X0 rfl (Nat.le_of_ble_eq_true rfl) (Or.inl q147) (Or.inl rfl) h21 dX0_cool_37 ?_
      refine J.aload_n (i := 0) dX0_cool_40 rfl rfl ?_
      replace hf := jbd hf
      obtain ⟨a22, h23, hf⟩ := hf
      refine J.getA 0 2 in_X0 rfl (Nat.le_of_ble_eq_true rfl) (Or.inl q145) (Or.inl rfl) h23 dX0_cool_41 ?_
      refine J.iload_n (i := 1) dX0_cool_44 rfl rfl ?_
      replace hf := jbd hf
      obtain ⟨a24, h25, hf⟩ := hf
      refine J.aaldA h25 dX0_cool_45 ?_
      replace hf := jbd hf
      obtain ⟨v26, h27, hf⟩ := hf
      refine J.getI 6 6 in_X7 rfl (Nat.le_of_ble_eq_true rfl) (Or.inr ⟨_, q314⟩) (Or.inl rfl) h27 dX0_cool_46 ?_
      refine J.isub dX0_cool_49 ?_
      obtain ⟨rfl, rfl⟩ := jso hf
      exact J.iret hE (Nat.le_of_ble_eq_true rfl) (Nat.le_of_ble_eq_true rfl) dX0_cool_50
    · replace hf := (if_pos hc13).symm.trans hf
      refine J.bipush (v := (-3)) dX0_cool_23 (by decide) ?_
      obtain ⟨rfl, rfl⟩ := jso hf
      exact J.iret hE (Nat.le_of_ble_eq_true rfl) (Nat.le_of_ble_eq_true rfl) dX0_cool_25
  · replace hf := (if_pos hc6).symm.trans hf
    refine J.bipush (v := (-2)) dX0_cool_8 (by decide) ?_
    obtain ⟨rfl, rfl⟩ := jso hf
    exact J.iret hE (Nat.le_of_ble_eq_true rfl) (Nat.le_of_ble_eq_true rfl) dX0_cool_10
def rm_X0_nitride : Room := { frames := 2, cells := 0, slots := 0, locals := 43 }
theorem hd_X0_nitride : yX0_nitride.cls = RX0 ∧ yX0_nitride.cls ≠ "java/lang/invoke/MethodHandle" ∧ yX0_nitride.cls ≠ "java/lang/invoke/VarHandle" ∧ (parseMethodDescriptor yX0_nitride.desc).map (fun d => d.parameters.length) = some 1 := by decide +kernel
set_option maxHeartbeats 4000000 in
set_option maxRecDepth 100000 in
theorem w_X0_nitride {D : va_G} {l : Launch} {hp hpE : jH} {rE : Int32} {this : Nat} {p1 : Int32} (hf : f_X0_nitride this p1 hp = some (rE, hpE)) : jM D l yX0_nitride (ws_ yX0_nitride cX0_nitride 3 (some .int)) rm_X0_nitride hp [.ref this, .int p1] (some (.int rE)) hpE := by
  refine jM.of (lv0 := [some (.ref this), some (.int p1), none]) (by decide) (Nat.le_of_ble_eq_true rfl) rfl (fun X hDl hRm hE hX0 => ?_)
  rw [f_X0_nitride] at hf
  refine J.aload_n (i := 0) dX0_nitride_0 rfl rfl ?_
  refine J.iload_n (i := 1) dX0_nitride_1 rfl rfl ?_
  replace hf := jbd hf
  obtain ⟨u1, h2, hf⟩ := hf
  replace hf := jbs hf
  obtain ⟨v5, hp4, h3, hf⟩ := hf
  refine J.callV (As := [.int p1]) (k2 := 0) (n2 := 0) 0 hDl hRm (w_X0_isDie h3) (lw_V q334 q336 qs1 q39 q337) hd_X0_isDie rfl ⟨_, h2⟩ rfl (Nat.le_of_ble_eq_true rfl) (Nat.le_of_ble_eq_true rfl) (Nat.le_of_ble_eq_true rfl) (Nat.le_of_ble_eq_true rfl) (Nat.le_of_ble_eq_true rfl) (Nat.le_of_ble_eq_true rfl) (Nat.le_of_ble_eq_true rfl) rfl dX0_nitride_2 ?_
  refine J.if_ne (tgt := 11) dX0_nitride_5 (by decide) (fun hc6 => ?_) (fun hc6 => ?_)
  · replace hf := (if_neg hc6).symm.trans hf
    refine J.aload_n (i := 0) dX0_nitride_11 rfl rfl ?_
    replace hf := jbd hf
    obtain ⟨a7, h8, hf⟩ := hf
    refine J.getA 0 2 in_X0 rfl (Nat.le_of_ble_eq_true rfl) (Or.inl q145) (Or.inl rfl) h8 dX0_nitride_12 ?_
    refine J.iload_n (i := 1) dX0_nitride_15 rfl rfl ?_
    replace hf := jbd hf
    obtain ⟨a9, h10, hf⟩ := hf
    refine J.aaldA h10 dX0_nitride_16 ?_
    replace hf := jbd hf
    obtain ⟨v11, h12, hf⟩ := hf
    refine J.getI 6 5 in_X7 rfl (Nat.le_of_ble_eq_true rfl) (Or.inr ⟨_, q312⟩) (Or.inl rfl) h12 dX0_nitride_17 ?_
    refine J.if_eq (tgt := 26) dX0_nitride_20 (by decide) (fun hc13 => ?_) (fun hc13 => ?_)
    · replace hf := (if_pos hc13).symm.trans hf
      refine J.aload_n (i := 0) dX0_nitride_26 rfl rfl ?_
      replace hf := jbd hf
      obtain ⟨a14, h15, hf⟩ := hf
      refine J.getA 0 2 in_X0 rfl (Nat.le_of_ble_eq_true rfl) (Or.inl q145) (Or.inl rfl) h15 dX0_nitride_27 ?_
      refine J.iload_n (i := 1) dX0_nitride_30 rfl rfl ?_
      replace hf := jbd hf
      obtain ⟨a16, h17, hf⟩ := hf
      refine J.aaldA h17 dX0_nitride_31 ?_
      replace hf := jbd hf
      obtain ⟨v18, h19, hf⟩ := hf
      refine J.getI 6 3 in_X7 rfl (Nat.le_of_ble_eq_true rfl) (Or.inr ⟨_, q309⟩) (Or.inl rfl) h19 dX0_nitride_32 ?_
      refine J.istore_n (i := 2) (lv' := [some (.ref this), some (.int p1), some (.int v18)]) dX0_nitride_35 rfl (Nat.le_of_ble_eq_true rfl) rfl ?_
      refine J.aload_n (i := 0) dX0_nitride_36 rfl rfl ?_
      replace hf := jbd hf
      obtain ⟨a20, h21, hf⟩ := hf
      refine J.getA 0 2 in_X0 rfl (Nat.le_of_ble_eq_true rfl) (Or.inl q145) (Or.inl rfl) h21 dX0_nitride_37 ?_
      refine J.iload_n (i := 1) dX0_nitride_40 rfl rfl ?_
      replace hf := jbd hf
      obtain ⟨a22, h23, hf⟩ := hf
      refine J.aaldA h23 dX0_nitride_41 ?_
      refine J.iconst (v := 0) dX0_nitride_42 (by decide) ?_
      replace hf := jbd hf
      obtain ⟨hp24, h25, hf⟩ := hf
      refine J.put (ty := .int) 6 3 in_X7 ap6 rfl (Nat.le_of_ble_eq_true rfl) (Or.inr ⟨_, q309⟩) (Or.inl rfl) rfl (by decide +kernel) (fun _ => ⟨rfl, rfl⟩) h25 dX0_nitride_43 ?_
      refine J.iload_n (i := 2) dX0_nitride_46 rfl rfl ?_
      obtain ⟨rfl, rfl⟩ := jso hf
      exact J.iret hE (Nat.le_of_ble_eq_true rfl) (Nat.le_of_ble_eq_true rfl) dX0_nitride_47
    · replace hf := (if_neg hc13).symm.trans hf
      refine J.bipush (v := (-3)) dX0_nitride_23 (by decide) ?_
      obtain ⟨rfl, rfl⟩ := jso hf
      exact J.iret hE (Nat.le_of_ble_eq_true rfl) (Nat.le_of_ble_eq_true rfl) dX0_nitride_25
  · replace hf := (if_pos hc6).symm.trans hf
    refine J.bipush (v := (-2)) dX0_nitride_8 (by decide) ?_
    obtain ⟨rfl, rfl⟩ := jso hf
    exact J.iret hE (Nat.le_of_ble_eq_true rfl) (Nat.le_of_ble_eq_true rfl) dX0_nitride_10
def rm_X0_profileOf : Room := { frames := 0, cells := 0, slots := 0, locals := 0 }
theorem hd_X0_profileOf : yX0_profileOf.cls = RX0 ∧ yX0_profileOf.cls ≠ "java/lang/invoke/MethodHandle" ∧ yX0_profileOf.cls ≠ "java/lang/invoke/VarHandle" ∧ (parseMethodDescriptor yX0_profileOf.desc).map (fun d => d.parameters.length) = some 1 := by decide +kernel
set_option maxHeartbeats 4000000 in
set_option maxRecDepth 100000 in
theorem w_X0_profileOf_L2 {D : va_G} {l : Launch} {X : jX} {hp0 hpE : jH} {rE : Int32} (hDl : jDl X D l) (hRm : jRoom X rm_X0_profileOf.frames rm_X0_profileOf.locals rm_X0_profileOf.cells rm_X0_profileOf.slots) (hE : jEnds X (some .int) (some (.int rE)) hpE rm_X0_profileOf.cells rm_X0_profileOf.slots) (hX0 : jX0 X hp0) : ∀ (N : Nat) (xa_0 : Nat) (xa_1 : Nat) (xi_2 : Int32) (hp : jH), f_X0_profileOf_L2 N xa_0 xa_1 xi_2 hp = some (rE, hpE) → J X cX0_profileOf 3 yX0_profileOf 0 0 2 [some (.ref xa_0), some (.ref xa_1), some (.int xi_2)] [] hp := by
  intro N
  induction N with
  | zero =>
    intro xa_0 xa_1 xi_2 hp hf
    rw [f_X0_profileOf_L2] at hf
    cases hf
  | succ N ih2 =>
    intro xa_0 xa_1 xi_2 hp hf
    rw [f_X0_profileOf_L2] at hf
    refine J.aload_n (i := 0) dX0_profileOf_2 rfl rfl ?_
    replace hf := jbd hf
    obtain ⟨a1, h2, hf⟩ := hf
    refine J.getA 0 0 in_X0 rfl (Nat.le_of_ble_eq_true rfl) (Or.inl q143) (Or.inl rfl) h2 dX0_profileOf_3 ?_
    refine J.iload_n (i := 2) dX0_profileOf_6 rfl rfl ?_
    replace hf := jbd hf
    obtain ⟨a3, h4, hf⟩ := hf
    refine J.aaldA h4 dX0_profileOf_7 ?_
    refine J.aload_n (i := 1) dX0_profileOf_8 rfl rfl ?_
    replace hf := jbd hf
    obtain ⟨a5, h6, hf⟩ := hf
    refine J.getA 6 0 in_X7 rfl (Nat.le_of_ble_eq_true rfl) (Or.inr ⟨_, q303⟩) (Or.inl rfl) h6 dX0_profileOf_9 ?_
    refine J.acmp_eq (tgt := 21) dX0_profileOf_12 (by decide) (fun hc7 => ?_) (fun hc7 => ?_)
    · replace hf := (if_pos hc7).symm.trans hf
      refine J.iload_n (i := 2) dX0_profileOf_21 rfl rfl ?_
      obtain ⟨rfl, rfl⟩ := jso hf
      exact J.iret hE (Nat.le_of_ble_eq_true rfl) (Nat.le_of_ble_eq_true rfl) dX0_profileOf_22
    · replace hf := (if_neg hc7).symm.trans hf
      refine J.iinc (i := 2) (v := (xi_2 + 1)) (lv' := [some (.ref xa_0), some (.ref xa_1), some (.int (xi_2 + 1))]) dX0_profileOf_15 rfl rfl (Nat.le_of_ble_eq_true rfl) rfl ?_
      refine J.goto (tgt := 2) dX0_profileOf_18 (by decide) ?_
      exact ih2 _ _ _ _ hf
set_option maxHeartbeats 4000000 in
set_option maxRecDepth 100000 in
theorem w_X0_profileOf {D : va_G} {l : Launch} {hp hpE : jH} {rE : Int32} {this : Nat} {p1 : Nat} (hf : f_X0_profileOf this p1 hp = some (rE, hpE)) : jM D l yX0_profileOf (ws_ yX0_profileOf cX0_profileOf 3 (some .int)) rm_X0_profileOf hp [.ref this, .ref p1] (some (.int rE)) hpE := by
  refine jM.of (lv0 := [some (.ref this), some (.ref p1), none]) (by decide) (Nat.le_of_ble_eq_true rfl) rfl (fun X hDl hRm hE hX0 => ?_)
  rw [f_X0_profileOf] at hf
  refine J.iconst (v := 0) dX0_profileOf_0 (by decide) ?_
  refine J.istore_n (i := 2) (lv' := [some (.ref this), some (.ref p1), some (.int 0)]) dX0_profileOf_1 rfl (Nat.le_of_ble_eq_true rfl) rfl ?_
  exact w_X0_profileOf_L2 hDl hRm hE hX0 _ _ _ _ _ hf
def rm_X0_about : Room := { frames := 2, cells := 0, slots := 0, locals := 43 }
theorem hd_X0_about : yX0_about.cls = RX0 ∧ yX0_about.cls ≠ "java/lang/invoke/MethodHandle" ∧ yX0_about.cls ≠ "java/lang/invoke/VarHandle" ∧ (parseMethodDescriptor yX0_about.desc).map (fun d => d.parameters.length) = some 2 := by decide +kernel
set_option maxHeartbeats 4000000 in
set_option maxRecDepth 100000 in
theorem w_X0_about {D : va_G} {l : Launch} {hp hpE : jH} {rE : Int32} {this : Nat} {p1 : Int32} {p2 : Int32} (hf : f_X0_about this p1 p2 hp = some (rE, hpE)) : jM D l yX0_about (ws_ yX0_about cX0_about 4 (some .int)) rm_X0_about hp [.ref this, .int p1, .int p2] (some (.int rE)) hpE := by
  refine jM.of (lv0 := [some (.ref this), some (.int p1), some (.int p2), none]) (by decide) (Nat.le_of_ble_eq_true rfl) rfl (fun X hDl hRm hE hX0 => ?_)
  rw [f_X0_about] at hf
  refine J.aload_n (i := 0) dX0_about_0 rfl rfl ?_
  refine J.iload_n (i := 1) dX0_about_1 rfl rfl ?_
  replace hf := jbd hf
  obtain ⟨u1, h2, hf⟩ := hf
  replace hf := jbs hf
  obtain ⟨v5, hp4, h3, hf⟩ := hf
  refine J.callV (As := [.int p1]) (k2 := 0) (n2 := 0) 0 hDl hRm (w_X0_isDie h3) (lw_V q334 q336 qs1 q39 q337) hd_X0_isDie rfl ⟨_, h2⟩ rfl (Nat.le_of_ble_eq_true rfl) (Nat.le_of_ble_eq_true rfl) (Nat.le_of_ble_eq_true rfl) (Nat.le_of_ble_eq_true rfl) (Nat.le_of_ble_eq_true rfl) (Nat.le_of_ble_eq_true rfl) (Nat.le_of_ble_eq_true rfl) rfl dX0_about_2 ?_
  refine J.if_ne (tgt := 11) dX0_about_5 (by decide) (fun hc6 => ?_) (fun hc6 => ?_)
  · replace hf := (if_neg hc6).symm.trans hf
    refine J.aload_n (i := 0) dX0_about_11 rfl rfl ?_
    replace hf := jbd hf
    obtain ⟨a7, h8, hf⟩ := hf
    refine J.getA 0 2 in_X0 rfl (Nat.le_of_ble_eq_true rfl) (Or.inl q145) (Or.inl rfl) h8 dX0_about_12 ?_
    refine J.iload_n (i := 1) dX0_about_15 rfl rfl ?_
    replace hf := jbd hf
    obtain ⟨a9, h10, hf⟩ := hf
    refine J.aaldA h10 dX0_about_16 ?_
    refine J.astore_n (i := 3) (lv' := [some (.ref this), some (.int p1), some (.int p2), some (.ref a9)]) dX0_about_17 rfl (Nat.le_of_ble_eq_true rfl) rfl ?_
    refine J.iload_n (i := 2) dX0_about_18 rfl rfl ?_
    by_cases hc11 : p2 = (0 : Int32)
    · replace hf := (if_pos hc11).symm.trans hf
      refine J.tableIn (tgt := 56) dX0_about_19 (by rw [hc11]; decide) (by rw [hc11]; decide) (by rw [hc11]; rfl) (by decide) ?_
      refine J.aload_n (i := 0) dX0_about_56 rfl rfl ?_
      refine J.aload_n (i := 3) dX0_about_57 rfl rfl ?_
      replace hf := jbd hf
      obtain ⟨u12, h13, hf⟩ := hf
      replace hf := jbs hf
      obtain ⟨v16, hp15, h14, hf⟩ := hf
      refine J.callV (As := [.ref a9]) (k2 := 0) (n2 := 0) 0 hDl hRm (w_X0_profileOf h14) (lw_V q350 q352 qs2 q39 q353) hd_X0_profileOf rfl ⟨_, h13⟩ rfl (Nat.le_of_ble_eq_true rfl) (Nat.le_of_ble_eq_true rfl) (Nat.le_of_ble_eq_true rfl) (Nat.le_of_ble_eq_true rfl) (Nat.le_of_ble_eq_true rfl) (Nat.le_of_ble_eq_true rfl) (Nat.le_of_ble_eq_true rfl) rfl dX0_about_58 ?_
      obtain ⟨rfl, rfl⟩ := jso hf
      exact J.iret hE (Nat.le_of_ble_eq_true rfl) (Nat.le_of_ble_eq_true rfl) dX0_about_61
    replace hf := (if_neg hc11).symm.trans hf
    by_cases hc17 : p2 = (1 : Int32)
    · replace hf := (if_pos hc17).symm.trans hf
      refine J.tableIn (tgt := 62) dX0_about_19 (by rw [hc17]; decide) (by rw [hc17]; decide) (by rw [hc17]; rfl) (by decide) ?_
      refine J.aload_n (i := 3) dX0_about_62 rfl rfl ?_
      replace hf := jbd hf
      obtain ⟨v18, h19, hf⟩ := hf
      refine J.getI 6 2 in_X7 rfl (Nat.le_of_ble_eq_true rfl) (Or.inr ⟨_, q307⟩) (Or.inl rfl) h19 dX0_about_63 ?_
      obtain ⟨rfl, rfl⟩ := jso hf
      exact J.iret hE (Nat.le_of_ble_eq_true rfl) (Nat.le_of_ble_eq_true rfl) dX0_about_66
    replace hf := (if_neg hc17).symm.trans hf
    by_cases hc20 : p2 = (2 : Int32)
    · replace hf := (if_pos hc20).symm.trans hf
      refine J.tableIn (tgt := 67) dX0_about_19 (by rw [hc20]; decide) (by rw [hc20]; decide) (by rw [hc20]; rfl) (by decide) ?_
      refine J.aload_n (i := 3) dX0_about_67 rfl rfl ?_
      replace hf := jbd hf
      obtain ⟨v21, h22, hf⟩ := hf
      refine J.getI 6 3 in_X7 rfl (Nat.le_of_ble_eq_true rfl) (Or.inr ⟨_, q309⟩) (Or.inl rfl) h22 dX0_about_68 ?_
      obtain ⟨rfl, rfl⟩ := jso hf
      exact J.iret hE (Nat.le_of_ble_eq_true rfl) (Nat.le_of_ble_eq_true rfl) dX0_about_71
    replace hf := (if_neg hc20).symm.trans hf
    by_cases hc23 : p2 = (3 : Int32)
    · replace hf := (if_pos hc23).symm.trans hf
      refine J.tableIn (tgt := 72) dX0_about_19 (by rw [hc23]; decide) (by rw [hc23]; decide) (by rw [hc23]; rfl) (by decide) ?_
      refine J.aload_n (i := 3) dX0_about_72 rfl rfl ?_
      replace hf := jbd hf
      obtain ⟨v24, h25, hf⟩ := hf
      refine J.getI 6 5 in_X7 rfl (Nat.le_of_ble_eq_true rfl) (Or.inr ⟨_, q312⟩) (Or.inl rfl) h25 dX0_about_73 ?_
      refine J.if_eq (tgt := 91) dX0_about_76 (by decide) (fun hc26 => ?_) (fun hc26 => ?_)
      · replace hf := (if_pos hc26).symm.trans hf
        refine J.iconst (v := (-1)) dX0_about_91 (by decide) ?_
        obtain ⟨rfl, rfl⟩ := jso hf
        exact J.iret hE (Nat.le_of_ble_eq_true rfl) (Nat.le_of_ble_eq_true rfl) dX0_about_92
      · replace hf := (if_neg hc26).symm.trans hf
        refine J.aload_n (i := 0) dX0_about_79 rfl rfl ?_
        replace hf := jbd hf
        obtain ⟨v27, h28, hf⟩ := hf
        refine J.getI 0 4 in_X0 rfl (Nat.le_of_ble_eq_true rfl) (Or.inl q147) (Or.inl rfl) h28 dX0_about_80 ?_
        refine J.aload_n (i := 3) dX0_about_83 rfl rfl ?_
        replace hf := jbd hf
        obtain ⟨v29, h30, hf⟩ := hf
        refine J.getI 6 6 in_X7 rfl (Nat.le_of_ble_eq_true rfl) (Or.inr ⟨_, q314⟩) (Or.inl rfl) h30 dX0_about_84 ?_
        refine J.isub dX0_about_87 ?_
        refine J.goto (tgt := 92) dX0_about_88 (by decide) ?_
        obtain ⟨rfl, rfl⟩ := jso hf
        exact J.iret hE (Nat.le_of_ble_eq_true rfl) (Nat.le_of_ble_eq_true rfl) dX0_about_92
    replace hf := (if_neg hc23).symm.trans hf
    by_cases hc31 : p2 = (4 : Int32)
    · replace hf := (if_pos hc31).symm.trans hf
      refine J.tableIn (tgt := 93) dX0_about_19 (by rw [hc31]; decide) (by rw [hc31]; decide) (by rw [hc31]; rfl) (by decide) ?_
      refine J.aload_n (i := 3) dX0_about_93 rfl rfl ?_
      refine J.aload_n (i := 0) dX0_about_94 rfl rfl ?_
      replace hf := jbd hf
      obtain ⟨v32, h33, hf⟩ := hf
      refine J.getI 0 4 in_X0 rfl (Nat.le_of_ble_eq_true rfl) (Or.inl q147) (Or.inl rfl) h33 dX0_about_95 ?_
      replace hf := jbd hf
      obtain ⟨u34, h35, hf⟩ := hf
      replace hf := jbs hf
      obtain ⟨v38, hp37, h36, hf⟩ := hf
      refine J.callV (As := [.int v32]) (k2 := 0) (n2 := 0) 6 hDl hRm (w_X7_may h36) (lw_V q354 q355 q356 q49 q357) hd_X7_may rfl ⟨_, h35⟩ rfl (Nat.le_of_ble_eq_true rfl) (Nat.le_of_ble_eq_true rfl) (Nat.le_of_ble_eq_true rfl) (Nat.le_of_ble_eq_true rfl) (Nat.le_of_ble_eq_true rfl) (Nat.le_of_ble_eq_true rfl) (Nat.le_of_ble_eq_true rfl) rfl dX0_about_98 ?_
      refine J.if_eq (tgt := 108) dX0_about_101 (by decide) (fun hc39 => ?_) (fun hc39 => ?_)
      · replace hf := (if_pos hc39).symm.trans hf
        refine J.iconst (v := 0) dX0_about_108 (by decide) ?_
        obtain ⟨rfl, rfl⟩ := jso hf
        exact J.iret hE (Nat.le_of_ble_eq_true rfl) (Nat.le_of_ble_eq_true rfl) dX0_about_109
      · replace hf := (if_neg hc39).symm.trans hf
        refine J.iconst (v := 1) dX0_about_104 (by decide) ?_
        refine J.goto (tgt := 109) dX0_about_105 (by decide) ?_
        obtain ⟨rfl, rfl⟩ := jso hf
        exact J.iret hE (Nat.le_of_ble_eq_true rfl) (Nat.le_of_ble_eq_true rfl) dX0_about_109
    replace hf := (if_neg hc31).symm.trans hf
    by_cases hc40 : p2 = (5 : Int32)
    · replace hf := (if_pos hc40).symm.trans hf
      refine J.tableIn (tgt := 110) dX0_about_19 (by rw [hc40]; decide) (by rw [hc40]; decide) (by rw [hc40]; rfl) (by decide) ?_
      refine J.aload_n (i := 3) dX0_about_110 rfl rfl ?_
      replace hf := jbd hf
      obtain ⟨v41, h42, hf⟩ := hf
      refine J.getI 6 4 in_X7 rfl (Nat.le_of_ble_eq_true rfl) (Or.inr ⟨_, q310⟩) (Or.inl rfl) h42 dX0_about_111 ?_
      obtain ⟨rfl, rfl⟩ := jso hf
      exact J.iret hE (Nat.le_of_ble_eq_true rfl) (Nat.le_of_ble_eq_true rfl) dX0_about_114
    replace hf := (if_neg hc40).symm.trans hf
    refine J.tableOut (tgt := 115) dX0_about_19 (by have ehc11 := lv_neT hc11 (show (0 : Int32).toInt = 0 from rfl); have ehc17 := lv_neT hc17 (show (1 : Int32).toInt = 1 from rfl); have ehc20 := lv_neT hc20 (show (2 : Int32).toInt = 2 from rfl); have ehc23 := lv_neT hc23 (show (3 : Int32).toInt = 3 from rfl); have ehc31 := lv_neT hc31 (show (4 : Int32).toInt = 4 from rfl); have ehc40 := lv_neT hc40 (show (5 : Int32).toInt = 5 from rfl); omega) (by decide) ?_
    refine J.bipush (v := (-2)) dX0_about_115 (by decide) ?_
    obtain ⟨rfl, rfl⟩ := jso hf
    exact J.iret hE (Nat.le_of_ble_eq_true rfl) (Nat.le_of_ble_eq_true rfl) dX0_about_117
  · replace hf := (if_pos hc6).symm.trans hf
    refine J.bipush (v := (-2)) dX0_about_8 (by decide) ?_
    obtain ⟨rfl, rfl⟩ := jso hf
    exact J.iret hE (Nat.le_of_ble_eq_true rfl) (Nat.le_of_ble_eq_true rfl) dX0_about_10
def rm_X0_ready : Room := { frames := 2, cells := 0, slots := 0, locals := 43 }
theorem hd_X0_ready : yX0_ready.cls = RX0 ∧ yX0_ready.cls ≠ "java/lang/invoke/MethodHandle" ∧ yX0_ready.cls ≠ "java/lang/invoke/VarHandle" ∧ (parseMethodDescriptor yX0_ready.desc).map (fun d => d.parameters.length) = some 1 := by decide +kernel
set_option maxHeartbeats 4000000 in
set_option maxRecDepth 100000 in
theorem w_X0_ready_j100 {D : va_G} {l : Launch} {X : jX} {hp0 hpE : jH} {rE : Int32} (hDl : jDl X D l) (hRm : jRoom X rm_X0_ready.frames rm_X0_ready.locals rm_X0_ready.cells rm_X0_ready.slots) (hE : jEnds X (some .int) (some (.int rE)) hpE rm_X0_ready.cells rm_X0_ready.slots) (hX0 : jX0 X hp0) {K15 : Nat → Int32 → Int32 → Int32 → jH → Option (Int32 × jH)} (hK15 : ∀ (xa_0 : Nat) (xi_1 : Int32) (xi_2 : Int32) (xi_3 : Int32) (hp : jH), K15 xa_0 xi_1 xi_2 xi_3 hp = some (rE, hpE) → J X cX0_ready 5 yX0_ready 0 0 15 [some (.ref xa_0), some (.int xi_1), some (.int xi_2), some (.int xi_3), none] [] hp) {xa_0 : Nat} {xi_1 : Int32} {xi_3 : Int32} {xi_s0 : Int32} {hp : jH} (hf : f_X0_ready_j100 K15 xa_0 xi_1 xi_3 xi_s0 hp = some (rE, hpE)) : J X cX0_ready 5 yX0_ready 0 0 100 [some (.ref xa_0), some (.int xi_1), none, some (.int xi_3), none] [.int xi_s0] hp := by
  rw [f_X0_ready_j100] at hf
  refine J.istore_n (i := 2) (lv' := [some (.ref xa_0), some (.int xi_1), some (.int xi_s0), some (.int xi_3), none]) dX0_ready_100 rfl (Nat.le_of_ble_eq_true rfl) rfl ?_
  refine J.iinc (i := 3) (v := (xi_3 + 1)) (lv' := [some (.ref xa_0), some (.int xi_1), some (.int xi_s0), some (.int (xi_3 + 1)), none]) dX0_ready_101 rfl rfl (Nat.le_of_ble_eq_true rfl) rfl ?_
  refine J.goto (tgt := 15) dX0_ready_104 (by decide) ?_
  exact hK15 _ _ _ _ _ hf
set_option maxHeartbeats 4000000 in
set_option maxRecDepth 100000 in
theorem w_X0_ready_j99 {D : va_G} {l : Launch} {X : jX} {hp0 hpE : jH} {rE : Int32} (hDl : jDl X D l) (hRm : jRoom X rm_X0_ready.frames rm_X0_ready.locals rm_X0_ready.cells rm_X0_ready.slots) (hE : jEnds X (some .int) (some (.int rE)) hpE rm_X0_ready.cells rm_X0_ready.slots) (hX0 : jX0 X hp0) {K15 : Nat → Int32 → Int32 → Int32 → jH → Option (Int32 × jH)} (hK15 : ∀ (xa_0 : Nat) (xi_1 : Int32) (xi_2 : Int32) (xi_3 : Int32) (hp : jH), K15 xa_0 xi_1 xi_2 xi_3 hp = some (rE, hpE) → J X cX0_ready 5 yX0_ready 0 0 15 [some (.ref xa_0), some (.int xi_1), some (.int xi_2), some (.int xi_3), none] [] hp) {xa_0 : Nat} {xi_1 : Int32} {xi_2 : Int32} {xi_3 : Int32} {hp : jH} (hf : f_X0_ready_j99 K15 xa_0 xi_1 xi_2 xi_3 hp = some (rE, hpE)) : J X cX0_ready 5 yX0_ready 0 0 99 [some (.ref xa_0), some (.int xi_1), some (.int xi_2), some (.int xi_3), none] [] hp := by
  rw [f_X0_ready_j99] at hf
  refine J.iload_n (i := 2) dX0_ready_99 rfl rfl ?_
  refine J.mask (lv' := [some (.ref xa_0), some (.int xi_1), none, some (.int xi_3), none]) [true, true, false, true, false] rfl ?_
  exact w_X0_ready_j100 hDl hRm hE hX0 hK15 hf
set_option maxHeartbeats 4000000 in
set_option maxRecDepth 100000 in
theorem w_X0_ready_j95 {D : va_G} {l : Launch} {X : jX} {hp0 hpE : jH} {rE : Int32} (hDl : jDl X D l) (hRm : jRoom X rm_X0_ready.frames rm_X0_ready.locals rm_X0_ready.cells rm_X0_ready.slots) (hE : jEnds X (some .int) (some (.int rE)) hpE rm_X0_ready.cells rm_X0_ready.slots) (hX0 : jX0 X hp0) {K15 : Nat → Int32 → Int32 → Int32 → jH → Option (Int32 × jH)} (hK15 : ∀ (xa_0 : Nat) (xi_1 : Int32) (xi_2 : Int32) (xi_3 : Int32) (hp : jH), K15 xa_0 xi_1 xi_2 xi_3 hp = some (rE, hpE) → J X cX0_ready 5 yX0_ready 0 0 15 [some (.ref xa_0), some (.int xi_1), some (.int xi_2), some (.int xi_3), none] [] hp) {xa_0 : Nat} {xi_1 : Int32} {xi_3 : Int32} {hp : jH} (hf : f_X0_ready_j95 K15 xa_0 xi_1 xi_3 hp = some (rE, hpE)) : J X cX0_ready 5 yX0_ready 0 0 95 [some (.ref xa_0), some (.int xi_1), none, some (.int xi_3), none] [] hp := by
  rw [f_X0_ready_j95] at hf
  refine J.iload_n (i := 3) dX0_ready_95 rfl rfl ?_
  refine J.goto (tgt := 100) dX0_ready_96 (by decide) ?_
  exact w_X0_ready_j100 hDl hRm hE hX0 hK15 hf
set_option maxHeartbeats 4000000 in
set_option maxRecDepth 100000 in
theorem w_X0_ready_j62 {D : va_G} {l : Launch} {X : jX} {hp0 hpE : jH} {rE : Int32} (hDl : jDl X D l) (hRm : jRoom X rm_X0_ready.frames rm_X0_ready.locals rm_X0_ready.cells rm_X0_ready.slots) (hE : jEnds X (some .int) (some (.int rE)) hpE rm_X0_ready.cells rm_X0_ready.slots) (hX0 : jX0 X hp0) {K15 : Nat → Int32 → Int32 → Int32 → jH → Option (Int32 × jH)} (hK15 : ∀ (xa_0 : Nat) (xi_1 : Int32) (xi_2 : Int32) (xi_3 : Int32) (hp : jH), K15 xa_0 xi_1 xi_2 xi_3 hp = some (rE, hpE) → J X cX0_ready 5 yX0_ready 0 0 15 [some (.ref xa_0), some (.int xi_1), some (.int xi_2), some (.int xi_3), none] [] hp) {xa_0 : Nat} {xi_1 : Int32} {xi_2 : Int32} {xi_3 : Int32} {xi_s0 : Int32} {hp : jH} (hf : f_X0_ready_j62 K15 xa_0 xi_1 xi_2 xi_3 xi_s0 hp = some (rE, hpE)) : J X cX0_ready 5 yX0_ready 0 0 62 [some (.ref xa_0), some (.int xi_1), some (.int xi_2), some (.int xi_3), none] [.int xi_s0] hp := by
  rw [f_X0_ready_j62] at hf
  refine J.istore (i := 4) (lv' := [some (.ref xa_0), some (.int xi_1), some (.int xi_2), some (.int xi_3), some (.int xi_s0)]) dX0_ready_62 (Nat.le_of_ble_eq_true rfl) rfl ?_
  refine J.iload dX0_ready_64 rfl ?_
  refine J.if_eq (tgt := 99) dX0_ready_66 (by decide) (fun hc21 => ?_) (fun hc21 => ?_)
  · replace hf := (if_pos hc21).symm.trans hf
    refine J.mask (lv' := [some (.ref xa_0), some (.int xi_1), some (.int xi_2), some (.int xi_3), none]) [true, true, true, true, false] rfl ?_
    exact w_X0_ready_j99 hDl hRm hE hX0 hK15 hf
  · replace hf := (if_neg hc21).symm.trans hf
    refine J.iload_n (i := 2) dX0_ready_69 rfl rfl ?_
    refine J.iconst (v := (-1)) dX0_ready_70 (by decide) ?_
    refine J.icmp_eq (tgt := 95) dX0_ready_71 (by decide) (fun hc22 => ?_) (fun hc22 => ?_)
    · replace hf := (if_pos hc22).symm.trans hf
      refine J.mask (lv' := [some (.ref xa_0), some (.int xi_1), none, some (.int xi_3), none]) [true, true, false, true, false] rfl ?_
      exact w_X0_ready_j95 hDl hRm hE hX0 hK15 hf
    · replace hf := (if_neg hc22).symm.trans hf
      refine J.aload_n (i := 0) dX0_ready_74 rfl rfl ?_
      replace hf := jbd hf
      obtain ⟨a23, h24, hf⟩ := hf
      refine J.getA 0 2 in_X0 rfl (Nat.le_of_ble_eq_true rfl) (Or.inl q145) (Or.inl rfl) h24 dX0_ready_75 ?_
      refine J.iload_n (i := 3) dX0_ready_78 rfl rfl ?_
      replace hf := jbd hf
      obtain ⟨a25, h26, hf⟩ := hf
      refine J.aaldA h26 dX0_ready_79 ?_
      replace hf := jbd hf
      obtain ⟨v27, h28, hf⟩ := hf
      refine J.getI 6 3 in_X7 rfl (Nat.le_of_ble_eq_true rfl) (Or.inr ⟨_, q309⟩) (Or.inl rfl) h28 dX0_ready_80 ?_
      refine J.aload_n (i := 0) dX0_ready_83 rfl rfl ?_
      replace hf := jbd hf
      obtain ⟨a29, h30, hf⟩ := hf
      refine J.getA 0 2 in_X0 rfl (Nat.le_of_ble_eq_true rfl) (Or.inl q145) (Or.inl rfl) h30 dX0_ready_84 ?_
      refine J.iload_n (i := 2) dX0_ready_87 rfl rfl ?_
      replace hf := jbd hf
      obtain ⟨a31, h32, hf⟩ := hf
      refine J.aaldA h32 dX0_ready_88 ?_
      replace hf := jbd hf
      obtain ⟨v33, h34, hf⟩ := hf
      refine J.getI 6 3 in_X7 rfl (Nat.le_of_ble_eq_true rfl) (Or.inr ⟨_, q309⟩) (Or.inl rfl) h34 dX0_ready_89 ?_
      refine J.icmp_ge (tgt := 99) dX0_ready_92 (by decide) (fun hc35 => ?_) (fun hc35 => ?_)
      · replace hf := (if_pos hc35).symm.trans hf
        refine J.mask (lv' := [some (.ref xa_0), some (.int xi_1), some (.int xi_2), some (.int xi_3), none]) [true, true, true, true, false] rfl ?_
        exact w_X0_ready_j99 hDl hRm hE hX0 hK15 hf
      · replace hf := (if_neg hc35).symm.trans hf
        refine J.mask (lv' := [some (.ref xa_0), some (.int xi_1), none, some (.int xi_3), none]) [true, true, false, true, false] rfl ?_
        exact w_X0_ready_j95 hDl hRm hE hX0 hK15 hf
set_option maxHeartbeats 4000000 in
set_option maxRecDepth 100000 in
theorem w_X0_ready_j61 {D : va_G} {l : Launch} {X : jX} {hp0 hpE : jH} {rE : Int32} (hDl : jDl X D l) (hRm : jRoom X rm_X0_ready.frames rm_X0_ready.locals rm_X0_ready.cells rm_X0_ready.slots) (hE : jEnds X (some .int) (some (.int rE)) hpE rm_X0_ready.cells rm_X0_ready.slots) (hX0 : jX0 X hp0) {K15 : Nat → Int32 → Int32 → Int32 → jH → Option (Int32 × jH)} (hK15 : ∀ (xa_0 : Nat) (xi_1 : Int32) (xi_2 : Int32) (xi_3 : Int32) (hp : jH), K15 xa_0 xi_1 xi_2 xi_3 hp = some (rE, hpE) → J X cX0_ready 5 yX0_ready 0 0 15 [some (.ref xa_0), some (.int xi_1), some (.int xi_2), some (.int xi_3), none] [] hp) {xa_0 : Nat} {xi_1 : Int32} {xi_2 : Int32} {xi_3 : Int32} {hp : jH} (hf : f_X0_ready_j61 K15 xa_0 xi_1 xi_2 xi_3 hp = some (rE, hpE)) : J X cX0_ready 5 yX0_ready 0 0 61 [some (.ref xa_0), some (.int xi_1), some (.int xi_2), some (.int xi_3), none] [] hp := by
  rw [f_X0_ready_j61] at hf
  refine J.iconst (v := 0) dX0_ready_61 (by decide) ?_
  exact w_X0_ready_j62 hDl hRm hE hX0 hK15 hf
set_option maxHeartbeats 4000000 in
set_option maxRecDepth 100000 in
theorem w_X0_ready_L15 {D : va_G} {l : Launch} {X : jX} {hp0 hpE : jH} {rE : Int32} (hDl : jDl X D l) (hRm : jRoom X rm_X0_ready.frames rm_X0_ready.locals rm_X0_ready.cells rm_X0_ready.slots) (hE : jEnds X (some .int) (some (.int rE)) hpE rm_X0_ready.cells rm_X0_ready.slots) (hX0 : jX0 X hp0) : ∀ (N : Nat) (xa_0 : Nat) (xi_1 : Int32) (xi_2 : Int32) (xi_3 : Int32) (hp : jH), f_X0_ready_L15 N xa_0 xi_1 xi_2 xi_3 hp = some (rE, hpE) → J X cX0_ready 5 yX0_ready 0 0 15 [some (.ref xa_0), some (.int xi_1), some (.int xi_2), some (.int xi_3), none] [] hp := by
  intro N
  induction N with
  | zero =>
    intro xa_0 xi_1 xi_2 xi_3 hp hf
    rw [f_X0_ready_L15] at hf
    cases hf
  | succ N ih15 =>
    intro xa_0 xi_1 xi_2 xi_3 hp hf
    rw [f_X0_ready_L15] at hf
    refine J.iload_n (i := 3) dX0_ready_15 rfl rfl ?_
    refine J.aload_n (i := 0) dX0_ready_16 rfl rfl ?_
    replace hf := jbd hf
    obtain ⟨v7, h8, hf⟩ := hf
    refine J.getI 0 3 in_X0 rfl (Nat.le_of_ble_eq_true rfl) (Or.inl q146) (Or.inl rfl) h8 dX0_ready_17 ?_
    refine J.icmp_ge (tgt := 107) dX0_ready_20 (by decide) (fun hc9 => ?_) (fun hc9 => ?_)
    · replace hf := (if_pos hc9).symm.trans hf
      refine J.iload_n (i := 2) dX0_ready_107 rfl rfl ?_
      obtain ⟨rfl, rfl⟩ := jso hf
      exact J.iret hE (Nat.le_of_ble_eq_true rfl) (Nat.le_of_ble_eq_true rfl) dX0_ready_108
    · replace hf := (if_neg hc9).symm.trans hf
      refine J.aload_n (i := 0) dX0_ready_23 rfl rfl ?_
      replace hf := jbd hf
      obtain ⟨a10, h11, hf⟩ := hf
      refine J.getA 0 2 in_X0 rfl (Nat.le_of_ble_eq_true rfl) (Or.inl q145) (Or.inl rfl) h11 dX0_ready_24 ?_
      refine J.iload_n (i := 3) dX0_ready_27 rfl rfl ?_
      replace hf := jbd hf
      obtain ⟨a12, h13, hf⟩ := hf
      refine J.aaldA h13 dX0_ready_28 ?_
      replace hf := jbd hf
      obtain ⟨a14, h15, hf⟩ := hf
      refine J.getA 6 0 in_X7 rfl (Nat.le_of_ble_eq_true rfl) (Or.inr ⟨_, q303⟩) (Or.inl rfl) h15 dX0_ready_29 ?_
      refine J.aload_n (i := 0) dX0_ready_32 rfl rfl ?_
      replace hf := jbd hf
      obtain ⟨a16, h17, hf⟩ := hf
      refine J.getA 0 0 in_X0 rfl (Nat.le_of_ble_eq_true rfl) (Or.inl q143) (Or.inl rfl) h17 dX0_ready_33 ?_
      refine J.iload_n (i := 1) dX0_ready_36 rfl rfl ?_
      replace hf := jbd hf
      obtain ⟨a18, h19, hf⟩ := hf
      refine J.aaldA h19 dX0_ready_37 ?_
      refine J.acmp_ne (tgt := 61) dX0_ready_38 (by decide) (fun hc20 => ?_) (fun hc20 => ?_)
      · replace hf := (if_neg hc20).symm.trans hf
        exact w_X0_ready_j61 hDl hRm hE hX0 (fun z0 z1 z2 z3 z4 hz => ih15 z0 z1 z2 z3 z4 hz) hf
      · replace hf := (if_pos hc20).symm.trans hf
        refine J.aload_n (i := 0) dX0_ready_41 rfl rfl ?_
        replace hf := jbd hf
        obtain ⟨a36, h37, hf⟩ := hf
        refine J.getA 0 2 in_X0 rfl (Nat.le_of_ble_eq_true rfl) (Or.inl q145) (Or.inl rfl) h37 dX0_ready_42 ?_
        refine J.iload_n (i := 3) dX0_ready_45 rfl rfl ?_
        replace hf := jbd hf
        obtain ⟨a38, h39, hf⟩ := hf
        refine J.aaldA h39 dX0_ready_46 ?_
        refine J.aload_n (i := 0) dX0_ready_47 rfl rfl ?_
        replace hf := jbd hf
        obtain ⟨v40, h41, hf⟩ := hf
        refine J.getI 0 4 in_X0 rfl (Nat.le_of_ble_eq_true rfl) (Or.inl q147) (Or.inl rfl) h41 dX0_ready_48 ?_
        replace hf := jbd hf
        obtain ⟨u42, h43, hf⟩ := hf
        replace hf := jbs hf
        obtain ⟨v46, hp45, h44, hf⟩ := hf
        refine J.callV (As := [.int v40]) (k2 := 0) (n2 := 0) 6 hDl hRm (w_X7_may h44) (lw_V q354 q355 q356 q49 q357) hd_X7_may rfl ⟨_, h43⟩ rfl (Nat.le_of_ble_eq_true rfl) (Nat.le_of_ble_eq_true rfl) (Nat.le_of_ble_eq_true rfl) (Nat.le_of_ble_eq_true rfl) (Nat.le_of_ble_eq_true rfl) (Nat.le_of_ble_eq_true rfl) (Nat.le_of_ble_eq_true rfl) rfl dX0_ready_51 ?_
        refine J.if_eq (tgt := 61) dX0_ready_54 (by decide) (fun hc47 => ?_) (fun hc47 => ?_)
        · replace hf := (if_pos hc47).symm.trans hf
          exact w_X0_ready_j61 hDl hRm hE hX0 (fun z0 z1 z2 z3 z4 hz => ih15 z0 z1 z2 z3 z4 hz) hf
        · replace hf := (if_neg hc47).symm.trans hf
          refine J.iconst (v := 1) dX0_ready_57 (by decide) ?_
          refine J.goto (tgt := 62) dX0_ready_58 (by decide) ?_
          exact w_X0_ready_j62 hDl hRm hE hX0 (fun z0 z1 z2 z3 z4 hz => ih15 z0 z1 z2 z3 z4 hz) hf
set_option maxHeartbeats 4000000 in
set_option maxRecDepth 100000 in
theorem w_X0_ready {D : va_G} {l : Launch} {hp hpE : jH} {rE : Int32} {this : Nat} {p1 : Int32} (hf : f_X0_ready this p1 hp = some (rE, hpE)) : jM D l yX0_ready (ws_ yX0_ready cX0_ready 5 (some .int)) rm_X0_ready hp [.ref this, .int p1] (some (.int rE)) hpE := by
  refine jM.of (lv0 := [some (.ref this), some (.int p1), none, none, none]) (by decide) (Nat.le_of_ble_eq_true rfl) rfl (fun X hDl hRm hE hX0 => ?_)
  rw [f_X0_ready] at hf
  refine J.aload_n (i := 0) dX0_ready_0 rfl rfl ?_
  refine J.iload_n (i := 1) dX0_ready_1 rfl rfl ?_
  replace hf := jbd hf
  obtain ⟨u1, h2, hf⟩ := hf
  replace hf := jbs hf
  obtain ⟨v5, hp4, h3, hf⟩ := hf
  refine J.callV (As := [.int p1]) (k2 := 0) (n2 := 0) 0 hDl hRm (w_X0_isProfile h3) (lw_V q293 q295 qs0 q39 q296) hd_X0_isProfile rfl ⟨_, h2⟩ rfl (Nat.le_of_ble_eq_true rfl) (Nat.le_of_ble_eq_true rfl) (Nat.le_of_ble_eq_true rfl) (Nat.le_of_ble_eq_true rfl) (Nat.le_of_ble_eq_true rfl) (Nat.le_of_ble_eq_true rfl) (Nat.le_of_ble_eq_true rfl) rfl dX0_ready_2 ?_
  refine J.if_ne (tgt := 11) dX0_ready_5 (by decide) (fun hc6 => ?_) (fun hc6 => ?_)
  · replace hf := (if_neg hc6).symm.trans hf
    refine J.iconst (v := (-1)) dX0_ready_11 (by decide) ?_
    refine J.istore_n (i := 2) (lv' := [some (.ref this), some (.int p1), some (.int (-1)), none, none]) dX0_ready_12 rfl (Nat.le_of_ble_eq_true rfl) rfl ?_
    refine J.iconst (v := 0) dX0_ready_13 (by decide) ?_
    refine J.istore_n (i := 3) (lv' := [some (.ref this), some (.int p1), some (.int (-1)), some (.int 0), none]) dX0_ready_14 rfl (Nat.le_of_ble_eq_true rfl) rfl ?_
    exact w_X0_ready_L15 hDl hRm hE hX0 _ _ _ _ _ _ hf
  · replace hf := (if_pos hc6).symm.trans hf
    refine J.bipush (v := (-2)) dX0_ready_8 (by decide) ?_
    obtain ⟨rfl, rfl⟩ := jso hf
    exact J.iret hE (Nat.le_of_ble_eq_true rfl) (Nat.le_of_ble_eq_true rfl) dX0_ready_10
def rm_X0_pass : Room := { frames := 1, cells := 0, slots := 0, locals := 22 }
theorem hd_X0_pass : yX0_pass.cls = RX0 ∧ yX0_pass.cls ≠ "java/lang/invoke/MethodHandle" ∧ yX0_pass.cls ≠ "java/lang/invoke/VarHandle" ∧ (parseMethodDescriptor yX0_pass.desc).map (fun d => d.parameters.length) = some 1 := by decide +kernel
set_option maxHeartbeats 4000000 in
set_option maxRecDepth 100000 in
theorem w_X0_pass {D : va_G} {l : Launch} {hp hpE : jH} {rE : Int32} {this : Nat} {p1 : Int32} (hf : f_X0_pass this p1 hp = some (rE, hpE)) : jM D l yX0_pass (ws_ yX0_pass cX0_pass 2 (some .int)) rm_X0_pass hp [.ref this, .int p1] (some (.int rE)) hpE := by
  refine jM.of (lv0 := [some (.ref this), some (.int p1)]) (by decide) (Nat.le_of_ble_eq_true rfl) rfl (fun X hDl hRm hE hX0 => ?_)
  rw [f_X0_pass] at hf
  refine J.iload_n (i := 1) dX0_pass_0 rfl rfl ?_
  refine J.iconst (v := 1) dX0_pass_1 (by decide) ?_
  refine J.bipush (v := 100) dX0_pass_2 (by decide) ?_
  replace hf := jbs hf
  obtain ⟨v3, hp2, h1, hf⟩ := hf
  refine J.callS (As := [.int p1, .int 1, .int 100]) (k2 := 0) (n2 := 0) hDl hRm (w_X0_in h1) (lw_S q234 q235 q39 q236) hs_X0_in rfl (Nat.le_of_ble_eq_true rfl) (Nat.le_of_ble_eq_true rfl) (Nat.le_of_ble_eq_true rfl) (Nat.le_of_ble_eq_true rfl) (Nat.le_of_ble_eq_true rfl) (Nat.le_of_ble_eq_true rfl) (Nat.le_of_ble_eq_true rfl) rfl dX0_pass_4 ?_
  refine J.if_ne (tgt := 13) dX0_pass_7 (by decide) (fun hc4 => ?_) (fun hc4 => ?_)
  · replace hf := (if_neg hc4).symm.trans hf
    refine J.aload_n (i := 0) dX0_pass_13 rfl rfl ?_
    refine J.dup dX0_pass_14 rfl ?_
    replace hf := jbd hf
    obtain ⟨v5, h6, hf⟩ := hf
    refine J.getI 0 4 in_X0 rfl (Nat.le_of_ble_eq_true rfl) (Or.inl q147) (Or.inl rfl) h6 dX0_pass_15 ?_
    refine J.iload_n (i := 1) dX0_pass_18 rfl rfl ?_
    refine J.iadd dX0_pass_19 ?_
    replace hf := jbd hf
    obtain ⟨hp7, h8, hf⟩ := hf
    refine J.put (ty := .int) 0 4 in_X0 ap0 rfl (Nat.le_of_ble_eq_true rfl) (Or.inl q147) (Or.inl rfl) rfl (by decide +kernel) (fun _ => ⟨rfl, rfl⟩) h8 dX0_pass_20 ?_
    refine J.aload_n (i := 0) dX0_pass_23 rfl rfl ?_
    replace hf := jbd hf
    obtain ⟨v9, h10, hf⟩ := hf
    refine J.getI 0 4 in_X0 rfl (Nat.le_of_ble_eq_true rfl) (Or.inl q147) (Or.inl rfl) h10 dX0_pass_24 ?_
    obtain ⟨rfl, rfl⟩ := jso hf
    exact J.iret hE (Nat.le_of_ble_eq_true rfl) (Nat.le_of_ble_eq_true rfl) dX0_pass_27
  · replace hf := (if_pos hc4).symm.trans hf
    refine J.bipush (v := (-2)) dX0_pass_10 (by decide) ?_
    obtain ⟨rfl, rfl⟩ := jso hf
    exact J.iret hE (Nat.le_of_ble_eq_true rfl) (Nat.le_of_ble_eq_true rfl) dX0_pass_12
def rm_X0_law : Room := { frames := 1, cells := 0, slots := 0, locals := 22 }
theorem hd_X0_law : yX0_law.cls = RX0 ∧ yX0_law.cls ≠ "java/lang/invoke/MethodHandle" ∧ yX0_law.cls ≠ "java/lang/invoke/VarHandle" ∧ (parseMethodDescriptor yX0_law.desc).map (fun d => d.parameters.length) = some 2 := by decide +kernel
set_option maxHeartbeats 4000000 in
set_option maxRecDepth 100000 in
theorem w_X0_law {D : va_G} {l : Launch} {hp hpE : jH} {rE : Int32} {this : Nat} {p1 : Int32} {p2 : Int32} (hf : f_X0_law this p1 p2 hp = some (rE, hpE)) : jM D l yX0_law (ws_ yX0_law cX0_law 4 (some .int)) rm_X0_law hp [.ref this, .int p1, .int p2] (some (.int rE)) hpE := by
  refine jM.of (lv0 := [some (.ref this), some (.int p1), some (.int p2), none]) (by decide) (Nat.le_of_ble_eq_true rfl) rfl (fun X hDl hRm hE hX0 => ?_)
  rw [f_X0_law] at hf
  refine J.iload_n (i := 1) dX0_law_0 rfl rfl ?_
  refine J.iconst (v := 0) dX0_law_1 (by decide) ?_
  refine J.iconst (v := 5) dX0_law_2 (by decide) ?_
  replace hf := jbs hf
  obtain ⟨v3, hp2, h1, hf⟩ := hf
  refine J.callS (As := [.int p1, .int 0, .int 5]) (k2 := 0) (n2 := 0) hDl hRm (w_X0_in h1) (lw_S q234 q235 q39 q236) hs_X0_in rfl (Nat.le_of_ble_eq_true rfl) (Nat.le_of_ble_eq_true rfl) (Nat.le_of_ble_eq_true rfl) (Nat.le_of_ble_eq_true rfl) (Nat.le_of_ble_eq_true rfl) (Nat.le_of_ble_eq_true rfl) (Nat.le_of_ble_eq_true rfl) rfl dX0_law_3 ?_
  refine J.if_eq (tgt := 22) dX0_law_6 (by decide) (fun hc4 => ?_) (fun hc4 => ?_)
  · replace hf := (if_pos hc4).symm.trans hf
    refine J.bipush (v := (-2)) dX0_law_22 (by decide) ?_
    obtain ⟨rfl, rfl⟩ := jso hf
    exact J.iret hE (Nat.le_of_ble_eq_true rfl) (Nat.le_of_ble_eq_true rfl) dX0_law_24
  · replace hf := (if_neg hc4).symm.trans hf
    refine J.iload_n (i := 2) dX0_law_9 rfl rfl ?_
    refine J.iconst (v := 0) dX0_law_10 (by decide) ?_
    replace hf := jbd hf
    obtain ⟨u6, h5, hf⟩ := hf
    refine J.getMOST q371 ⟨_, h5⟩ dX0_law_11 ?_
    refine J.iload_n (i := 1) dX0_law_14 rfl rfl ?_
    replace hf := jbd hf
    obtain ⟨v7, h8, hf⟩ := hf
    refine J.iald h8 dX0_law_15 ?_
    replace hf := jbs hf
    obtain ⟨v11, hp10, h9, hf⟩ := hf
    refine J.callS (As := [.int p2, .int 0, .int v7]) (k2 := 0) (n2 := 0) hDl hRm (w_X0_in h9) (lw_S q234 q235 q39 q236) hs_X0_in rfl (Nat.le_of_ble_eq_true rfl) (Nat.le_of_ble_eq_true rfl) (Nat.le_of_ble_eq_true rfl) (Nat.le_of_ble_eq_true rfl) (Nat.le_of_ble_eq_true rfl) (Nat.le_of_ble_eq_true rfl) (Nat.le_of_ble_eq_true rfl) rfl dX0_law_16 ?_
    refine J.if_ne (tgt := 25) dX0_law_19 (by decide) (fun hc12 => ?_) (fun hc12 => ?_)
    · replace hf := (if_neg hc12).symm.trans hf
      refine J.aload_n (i := 0) dX0_law_25 rfl rfl ?_
      replace hf := jbd hf
      obtain ⟨a13, h14, hf⟩ := hf
      refine J.getA 0 5 in_X0 rfl (Nat.le_of_ble_eq_true rfl) (Or.inl q150) (Or.inl rfl) h14 dX0_law_26 ?_
      refine J.iload_n (i := 1) dX0_law_29 rfl rfl ?_
      replace hf := jbd hf
      obtain ⟨v15, h16, hf⟩ := hf
      refine J.iald h16 dX0_law_30 ?_
      refine J.istore_n (i := 3) (lv' := [some (.ref this), some (.int p1), some (.int p2), some (.int v15)]) dX0_law_31 rfl (Nat.le_of_ble_eq_true rfl) rfl ?_
      refine J.aload_n (i := 0) dX0_law_32 rfl rfl ?_
      replace hf := jbd hf
      obtain ⟨a17, h18, hf⟩ := hf
      refine J.getA 0 5 in_X0 rfl (Nat.le_of_ble_eq_true rfl) (Or.inl q150) (Or.inl rfl) h18 dX0_law_33 ?_
      refine J.iload_n (i := 1) dX0_law_36 rfl rfl ?_
      refine J.iload_n (i := 2) dX0_law_37 rfl rfl ?_
      replace hf := jbd hf
      obtain ⟨hp19, h20, hf⟩ := hf
      refine J.iast h20 dX0_law_38 ?_
      refine J.iload_n (i := 3) dX0_law_39 rfl rfl ?_
      obtain ⟨rfl, rfl⟩ := jso hf
      exact J.iret hE (Nat.le_of_ble_eq_true rfl) (Nat.le_of_ble_eq_true rfl) dX0_law_40
    · replace hf := (if_pos hc12).symm.trans hf
      refine J.bipush (v := (-2)) dX0_law_22 (by decide) ?_
      obtain ⟨rfl, rfl⟩ := jso hf
      exact J.iret hE (Nat.le_of_ble_eq_true rfl) (Nat.le_of_ble_eq_true rfl) dX0_law_24
def rm_X0_barOf : Room := { frames := 1, cells := 0, slots := 0, locals := 24 }
theorem hd_X0_barOf : yX0_barOf.cls = RX0 ∧ yX0_barOf.cls ≠ "java/lang/invoke/MethodHandle" ∧ yX0_barOf.cls ≠ "java/lang/invoke/VarHandle" ∧ (parseMethodDescriptor yX0_barOf.desc).map (fun d => d.parameters.length) = some 2 := by decide +kernel
set_option maxHeartbeats 4000000 in
set_option maxRecDepth 100000 in
theorem w_X0_barOf {D : va_G} {l : Launch} {hp hpE : jH} {rE : Int32} {this : Nat} {p1 : Nat} {p2 : Int32} (hf : f_X0_barOf this p1 p2 hp = some (rE, hpE)) : jM D l yX0_barOf (ws_ yX0_barOf cX0_barOf 3 (some .int)) rm_X0_barOf hp [.ref this, .ref p1, .int p2] (some (.int rE)) hpE := by
  refine jM.of (lv0 := [some (.ref this), some (.ref p1), some (.int p2)]) (by decide) (Nat.le_of_ble_eq_true rfl) rfl (fun X hDl hRm hE hX0 => ?_)
  rw [f_X0_barOf] at hf
  refine J.iconst (v := 0) dX0_barOf_0 (by decide) ?_
  refine J.iload_n (i := 2) dX0_barOf_1 rfl rfl ?_
  refine J.aload_n (i := 0) dX0_barOf_2 rfl rfl ?_
  replace hf := jbd hf
  obtain ⟨a1, h2, hf⟩ := hf
  refine J.getA 0 5 in_X0 rfl (Nat.le_of_ble_eq_true rfl) (Or.inl q150) (Or.inl rfl) h2 dX0_barOf_3 ?_
  refine J.iconst (v := 0) dX0_barOf_6 (by decide) ?_
  replace hf := jbd hf
  obtain ⟨v3, h4, hf⟩ := hf
  refine J.iald h4 dX0_barOf_7 ?_
  refine J.isub dX0_barOf_8 ?_
  refine J.mmax hRm q414 q415 q51 q416 (Nat.le_of_ble_eq_true rfl) (Nat.le_of_ble_eq_true rfl) (Nat.le_of_ble_eq_true rfl) (Nat.le_of_ble_eq_true rfl) dX0_barOf_9 ?_
  refine J.aload_n (i := 1) dX0_barOf_12 rfl rfl ?_
  replace hf := jbd hf
  obtain ⟨v5, h6, hf⟩ := hf
  refine J.getI 4 1 in_X6 rfl (Nat.le_of_ble_eq_true rfl) (Or.inr ⟨_, q271⟩) (Or.inl rfl) h6 dX0_barOf_13 ?_
  refine J.imul dX0_barOf_16 ?_
  refine J.sipush (v := 1000) dX0_barOf_17 (by decide) ?_
  refine J.aload_n (i := 0) dX0_barOf_20 rfl rfl ?_
  replace hf := jbd hf
  obtain ⟨a7, h8, hf⟩ := hf
  refine J.getA 0 5 in_X0 rfl (Nat.le_of_ble_eq_true rfl) (Or.inl q150) (Or.inl rfl) h8 dX0_barOf_21 ?_
  refine J.iconst (v := 5) dX0_barOf_24 (by decide) ?_
  replace hf := jbd hf
  obtain ⟨v9, h10, hf⟩ := hf
  refine J.iald h10 dX0_barOf_25 ?_
  refine J.iadd dX0_barOf_26 ?_
  refine J.imul dX0_barOf_27 ?_
  refine J.sipush (v := 1000) dX0_barOf_28 (by decide) ?_
  refine J.idiv dX0_barOf_31 (by decide) ?_
  obtain ⟨rfl, rfl⟩ := jso hf
  exact J.iret hE (Nat.le_of_ble_eq_true rfl) (Nat.le_of_ble_eq_true rfl) dX0_barOf_32
def rm_X0_usable : Room := { frames := 2, cells := 0, slots := 0, locals := 47 }
theorem hd_X0_usable : yX0_usable.cls = RX0 ∧ yX0_usable.cls ≠ "java/lang/invoke/MethodHandle" ∧ yX0_usable.cls ≠ "java/lang/invoke/VarHandle" ∧ (parseMethodDescriptor yX0_usable.desc).map (fun d => d.parameters.length) = some 3 := by decide +kernel
set_option maxHeartbeats 4000000 in
set_option maxRecDepth 100000 in
theorem w_X0_usable {D : va_G} {l : Launch} {hp hpE : jH} {rE : Int32} {this : Nat} {p1 : Int32} {p2 : Int32} {p3 : Int32} (hf : f_X0_usable this p1 p2 p3 hp = some (rE, hpE)) : jM D l yX0_usable (ws_ yX0_usable cX0_usable 4 (some .int)) rm_X0_usable hp [.ref this, .int p1, .int p2, .int p3] (some (.int rE)) hpE := by
  refine jM.of (lv0 := [some (.ref this), some (.int p1), some (.int p2), some (.int p3)]) (by decide) (Nat.le_of_ble_eq_true rfl) rfl (fun X hDl hRm hE hX0 => ?_)
  rw [f_X0_usable] at hf
  refine J.aload_n (i := 0) dX0_usable_0 rfl rfl ?_
  replace hf := jbd hf
  obtain ⟨a1, h2, hf⟩ := hf
  refine J.getA 0 8 in_X0 rfl (Nat.le_of_ble_eq_true rfl) (Or.inl q153) (Or.inl rfl) h2 dX0_usable_1 ?_
  refine J.iload_n (i := 2) dX0_usable_4 rfl rfl ?_
  by_cases hz3 : ¬ (p2 = (0 : Int32) ∨ p2 = (1 : Int32))
  · replace hf := (if_pos hz3).symm.trans hf
    cases hf
  replace hf := (if_neg hz3).symm.trans hf
  replace hf := jbd hf
  obtain ⟨hp4, h5, hf⟩ := hf
  refine J.put (ty := .boolean) 2 2 in_X3 ap2 rfl (Nat.le_of_ble_eq_true rfl) (Or.inr ⟨_, q113⟩) (Or.inl rfl) rfl (by decide +kernel) (jz01 (Decidable.not_not.mp hz3)) h5 dX0_usable_5 ?_
  refine J.aload_n (i := 0) dX0_usable_8 rfl rfl ?_
  replace hf := jbd hf
  obtain ⟨a6, h7, hf⟩ := hf
  refine J.getA 0 8 in_X0 rfl (Nat.le_of_ble_eq_true rfl) (Or.inl q153) (Or.inl rfl) h7 dX0_usable_9 ?_
  refine J.aload_n (i := 0) dX0_usable_12 rfl rfl ?_
  replace hf := jbd hf
  obtain ⟨a8, h9, hf⟩ := hf
  refine J.getA 0 7 in_X0 rfl (Nat.le_of_ble_eq_true rfl) (Or.inl q152) (Or.inl rfl) h9 dX0_usable_13 ?_
  refine J.aload_n (i := 0) dX0_usable_16 rfl rfl ?_
  replace hf := jbd hf
  obtain ⟨a10, h11, hf⟩ := hf
  refine J.getA 0 6 in_X0 rfl (Nat.le_of_ble_eq_true rfl) (Or.inl q151) (Or.inl rfl) h11 dX0_usable_17 ?_
  refine J.iload_n (i := 1) dX0_usable_20 rfl rfl ?_
  refine J.iload_n (i := 3) dX0_usable_21 rfl rfl ?_
  replace hf := jbd hf
  obtain ⟨u12, h13, hf⟩ := hf
  replace hf := jbs hf
  obtain ⟨v16, hp15, h14, hf⟩ := hf
  refine J.callU (As := [.int p1, .int p3]) (k2 := 0) (n2 := 0) (x := ⟨"BilletBars$End", "cut", "(IZ)I"⟩) (owner := "BilletBars$Scrap") (nA := 2) 1 hDl hRm (w_X1_cutE h14) (lw_U q421 q422 q424 q425 q40 q426) (Or.inl rfl) (by decide +kernel) rfl ⟨_, h13⟩ rfl (Nat.le_of_ble_eq_true rfl) (Nat.le_of_ble_eq_true rfl) (Nat.le_of_ble_eq_true rfl) (Nat.le_of_ble_eq_true rfl) (Nat.le_of_ble_eq_true rfl) (Nat.le_of_ble_eq_true rfl) (Nat.le_of_ble_eq_true rfl) rfl dX0_usable_22 ?_
  refine J.iload_n (i := 3) dX0_usable_25 rfl rfl ?_
  replace hf := jbd hf
  obtain ⟨u17, h18, hf⟩ := hf
  replace hf := jbs hf
  obtain ⟨v21, hp20, h19, hf⟩ := hf
  refine J.callU (As := [.int v16, .int p3]) (k2 := 0) (n2 := 0) (x := ⟨"BilletBars$End", "cut", "(IZ)I"⟩) (owner := "BilletBars$Scrap") (nA := 2) 1 hDl hRm (w_X1_cutE h19) (lw_U q421 q422 q424 q425 q40 q426) (Or.inl rfl) (by decide +kernel) rfl ⟨_, h18⟩ rfl (Nat.le_of_ble_eq_true rfl) (Nat.le_of_ble_eq_true rfl) (Nat.le_of_ble_eq_true rfl) (Nat.le_of_ble_eq_true rfl) (Nat.le_of_ble_eq_true rfl) (Nat.le_of_ble_eq_true rfl) (Nat.le_of_ble_eq_true rfl) rfl dX0_usable_26 ?_
  refine J.iload_n (i := 3) dX0_usable_29 rfl rfl ?_
  replace hf := jbd hf
  obtain ⟨u22, h23, hf⟩ := hf
  replace hf := jbs hf
  obtain ⟨v26, hp25, h24, hf⟩ := hf
  refine J.callU (As := [.int v21, .int p3]) (k2 := 0) (n2 := 0) (x := ⟨"BilletBars$Weld", "cut", "(IZ)I"⟩) (owner := "BilletBars$Scrap") (nA := 2) 2 hDl hRm (w_X1_cutW h24) (lw_U q439 q440 q441 q425 q40 q426) (Or.inl rfl) (by decide +kernel) rfl ⟨_, h23⟩ rfl (Nat.le_of_ble_eq_true rfl) (Nat.le_of_ble_eq_true rfl) (Nat.le_of_ble_eq_true rfl) (Nat.le_of_ble_eq_true rfl) (Nat.le_of_ble_eq_true rfl) (Nat.le_of_ble_eq_true rfl) (Nat.le_of_ble_eq_true rfl) rfl dX0_usable_30 ?_
  obtain ⟨rfl, rfl⟩ := jso hf
  exact J.iret hE (Nat.le_of_ble_eq_true rfl) (Nat.le_of_ble_eq_true rfl) dX0_usable_33
def rm_X0_most : Room := { frames := 3, cells := 0, slots := 0, locals := 64 }
theorem hd_X0_most : yX0_most.cls = RX0 ∧ yX0_most.cls ≠ "java/lang/invoke/MethodHandle" ∧ yX0_most.cls ≠ "java/lang/invoke/VarHandle" ∧ (parseMethodDescriptor yX0_most.desc).map (fun d => d.parameters.length) = some 3 := by decide +kernel
set_option maxHeartbeats 4000000 in
set_option maxRecDepth 100000 in
theorem w_X0_most {D : va_G} {l : Launch} {hp hpE : jH} {rE : Int32} {this : Nat} {p1 : Nat} {p2 : Int32} {p3 : Int32} (hf : f_X0_most this p1 p2 p3 hp = some (rE, hpE)) : jM D l yX0_most (ws_ yX0_most cX0_most 5 (some .int)) rm_X0_most hp [.ref this, .ref p1, .int p2, .int p3] (some (.int rE)) hpE := by
  refine jM.of (lv0 := [some (.ref this), some (.ref p1), some (.int p2), some (.int p3), none]) (by decide) (Nat.le_of_ble_eq_true rfl) rfl (fun X hDl hRm hE hX0 => ?_)
  rw [f_X0_most] at hf
  refine J.iload_n (i := 2) dX0_most_0 rfl rfl ?_
  refine J.aload_n (i := 1) dX0_most_1 rfl rfl ?_
  replace hf := jbd hf
  obtain ⟨a1, h2, hf⟩ := hf
  refine J.getA 4 4 in_X6 rfl (Nat.le_of_ble_eq_true rfl) (Or.inr ⟨_, q277⟩) (Or.inl rfl) h2 dX0_most_2 ?_
  replace hf := jbd hf
  obtain ⟨u3, h4, hf⟩ := hf
  replace hf := jbs hf
  obtain ⟨v7, hp6, h5, hf⟩ := hf
  refine J.callV (As := []) (k2 := 0) (n2 := 0) 5 hDl hRm (w_J2_size h5) (lw_V q449 q450 q451 q48 q452) hd_J2_size rfl ⟨_, h4⟩ rfl (Nat.le_of_ble_eq_true rfl) (Nat.le_of_ble_eq_true rfl) (Nat.le_of_ble_eq_true rfl) (Nat.le_of_ble_eq_true rfl) (Nat.le_of_ble_eq_true rfl) (Nat.le_of_ble_eq_true rfl) (Nat.le_of_ble_eq_true rfl) rfl dX0_most_5 ?_
  refine J.icmp_lt (tgt := 13) dX0_most_8 (by decide) (fun hc8 => ?_) (fun hc8 => ?_)
  · replace hf := (if_pos hc8).symm.trans hf
    refine J.aload_n (i := 1) dX0_most_13 rfl rfl ?_
    replace hf := jbd hf
    obtain ⟨a9, h10, hf⟩ := hf
    refine J.getA 4 4 in_X6 rfl (Nat.le_of_ble_eq_true rfl) (Or.inr ⟨_, q277⟩) (Or.inl rfl) h10 dX0_most_14 ?_
    refine J.iload_n (i := 2) dX0_most_17 rfl rfl ?_
    replace hf := jbd hf
    obtain ⟨u11, h12, hf⟩ := hf
    replace hf := jbs hf
    obtain ⟨a15, hp14, h13, hf⟩ := hf
    refine J.callV (As := [.int p2]) (k2 := 0) (n2 := 0) 5 hDl hRm (w_J2_get h13) (lw_V q453 q454 q455 q48 q456) hd_J2_get rfl ⟨_, h12⟩ rfl (Nat.le_of_ble_eq_true rfl) (Nat.le_of_ble_eq_true rfl) (Nat.le_of_ble_eq_true rfl) (Nat.le_of_ble_eq_true rfl) (Nat.le_of_ble_eq_true rfl) (Nat.le_of_ble_eq_true rfl) (Nat.le_of_ble_eq_true rfl) rfl dX0_most_18 ?_
    replace hf := jbd hf
    obtain ⟨u17, h16, hf⟩ := hf
    refine J.castO 8 rfl q467 ⟨_, h16⟩ dX0_most_21 ?_
    refine J.astore (i := 4) (lv' := [some (.ref this), some (.ref p1), some (.int p2), some (.int p3), some (.ref a15)]) dX0_most_24 (Nat.le_of_ble_eq_true rfl) rfl ?_
    refine J.aload dX0_most_26 rfl ?_
    replace hf := jbd hf
    obtain ⟨v18, h19, hf⟩ := hf
    refine J.getI 8 1 in_X9 rfl (Nat.le_of_ble_eq_true rfl) (Or.inr ⟨_, q493⟩) (Or.inl rfl) h19 dX0_most_28 ?_
    refine J.bipush (v := 60) dX0_most_31 (by decide) ?_
    refine J.mmin hRm q472 q437 q51 q438 (Nat.le_of_ble_eq_true rfl) (Nat.le_of_ble_eq_true rfl) (Nat.le_of_ble_eq_true rfl) (Nat.le_of_ble_eq_true rfl) dX0_most_33 ?_
    refine J.iload_n (i := 3) dX0_most_36 rfl rfl ?_
    refine J.aload dX0_most_37 rfl ?_
    replace hf := jbd hf
    obtain ⟨v20, h21, hf⟩ := hf
    refine J.getI 8 0 in_X9 rfl (Nat.le_of_ble_eq_true rfl) (Or.inr ⟨_, q491⟩) (Or.inl rfl) h21 dX0_most_39 ?_
    refine J.aload_n (i := 0) dX0_most_42 rfl rfl ?_
    replace hf := jbd hf
    obtain ⟨a22, h23, hf⟩ := hf
    refine J.getA 0 5 in_X0 rfl (Nat.le_of_ble_eq_true rfl) (Or.inl q150) (Or.inl rfl) h23 dX0_most_43 ?_
    refine J.iconst (v := 4) dX0_most_46 (by decide) ?_
    replace hf := jbd hf
    obtain ⟨v24, h25, hf⟩ := hf
    refine J.iald h25 dX0_most_47 ?_
    refine J.iadd dX0_most_48 ?_
    by_cases hz26 : (v20 + v24) = (0 : Int32)
    · replace hf := (if_pos hz26).symm.trans hf
      cases hf
    replace hf := (if_neg hz26).symm.trans hf
    refine J.idiv dX0_most_49 hz26 ?_
    refine J.mmin hRm q472 q437 q51 q438 (Nat.le_of_ble_eq_true rfl) (Nat.le_of_ble_eq_true rfl) (Nat.le_of_ble_eq_true rfl) (Nat.le_of_ble_eq_true rfl) dX0_most_50 ?_
    obtain ⟨rfl, rfl⟩ := jso hf
    exact J.iret hE (Nat.le_of_ble_eq_true rfl) (Nat.le_of_ble_eq_true rfl) dX0_most_53
  · replace hf := (if_neg hc8).symm.trans hf
    refine J.iconst (v := 0) dX0_most_11 (by decide) ?_
    obtain ⟨rfl, rfl⟩ := jso hf
    exact J.iret hE (Nat.le_of_ble_eq_true rfl) (Nat.le_of_ble_eq_true rfl) dX0_most_12
def rm_X0_lengthOf : Room := { frames := 3, cells := 0, slots := 0, locals := 64 }
theorem hs_X0_lengthOf : yX0_lengthOf.cls ≠ "java/lang/invoke/MethodHandle" ∧ yX0_lengthOf.cls ≠ "java/lang/invoke/VarHandle" ∧ (parseMethodDescriptor yX0_lengthOf.desc).map (fun d => d.parameters.length) = some 2 := by decide +kernel
set_option maxHeartbeats 4000000 in
set_option maxRecDepth 100000 in
theorem w_X0_lengthOf {D : va_G} {l : Launch} {hp hpE : jH} {rE : Int32} {p1 : Nat} {p2 : Int32} (hf : f_X0_lengthOf p1 p2 hp = some (rE, hpE)) : jM D l yX0_lengthOf (ws_ yX0_lengthOf cX0_lengthOf 2 (some .int)) rm_X0_lengthOf hp [.ref p1, .int p2] (some (.int rE)) hpE := by
  refine jM.of (lv0 := [some (.ref p1), some (.int p2)]) (by decide) (Nat.le_of_ble_eq_true rfl) rfl (fun X hDl hRm hE hX0 => ?_)
  rw [f_X0_lengthOf] at hf
  refine J.iload_n (i := 1) dX0_lengthOf_0 rfl rfl ?_
  refine J.aload_n (i := 0) dX0_lengthOf_1 rfl rfl ?_
  replace hf := jbd hf
  obtain ⟨a1, h2, hf⟩ := hf
  refine J.getA 4 4 in_X6 rfl (Nat.le_of_ble_eq_true rfl) (Or.inr ⟨_, q277⟩) (Or.inl rfl) h2 dX0_lengthOf_2 ?_
  replace hf := jbd hf
  obtain ⟨u3, h4, hf⟩ := hf
  replace hf := jbs hf
  obtain ⟨v7, hp6, h5, hf⟩ := hf
  refine J.callV (As := []) (k2 := 0) (n2 := 0) 5 hDl hRm (w_J2_size h5) (lw_V q449 q450 q451 q48 q452) hd_J2_size rfl ⟨_, h4⟩ rfl (Nat.le_of_ble_eq_true rfl) (Nat.le_of_ble_eq_true rfl) (Nat.le_of_ble_eq_true rfl) (Nat.le_of_ble_eq_true rfl) (Nat.le_of_ble_eq_true rfl) (Nat.le_of_ble_eq_true rfl) (Nat.le_of_ble_eq_true rfl) rfl dX0_lengthOf_5 ?_
  refine J.icmp_ge (tgt := 28) dX0_lengthOf_8 (by decide) (fun hc8 => ?_) (fun hc8 => ?_)
  · replace hf := (if_pos hc8).symm.trans hf
    refine J.iconst (v := 0) dX0_lengthOf_28 (by decide) ?_
    obtain ⟨rfl, rfl⟩ := jso hf
    exact J.iret hE (Nat.le_of_ble_eq_true rfl) (Nat.le_of_ble_eq_true rfl) dX0_lengthOf_29
  · replace hf := (if_neg hc8).symm.trans hf
    refine J.aload_n (i := 0) dX0_lengthOf_11 rfl rfl ?_
    replace hf := jbd hf
    obtain ⟨a9, h10, hf⟩ := hf
    refine J.getA 4 4 in_X6 rfl (Nat.le_of_ble_eq_true rfl) (Or.inr ⟨_, q277⟩) (Or.inl rfl) h10 dX0_lengthOf_12 ?_
    refine J.iload_n (i := 1) dX0_lengthOf_15 rfl rfl ?_
    replace hf := jbd hf
    obtain ⟨u11, h12, hf⟩ := hf
    replace hf := jbs hf
    obtain ⟨a15, hp14, h13, hf⟩ := hf
    refine J.callV (As := [.int p2]) (k2 := 0) (n2 := 0) 5 hDl hRm (w_J2_get h13) (lw_V q453 q454 q455 q48 q456) hd_J2_get rfl ⟨_, h12⟩ rfl (Nat.le_of_ble_eq_true rfl) (Nat.le_of_ble_eq_true rfl) (Nat.le_of_ble_eq_true rfl) (Nat.le_of_ble_eq_true rfl) (Nat.le_of_ble_eq_true rfl) (Nat.le_of_ble_eq_true rfl) (Nat.le_of_ble_eq_true rfl) rfl dX0_lengthOf_16 ?_
    replace hf := jbd hf
    obtain ⟨u17, h16, hf⟩ := hf
    refine J.castO 8 rfl q467 ⟨_, h16⟩ dX0_lengthOf_19 ?_
    replace hf := jbd hf
    obtain ⟨v18, h19, hf⟩ := hf
    refine J.getI 8 0 in_X9 rfl (Nat.le_of_ble_eq_true rfl) (Or.inr ⟨_, q491⟩) (Or.inl rfl) h19 dX0_lengthOf_22 ?_
    refine J.goto (tgt := 29) dX0_lengthOf_25 (by decide) ?_
    obtain ⟨rfl, rfl⟩ := jso hf
    exact J.iret hE (Nat.le_of_ble_eq_true rfl) (Nat.le_of_ble_eq_true rfl) dX0_lengthOf_29
def rm_X0_cuts : Room := { frames := 4, cells := 0, slots := 0, locals := 88 }
theorem hd_X0_cuts : yX0_cuts.cls = RX0 ∧ yX0_cuts.cls ≠ "java/lang/invoke/MethodHandle" ∧ yX0_cuts.cls ≠ "java/lang/invoke/VarHandle" ∧ (parseMethodDescriptor yX0_cuts.desc).map (fun d => d.parameters.length) = some 2 := by decide +kernel
set_option maxHeartbeats 4000000 in
set_option maxRecDepth 100000 in
theorem w_X0_cuts_j198 {D : va_G} {l : Launch} {X : jX} {hp0 hpE : jH} (hDl : jDl X D l) (hRm : jRoom X rm_X0_cuts.frames rm_X0_cuts.locals rm_X0_cuts.cells rm_X0_cuts.slots) (hE : jEnds X none none hpE rm_X0_cuts.cells rm_X0_cuts.slots) (hX0 : jX0 X hp0) {K54 : Nat → Nat → Int32 → Int32 → Int32 → Int32 → Int32 → jH → Option jH} (hK54 : ∀ (xa_0 : Nat) (xa_1 : Nat) (xi_3 : Int32) (xi_4 : Int32) (xi_5 : Int32) (xi_6 : Int32) (xi_7 : Int32) (hp : jH), K54 xa_0 xa_1 xi_3 xi_4 xi_5 xi_6 xi_7 hp = some hpE → J X cX0_cuts 12 yX0_cuts 0 0 54 [some (.ref xa_0), some (.ref xa_1), none, some (.int xi_3), some (.int xi_4), some (.int xi_5), some (.int xi_6), some (.int xi_7), none, none, none, none] [] hp) {K78 : Nat → Nat → Int32 → Int32 → Int32 → Int32 → Int32 → Int32 → Int32 → jH → Option jH} (hK78 : ∀ (xa_0 : Nat) (xa_1 : Nat) (xi_3 : Int32) (xi_4 : Int32) (xi_5 : Int32) (xi_6 : Int32) (xi_7 : Int32) (xi_8 : Int32) (xi_9 : Int32) (hp : jH), K78 xa_0 xa_1 xi_3 xi_4 xi_5 xi_6 xi_7 xi_8 xi_9 hp = some hpE → J X cX0_cuts 12 yX0_cuts 0 0 78 [some (.ref xa_0), some (.ref xa_1), none, some (.int xi_3), some (.int xi_4), some (.int xi_5), some (.int xi_6), some (.int xi_7), some (.int xi_8), some (.int xi_9), none, none] [] hp) {xa_0 : Nat} {xa_1 : Nat} {xi_3 : Int32} {xi_4 : Int32} {xi_5 : Int32} {xi_6 : Int32} {xi_7 : Int32} {xi_8 : Int32} {xi_9 : Int32} {hp : jH} (hf : f_X0_cuts_j198 K54 K78 xa_0 xa_1 xi_3 xi_4 xi_5 xi_6 xi_7 xi_8 xi_9 hp = some hpE) : J X cX0_cuts 12 yX0_cuts 0 0 198 [some (.ref xa_0), some (.ref xa_1), none, some (.int xi_3), some (.int xi_4), some (.int xi_5), some (.int xi_6), some (.int xi_7), some (.int xi_8), some (.int xi_9), none, none] [] hp := by
  rw [f_X0_cuts_j198] at hf
  refine J.iinc (i := 9) (v := (xi_9 + (-1))) (lv' := [some (.ref xa_0), some (.ref xa_1), none, some (.int xi_3), some (.int xi_4), some (.int xi_5), some (.int xi_6), some (.int xi_7), some (.int xi_8), some (.int (xi_9 + (-1))), none, none]) dX0_cuts_198 rfl rfl (Nat.le_of_ble_eq_true rfl) rfl ?_
  refine J.goto (tgt := 78) dX0_cuts_201 (by decide) ?_
  exact hK78 _ _ _ _ _ _ _ _ _ _ hf
set_option maxHeartbeats 4000000 in
set_option maxRecDepth 100000 in
theorem w_X0_cuts_j158 {D : va_G} {l : Launch} {X : jX} {hp0 hpE : jH} (hDl : jDl X D l) (hRm : jRoom X rm_X0_cuts.frames rm_X0_cuts.locals rm_X0_cuts.cells rm_X0_cuts.slots) (hE : jEnds X none none hpE rm_X0_cuts.cells rm_X0_cuts.slots) (hX0 : jX0 X hp0) {K54 : Nat → Nat → Int32 → Int32 → Int32 → Int32 → Int32 → jH → Option jH} (hK54 : ∀ (xa_0 : Nat) (xa_1 : Nat) (xi_3 : Int32) (xi_4 : Int32) (xi_5 : Int32) (xi_6 : Int32) (xi_7 : Int32) (hp : jH), K54 xa_0 xa_1 xi_3 xi_4 xi_5 xi_6 xi_7 hp = some hpE → J X cX0_cuts 12 yX0_cuts 0 0 54 [some (.ref xa_0), some (.ref xa_1), none, some (.int xi_3), some (.int xi_4), some (.int xi_5), some (.int xi_6), some (.int xi_7), none, none, none, none] [] hp) {K78 : Nat → Nat → Int32 → Int32 → Int32 → Int32 → Int32 → Int32 → Int32 → jH → Option jH} (hK78 : ∀ (xa_0 : Nat) (xa_1 : Nat) (xi_3 : Int32) (xi_4 : Int32) (xi_5 : Int32) (xi_6 : Int32) (xi_7 : Int32) (xi_8 : Int32) (xi_9 : Int32) (hp : jH), K78 xa_0 xa_1 xi_3 xi_4 xi_5 xi_6 xi_7 xi_8 xi_9 hp = some hpE → J X cX0_cuts 12 yX0_cuts 0 0 78 [some (.ref xa_0), some (.ref xa_1), none, some (.int xi_3), some (.int xi_4), some (.int xi_5), some (.int xi_6), some (.int xi_7), some (.int xi_8), some (.int xi_9), none, none] [] hp) {xa_0 : Nat} {xa_1 : Nat} {xi_3 : Int32} {xi_5 : Int32} {xi_6 : Int32} {xi_7 : Int32} {xi_8 : Int32} {xi_9 : Int32} {xi_10 : Int32} {xi_11 : Int32} {hp : jH} (hf : f_X0_cuts_j158 K54 K78 xa_0 xa_1 xi_3 xi_5 xi_6 xi_7 xi_8 xi_9 xi_10 xi_11 hp = some hpE) : J X cX0_cuts 12 yX0_cuts 0 0 158 [some (.ref xa_0), some (.ref xa_1), none, some (.int xi_3), none, some (.int xi_5), some (.int xi_6), some (.int xi_7), some (.int xi_8), some (.int xi_9), some (.int xi_10), some (.int xi_11)] [] hp := by
  rw [f_X0_cuts_j158] at hf
  refine J.aload_n (i := 0) dX0_cuts_158 rfl rfl ?_
  refine J.iload dX0_cuts_159 rfl ?_
  replace hf := jbd hf
  obtain ⟨hp50, h51, hf⟩ := hf
  refine J.put (ty := .int) 0 14 in_X0 ap0 rfl (Nat.le_of_ble_eq_true rfl) (Or.inl q159) (Or.inl rfl) rfl (by decide +kernel) (fun _ => ⟨rfl, rfl⟩) h51 dX0_cuts_161 ?_
  refine J.iload dX0_cuts_164 rfl ?_
  refine J.iload dX0_cuts_166 rfl ?_
  refine J.iadd dX0_cuts_168 ?_
  refine J.iload dX0_cuts_169 rfl ?_
  refine J.iadd dX0_cuts_171 ?_
  refine J.istore (i := 4) (lv' := [some (.ref xa_0), some (.ref xa_1), none, some (.int xi_3), some (.int ((xi_7 + xi_9) + xi_10)), some (.int xi_5), some (.int xi_6), some (.int xi_7), some (.int xi_8), some (.int xi_9), some (.int xi_10), some (.int xi_11)]) dX0_cuts_172 (Nat.le_of_ble_eq_true rfl) rfl ?_
  refine J.aload_n (i := 0) dX0_cuts_174 rfl rfl ?_
  replace hf := jbd hf
  obtain ⟨a52, h53, hf⟩ := hf
  refine J.getA 0 13 in_X0 rfl (Nat.le_of_ble_eq_true rfl) (Or.inl q158) (Or.inl rfl) h53 dX0_cuts_175 ?_
  refine J.iconst (v := 0) dX0_cuts_178 (by decide) ?_
  refine J.iload dX0_cuts_179 rfl ?_
  replace hf := jbd hf
  obtain ⟨hp54, h55, hf⟩ := hf
  refine J.iast h55 dX0_cuts_181 ?_
  refine J.aload_n (i := 0) dX0_cuts_182 rfl rfl ?_
  replace hf := jbd hf
  obtain ⟨a56, h57, hf⟩ := hf
  refine J.getA 0 13 in_X0 rfl (Nat.le_of_ble_eq_true rfl) (Or.inl q158) (Or.inl rfl) h57 dX0_cuts_183 ?_
  refine J.iconst (v := 1) dX0_cuts_186 (by decide) ?_
  refine J.iload dX0_cuts_187 rfl ?_
  replace hf := jbd hf
  obtain ⟨hp58, h59, hf⟩ := hf
  refine J.iast h59 dX0_cuts_189 ?_
  refine J.aload_n (i := 0) dX0_cuts_190 rfl rfl ?_
  replace hf := jbd hf
  obtain ⟨a60, h61, hf⟩ := hf
  refine J.getA 0 13 in_X0 rfl (Nat.le_of_ble_eq_true rfl) (Or.inl q158) (Or.inl rfl) h61 dX0_cuts_191 ?_
  refine J.iconst (v := 2) dX0_cuts_194 (by decide) ?_
  refine J.iload dX0_cuts_195 rfl ?_
  replace hf := jbd hf
  obtain ⟨hp62, h63, hf⟩ := hf
  refine J.iast h63 dX0_cuts_197 ?_
  refine J.mask (lv' := [some (.ref xa_0), some (.ref xa_1), none, some (.int xi_3), some (.int ((xi_7 + xi_9) + xi_10)), some (.int xi_5), some (.int xi_6), some (.int xi_7), some (.int xi_8), some (.int xi_9), none, none]) [true, true, false, true, true, true, true, true, true, true, false, false] rfl ?_
  exact w_X0_cuts_j198 hDl hRm hE hX0 hK54 hK78 hf
set_option maxHeartbeats 4000000 in
set_option maxRecDepth 100000 in
theorem w_X0_cuts_L78 {D : va_G} {l : Launch} {X : jX} {hp0 hpE : jH} (hDl : jDl X D l) (hRm : jRoom X rm_X0_cuts.frames rm_X0_cuts.locals rm_X0_cuts.cells rm_X0_cuts.slots) (hE : jEnds X none none hpE rm_X0_cuts.cells rm_X0_cuts.slots) (hX0 : jX0 X hp0) {K54 : Nat → Nat → Int32 → Int32 → Int32 → Int32 → Int32 → jH → Option jH} (hK54 : ∀ (xa_0 : Nat) (xa_1 : Nat) (xi_3 : Int32) (xi_4 : Int32) (xi_5 : Int32) (xi_6 : Int32) (xi_7 : Int32) (hp : jH), K54 xa_0 xa_1 xi_3 xi_4 xi_5 xi_6 xi_7 hp = some hpE → J X cX0_cuts 12 yX0_cuts 0 0 54 [some (.ref xa_0), some (.ref xa_1), none, some (.int xi_3), some (.int xi_4), some (.int xi_5), some (.int xi_6), some (.int xi_7), none, none, none, none] [] hp) : ∀ (N : Nat) (xa_0 : Nat) (xa_1 : Nat) (xi_3 : Int32) (xi_4 : Int32) (xi_5 : Int32) (xi_6 : Int32) (xi_7 : Int32) (xi_8 : Int32) (xi_9 : Int32) (hp : jH), f_X0_cuts_L78 K54 N xa_0 xa_1 xi_3 xi_4 xi_5 xi_6 xi_7 xi_8 xi_9 hp = some hpE → J X cX0_cuts 12 yX0_cuts 0 0 78 [some (.ref xa_0), some (.ref xa_1), none, some (.int xi_3), some (.int xi_4), some (.int xi_5), some (.int xi_6), some (.int xi_7), some (.int xi_8), some (.int xi_9), none, none] [] hp := by
  intro N
  induction N with
  | zero =>
    intro xa_0 xa_1 xi_3 xi_4 xi_5 xi_6 xi_7 xi_8 xi_9 hp hf
    rw [f_X0_cuts_L78] at hf
    cases hf
  | succ N ih78 =>
    intro xa_0 xa_1 xi_3 xi_4 xi_5 xi_6 xi_7 xi_8 xi_9 hp hf
    rw [f_X0_cuts_L78] at hf
    refine J.iload dX0_cuts_78 rfl ?_
    refine J.if_lt (tgt := 204) dX0_cuts_80 (by decide) (fun hc32 => ?_) (fun hc32 => ?_)
    · replace hf := (if_pos hc32).symm.trans hf
      refine J.iinc (i := 7) (v := (xi_7 + (-1))) (lv' := [some (.ref xa_0), some (.ref xa_1), none, some (.int xi_3), some (.int xi_4), some (.int xi_5), some (.int xi_6), some (.int (xi_7 + (-1))), some (.int xi_8), some (.int xi_9), none, none]) dX0_cuts_204 rfl rfl (Nat.le_of_ble_eq_true rfl) rfl ?_
      refine J.goto (tgt := 54) dX0_cuts_207 (by decide) ?_
      refine J.mask (lv' := [some (.ref xa_0), some (.ref xa_1), none, some (.int xi_3), some (.int xi_4), some (.int xi_5), some (.int xi_6), some (.int (xi_7 + (-1))), none, none, none, none]) [true, true, false, true, true, true, true, true, false, false, false, false] rfl ?_
      exact hK54 _ _ _ _ _ _ _ _ hf
    · replace hf := (if_neg hc32).symm.trans hf
      refine J.aload_n (i := 0) dX0_cuts_83 rfl rfl ?_
      refine J.aload_n (i := 1) dX0_cuts_84 rfl rfl ?_
      refine J.iconst (v := 2) dX0_cuts_85 (by decide) ?_
      refine J.iload dX0_cuts_86 rfl ?_
      refine J.iload dX0_cuts_88 rfl ?_
      refine J.iload dX0_cuts_90 rfl ?_
      refine J.imul dX0_cuts_92 ?_
      refine J.isub dX0_cuts_93 ?_
      replace hf := jbd hf
      obtain ⟨u33, h34, hf⟩ := hf
      replace hf := jbs hf
      obtain ⟨v37, hp36, h35, hf⟩ := hf
      refine J.callV (As := [.ref xa_1, .int 2, .int (xi_8 - (xi_9 * xi_6))]) (k2 := 0) (n2 := 0) 0 hDl hRm (w_X0_most h35) (lw_V q468 q470 qs6 q39 q471) hd_X0_most rfl ⟨_, h34⟩ rfl (Nat.le_of_ble_eq_true rfl) (Nat.le_of_ble_eq_true rfl) (Nat.le_of_ble_eq_true rfl) (Nat.le_of_ble_eq_true rfl) (Nat.le_of_ble_eq_true rfl) (Nat.le_of_ble_eq_true rfl) (Nat.le_of_ble_eq_true rfl) rfl dX0_cuts_94 ?_
      refine J.istore (i := 10) (lv' := [some (.ref xa_0), some (.ref xa_1), none, some (.int xi_3), some (.int xi_4), some (.int xi_5), some (.int xi_6), some (.int xi_7), some (.int xi_8), some (.int xi_9), some (.int v37), none]) dX0_cuts_97 (Nat.le_of_ble_eq_true rfl) rfl ?_
      refine J.iload dX0_cuts_99 rfl ?_
      refine J.aload_n (i := 1) dX0_cuts_101 rfl rfl ?_
      refine J.iconst (v := 0) dX0_cuts_102 (by decide) ?_
      replace hf := jbs hf
      obtain ⟨v40, hp39, h38, hf⟩ := hf
      refine J.callS (As := [.ref xa_1, .int 0]) (k2 := 0) (n2 := 0) hDl hRm (w_X0_lengthOf h38) (lw_S q446 q447 q39 q448) hs_X0_lengthOf rfl (Nat.le_of_ble_eq_true rfl) (Nat.le_of_ble_eq_true rfl) (Nat.le_of_ble_eq_true rfl) (Nat.le_of_ble_eq_true rfl) (Nat.le_of_ble_eq_true rfl) (Nat.le_of_ble_eq_true rfl) (Nat.le_of_ble_eq_true rfl) rfl dX0_cuts_103 ?_
      refine J.imul dX0_cuts_106 ?_
      refine J.iload dX0_cuts_107 rfl ?_
      refine J.aload_n (i := 1) dX0_cuts_109 rfl rfl ?_
      refine J.iconst (v := 1) dX0_cuts_110 (by decide) ?_
      replace hf := jbs hf
      obtain ⟨v43, hp42, h41, hf⟩ := hf
      refine J.callS (As := [.ref xa_1, .int 1]) (k2 := 0) (n2 := 0) hDl hRm (w_X0_lengthOf h41) (lw_S q446 q447 q39 q448) hs_X0_lengthOf rfl (Nat.le_of_ble_eq_true rfl) (Nat.le_of_ble_eq_true rfl) (Nat.le_of_ble_eq_true rfl) (Nat.le_of_ble_eq_true rfl) (Nat.le_of_ble_eq_true rfl) (Nat.le_of_ble_eq_true rfl) (Nat.le_of_ble_eq_true rfl) rfl dX0_cuts_111 ?_
      refine J.imul dX0_cuts_114 ?_
      refine J.iadd dX0_cuts_115 ?_
      refine J.iload dX0_cuts_116 rfl ?_
      refine J.aload_n (i := 1) dX0_cuts_118 rfl rfl ?_
      refine J.iconst (v := 2) dX0_cuts_119 (by decide) ?_
      replace hf := jbs hf
      obtain ⟨v46, hp45, h44, hf⟩ := hf
      refine J.callS (As := [.ref xa_1, .int 2]) (k2 := 0) (n2 := 0) hDl hRm (w_X0_lengthOf h44) (lw_S q446 q447 q39 q448) hs_X0_lengthOf rfl (Nat.le_of_ble_eq_true rfl) (Nat.le_of_ble_eq_true rfl) (Nat.le_of_ble_eq_true rfl) (Nat.le_of_ble_eq_true rfl) (Nat.le_of_ble_eq_true rfl) (Nat.le_of_ble_eq_true rfl) (Nat.le_of_ble_eq_true rfl) rfl dX0_cuts_120 ?_
      refine J.imul dX0_cuts_123 ?_
      refine J.iadd dX0_cuts_124 ?_
      refine J.istore (i := 11) (lv' := [some (.ref xa_0), some (.ref xa_1), none, some (.int xi_3), some (.int xi_4), some (.int xi_5), some (.int xi_6), some (.int xi_7), some (.int xi_8), some (.int xi_9), some (.int v37), some (.int (((xi_7 * v40) + (xi_9 * v43)) + (v37 * v46)))]) dX0_cuts_125 (Nat.le_of_ble_eq_true rfl) rfl ?_
      refine J.iload dX0_cuts_127 rfl ?_
      refine J.aload_n (i := 0) dX0_cuts_129 rfl rfl ?_
      replace hf := jbd hf
      obtain ⟨v47, h48, hf⟩ := hf
      refine J.getI 0 14 in_X0 rfl (Nat.le_of_ble_eq_true rfl) (Or.inl q159) (Or.inl rfl) h48 dX0_cuts_130 ?_
      refine J.icmp_gt (tgt := 158) dX0_cuts_133 (by decide) (fun hc49 => ?_) (fun hc49 => ?_)
      · replace hf := (if_pos hc49).symm.trans hf
        refine J.mask (lv' := [some (.ref xa_0), some (.ref xa_1), none, some (.int xi_3), none, some (.int xi_5), some (.int xi_6), some (.int xi_7), some (.int xi_8), some (.int xi_9), some (.int v37), some (.int (((xi_7 * v40) + (xi_9 * v43)) + (v37 * v46)))]) [true, true, false, true, false, true, true, true, true, true, true, true] rfl ?_
        exact w_X0_cuts_j158 hDl hRm hE hX0 hK54 (fun z0 z1 z2 z3 z4 z5 z6 z7 z8 z9 hz => ih78 z0 z1 z2 z3 z4 z5 z6 z7 z8 z9 hz) hf
      · replace hf := (if_neg hc49).symm.trans hf
        refine J.iload dX0_cuts_136 rfl ?_
        refine J.aload_n (i := 0) dX0_cuts_138 rfl rfl ?_
        replace hf := jbd hf
        obtain ⟨v64, h65, hf⟩ := hf
        refine J.getI 0 14 in_X0 rfl (Nat.le_of_ble_eq_true rfl) (Or.inl q159) (Or.inl rfl) h65 dX0_cuts_139 ?_
        refine J.icmp_ne (tgt := 198) dX0_cuts_142 (by decide) (fun hc66 => ?_) (fun hc66 => ?_)
        · replace hf := (if_neg hc66).symm.trans hf
          refine J.mask (lv' := [some (.ref xa_0), some (.ref xa_1), none, some (.int xi_3), some (.int xi_4), some (.int xi_5), some (.int xi_6), some (.int xi_7), some (.int xi_8), some (.int xi_9), none, none]) [true, true, false, true, true, true, true, true, true, true, false, false] rfl ?_
          exact w_X0_cuts_j198 hDl hRm hE hX0 hK54 (fun z0 z1 z2 z3 z4 z5 z6 z7 z8 z9 hz => ih78 z0 z1 z2 z3 z4 z5 z6 z7 z8 z9 hz) hf
        · replace hf := (if_pos hc66).symm.trans hf
          refine J.iload dX0_cuts_145 rfl ?_
          refine J.iload dX0_cuts_147 rfl ?_
          refine J.iadd dX0_cuts_149 ?_
          refine J.iload dX0_cuts_150 rfl ?_
          refine J.iadd dX0_cuts_152 ?_
          refine J.iload dX0_cuts_153 rfl ?_
          refine J.icmp_ge (tgt := 198) dX0_cuts_155 (by decide) (fun hc67 => ?_) (fun hc67 => ?_)
          · replace hf := (if_pos hc67).symm.trans hf
            refine J.mask (lv' := [some (.ref xa_0), some (.ref xa_1), none, some (.int xi_3), some (.int xi_4), some (.int xi_5), some (.int xi_6), some (.int xi_7), some (.int xi_8), some (.int xi_9), none, none]) [true, true, false, true, true, true, true, true, true, true, false, false] rfl ?_
            exact w_X0_cuts_j198 hDl hRm hE hX0 hK54 (fun z0 z1 z2 z3 z4 z5 z6 z7 z8 z9 hz => ih78 z0 z1 z2 z3 z4 z5 z6 z7 z8 z9 hz) hf
          · replace hf := (if_neg hc67).symm.trans hf
            refine J.mask (lv' := [some (.ref xa_0), some (.ref xa_1), none, some (.int xi_3), none, some (.int xi_5), some (.int xi_6), some (.int xi_7), some (.int xi_8), some (.int xi_9), some (.int v37), some (.int (((xi_7 * v40) + (xi_9 * v43)) + (v37 * v46)))]) [true, true, false, true, false, true, true, true, true, true, true, true] rfl ?_
            exact w_X0_cuts_j158 hDl hRm hE hX0 hK54 (fun z0 z1 z2 z3 z4 z5 z6 z7 z8 z9 hz => ih78 z0 z1 z2 z3 z4 z5 z6 z7 z8 z9 hz) hf
set_option maxHeartbeats 4000000 in
set_option maxRecDepth 100000 in
theorem w_X0_cuts_L54 {D : va_G} {l : Launch} {X : jX} {hp0 hpE : jH} (hDl : jDl X D l) (hRm : jRoom X rm_X0_cuts.frames rm_X0_cuts.locals rm_X0_cuts.cells rm_X0_cuts.slots) (hE : jEnds X none none hpE rm_X0_cuts.cells rm_X0_cuts.slots) (hX0 : jX0 X hp0) : ∀ (N : Nat) (xa_0 : Nat) (xa_1 : Nat) (xi_3 : Int32) (xi_4 : Int32) (xi_5 : Int32) (xi_6 : Int32) (xi_7 : Int32) (hp : jH), f_X0_cuts_L54 N xa_0 xa_1 xi_3 xi_4 xi_5 xi_6 xi_7 hp = some hpE → J X cX0_cuts 12 yX0_cuts 0 0 54 [some (.ref xa_0), some (.ref xa_1), none, some (.int xi_3), some (.int xi_4), some (.int xi_5), some (.int xi_6), some (.int xi_7), none, none, none, none] [] hp := by
  intro N
  induction N with
  | zero =>
    intro xa_0 xa_1 xi_3 xi_4 xi_5 xi_6 xi_7 hp hf
    rw [f_X0_cuts_L54] at hf
    cases hf
  | succ N ih54 =>
    intro xa_0 xa_1 xi_3 xi_4 xi_5 xi_6 xi_7 hp hf
    rw [f_X0_cuts_L54] at hf
    refine J.iload dX0_cuts_54 rfl ?_
    refine J.if_lt (tgt := 210) dX0_cuts_56 (by decide) (fun hc26 => ?_) (fun hc26 => ?_)
    · replace hf := (if_pos hc26).symm.trans hf
      obtain rfl := Option.some.inj hf
      exact J.vret hE (Nat.le_of_ble_eq_true rfl) (Nat.le_of_ble_eq_true rfl) dX0_cuts_210
    · replace hf := (if_neg hc26).symm.trans hf
      refine J.iload_n (i := 3) dX0_cuts_59 rfl rfl ?_
      refine J.iload dX0_cuts_60 rfl ?_
      refine J.iload dX0_cuts_62 rfl ?_
      refine J.imul dX0_cuts_64 ?_
      refine J.isub dX0_cuts_65 ?_
      refine J.istore (i := 8) (lv' := [some (.ref xa_0), some (.ref xa_1), none, some (.int xi_3), some (.int xi_4), some (.int xi_5), some (.int xi_6), some (.int xi_7), some (.int (xi_3 - (xi_7 * xi_5))), none, none, none]) dX0_cuts_66 (Nat.le_of_ble_eq_true rfl) rfl ?_
      refine J.aload_n (i := 0) dX0_cuts_68 rfl rfl ?_
      refine J.aload_n (i := 1) dX0_cuts_69 rfl rfl ?_
      refine J.iconst (v := 1) dX0_cuts_70 (by decide) ?_
      refine J.iload dX0_cuts_71 rfl ?_
      replace hf := jbd hf
      obtain ⟨u27, h28, hf⟩ := hf
      replace hf := jbs hf
      obtain ⟨v31, hp30, h29, hf⟩ := hf
      refine J.callV (As := [.ref xa_1, .int 1, .int (xi_3 - (xi_7 * xi_5))]) (k2 := 0) (n2 := 0) 0 hDl hRm (w_X0_most h29) (lw_V q468 q470 qs6 q39 q471) hd_X0_most rfl ⟨_, h28⟩ rfl (Nat.le_of_ble_eq_true rfl) (Nat.le_of_ble_eq_true rfl) (Nat.le_of_ble_eq_true rfl) (Nat.le_of_ble_eq_true rfl) (Nat.le_of_ble_eq_true rfl) (Nat.le_of_ble_eq_true rfl) (Nat.le_of_ble_eq_true rfl) rfl dX0_cuts_73 ?_
      refine J.istore (i := 9) (lv' := [some (.ref xa_0), some (.ref xa_1), none, some (.int xi_3), some (.int xi_4), some (.int xi_5), some (.int xi_6), some (.int xi_7), some (.int (xi_3 - (xi_7 * xi_5))), some (.int v31), none, none]) dX0_cuts_76 (Nat.le_of_ble_eq_true rfl) rfl ?_
      exact w_X0_cuts_L78 hDl hRm hE hX0 (fun z0 z1 z2 z3 z4 z5 z6 z7 hz => ih54 z0 z1 z2 z3 z4 z5 z6 z7 hz) _ _ _ _ _ _ _ _ _ _ _ hf
set_option maxHeartbeats 4000000 in
set_option maxRecDepth 100000 in
theorem w_X0_cuts {D : va_G} {l : Launch} {hp hpE : jH} {this : Nat} {p1 : Nat} {p2 : Int32} (hf : f_X0_cuts this p1 p2 hp = some hpE) : jM D l yX0_cuts (ws_ yX0_cuts cX0_cuts 12 none) rm_X0_cuts hp [.ref this, .ref p1, .int p2] none hpE := by
  refine jM.of (lv0 := [some (.ref this), some (.ref p1), some (.int p2), none, none, none, none, none, none, none, none, none]) (by decide) (Nat.le_of_ble_eq_true rfl) rfl (fun X hDl hRm hE hX0 => ?_)
  rw [f_X0_cuts] at hf
  refine J.iload_n (i := 2) dX0_cuts_0 rfl rfl ?_
  refine J.aload_n (i := 0) dX0_cuts_1 rfl rfl ?_
  replace hf := jbd hf
  obtain ⟨a1, h2, hf⟩ := hf
  refine J.getA 0 5 in_X0 rfl (Nat.le_of_ble_eq_true rfl) (Or.inl q150) (Or.inl rfl) h2 dX0_cuts_2 ?_
  refine J.iconst (v := 4) dX0_cuts_5 (by decide) ?_
  replace hf := jbd hf
  obtain ⟨v3, h4, hf⟩ := hf
  refine J.iald h4 dX0_cuts_6 ?_
  refine J.iadd dX0_cuts_7 ?_
  refine J.istore_n (i := 3) (lv' := [some (.ref this), some (.ref p1), some (.int p2), some (.int (p2 + v3)), none, none, none, none, none, none, none, none]) dX0_cuts_8 rfl (Nat.le_of_ble_eq_true rfl) rfl ?_
  refine J.aload_n (i := 0) dX0_cuts_9 rfl rfl ?_
  refine J.iconst (v := (-1)) dX0_cuts_10 (by decide) ?_
  replace hf := jbd hf
  obtain ⟨hp5, h6, hf⟩ := hf
  refine J.put (ty := .int) 0 14 in_X0 ap0 rfl (Nat.le_of_ble_eq_true rfl) (Or.inl q159) (Or.inl rfl) rfl (by decide +kernel) (fun _ => ⟨rfl, rfl⟩) h6 dX0_cuts_11 ?_
  refine J.iconst (v := 0) dX0_cuts_14 (by decide) ?_
  refine J.istore (i := 4) (lv' := [some (.ref this), some (.ref p1), some (.int p2), some (.int (p2 + v3)), some (.int 0), none, none, none, none, none, none, none]) dX0_cuts_15 (Nat.le_of_ble_eq_true rfl) rfl ?_
  refine J.aload_n (i := 1) dX0_cuts_17 rfl rfl ?_
  refine J.iconst (v := 0) dX0_cuts_18 (by decide) ?_
  replace hf := jbs hf
  obtain ⟨v9, hp8, h7, hf⟩ := hf
  refine J.callS (As := [.ref p1, .int 0]) (k2 := 0) (n2 := 0) hDl hRm (w_X0_lengthOf h7) (lw_S q446 q447 q39 q448) hs_X0_lengthOf rfl (Nat.le_of_ble_eq_true rfl) (Nat.le_of_ble_eq_true rfl) (Nat.le_of_ble_eq_true rfl) (Nat.le_of_ble_eq_true rfl) (Nat.le_of_ble_eq_true rfl) (Nat.le_of_ble_eq_true rfl) (Nat.le_of_ble_eq_true rfl) rfl dX0_cuts_19 ?_
  refine J.aload_n (i := 0) dX0_cuts_22 rfl rfl ?_
  replace hf := jbd hf
  obtain ⟨a10, h11, hf⟩ := hf
  refine J.getA 0 5 in_X0 rfl (Nat.le_of_ble_eq_true rfl) (Or.inl q150) (Or.inl rfl) h11 dX0_cuts_23 ?_
  refine J.iconst (v := 4) dX0_cuts_26 (by decide) ?_
  replace hf := jbd hf
  obtain ⟨v12, h13, hf⟩ := hf
  refine J.iald h13 dX0_cuts_27 ?_
  refine J.iadd dX0_cuts_28 ?_
  refine J.istore (i := 5) (lv' := [some (.ref this), some (.ref p1), some (.int p2), some (.int (p2 + v3)), some (.int 0), some (.int (v9 + v12)), none, none, none, none, none, none]) dX0_cuts_29 (Nat.le_of_ble_eq_true rfl) rfl ?_
  refine J.aload_n (i := 1) dX0_cuts_31 rfl rfl ?_
  refine J.iconst (v := 1) dX0_cuts_32 (by decide) ?_
  replace hf := jbs hf
  obtain ⟨v16, hp15, h14, hf⟩ := hf
  refine J.callS (As := [.ref p1, .int 1]) (k2 := 0) (n2 := 0) hDl hRm (w_X0_lengthOf h14) (lw_S q446 q447 q39 q448) hs_X0_lengthOf rfl (Nat.le_of_ble_eq_true rfl) (Nat.le_of_ble_eq_true rfl) (Nat.le_of_ble_eq_true rfl) (Nat.le_of_ble_eq_true rfl) (Nat.le_of_ble_eq_true rfl) (Nat.le_of_ble_eq_true rfl) (Nat.le_of_ble_eq_true rfl) rfl dX0_cuts_33 ?_
  refine J.aload_n (i := 0) dX0_cuts_36 rfl rfl ?_
  replace hf := jbd hf
  obtain ⟨a17, h18, hf⟩ := hf
  refine J.getA 0 5 in_X0 rfl (Nat.le_of_ble_eq_true rfl) (Or.inl q150) (Or.inl rfl) h18 dX0_cuts_37 ?_
  refine J.iconst (v := 4) dX0_cuts_40 (by decide) ?_
  replace hf := jbd hf
  obtain ⟨v19, h20, hf⟩ := hf
  refine J.iald h20 dX0_cuts_41 ?_
  refine J.iadd dX0_cuts_42 ?_
  refine J.istore (i := 6) (lv' := [some (.ref this), some (.ref p1), some (.int p2), some (.int (p2 + v3)), some (.int 0), some (.int (v9 + v12)), some (.int (v16 + v19)), none, none, none, none, none]) dX0_cuts_43 (Nat.le_of_ble_eq_true rfl) rfl ?_
  refine J.aload_n (i := 0) dX0_cuts_45 rfl rfl ?_
  refine J.aload_n (i := 1) dX0_cuts_46 rfl rfl ?_
  refine J.iconst (v := 0) dX0_cuts_47 (by decide) ?_
  refine J.iload_n (i := 3) dX0_cuts_48 rfl rfl ?_
  replace hf := jbd hf
  obtain ⟨u21, h22, hf⟩ := hf
  replace hf := jbs hf
  obtain ⟨v25, hp24, h23, hf⟩ := hf
  refine J.callV (As := [.ref p1, .int 0, .int (p2 + v3)]) (k2 := 0) (n2 := 0) 0 hDl hRm (w_X0_most h23) (lw_V q468 q470 qs6 q39 q471) hd_X0_most rfl ⟨_, h22⟩ rfl (Nat.le_of_ble_eq_true rfl) (Nat.le_of_ble_eq_true rfl) (Nat.le_of_ble_eq_true rfl) (Nat.le_of_ble_eq_true rfl) (Nat.le_of_ble_eq_true rfl) (Nat.le_of_ble_eq_true rfl) (Nat.le_of_ble_eq_true rfl) rfl dX0_cuts_49 ?_
  refine J.istore (i := 7) (lv' := [some (.ref this), some (.ref p1), some (.int p2), some (.int (p2 + v3)), some (.int 0), some (.int (v9 + v12)), some (.int (v16 + v19)), some (.int v25), none, none, none, none]) dX0_cuts_52 (Nat.le_of_ble_eq_true rfl) rfl ?_
  refine J.mask (lv' := [some (.ref this), some (.ref p1), none, some (.int (p2 + v3)), some (.int 0), some (.int (v9 + v12)), some (.int (v16 + v19)), some (.int v25), none, none, none, none]) [true, true, false, true, true, true, true, true, false, false, false, false] rfl ?_
  exact w_X0_cuts_L54 hDl hRm hE hX0 _ _ _ _ _ _ _ _ _ hf
def rm_X0_isBar : Room := { frames := 1, cells := 0, slots := 0, locals := 22 }
theorem hd_X0_isBar : yX0_isBar.cls = RX0 ∧ yX0_isBar.cls ≠ "java/lang/invoke/MethodHandle" ∧ yX0_isBar.cls ≠ "java/lang/invoke/VarHandle" ∧ (parseMethodDescriptor yX0_isBar.desc).map (fun d => d.parameters.length) = some 1 := by decide +kernel
set_option maxHeartbeats 4000000 in
set_option maxRecDepth 100000 in
theorem w_X0_isBar {D : va_G} {l : Launch} {hp hpE : jH} {rE : Int32} {this : Nat} {p1 : Int32} (hf : f_X0_isBar this p1 hp = some (rE, hpE)) : jM D l yX0_isBar (ws_ yX0_isBar cX0_isBar 2 (some .boolean)) rm_X0_isBar hp [.ref this, .int p1] (some (.int rE)) hpE := by
  refine jM.of (lv0 := [some (.ref this), some (.int p1)]) (by decide) (Nat.le_of_ble_eq_true rfl) rfl (fun X hDl hRm hE hX0 => ?_)
  rw [f_X0_isBar] at hf
  refine J.iload_n (i := 1) dX0_isBar_0 rfl rfl ?_
  refine J.iconst (v := 0) dX0_isBar_1 (by decide) ?_
  refine J.aload_n (i := 0) dX0_isBar_2 rfl rfl ?_
  replace hf := jbd hf
  obtain ⟨v1, h2, hf⟩ := hf
  refine J.getI 0 10 in_X0 rfl (Nat.le_of_ble_eq_true rfl) (Or.inl q155) (Or.inl rfl) h2 dX0_isBar_3 ?_
  refine J.iconst (v := 1) dX0_isBar_6 (by decide) ?_
  refine J.isub dX0_isBar_7 ?_
  replace hf := jbs hf
  obtain ⟨v5, hp4, h3, hf⟩ := hf
  refine J.callS (As := [.int p1, .int 0, .int (v1 - 1)]) (k2 := 0) (n2 := 0) hDl hRm (w_X0_in h3) (lw_S q234 q235 q39 q236) hs_X0_in rfl (Nat.le_of_ble_eq_true rfl) (Nat.le_of_ble_eq_true rfl) (Nat.le_of_ble_eq_true rfl) (Nat.le_of_ble_eq_true rfl) (Nat.le_of_ble_eq_true rfl) (Nat.le_of_ble_eq_true rfl) (Nat.le_of_ble_eq_true rfl) rfl dX0_isBar_8 ?_
  by_cases hz6 : ¬ (v5 = (0 : Int32) ∨ v5 = (1 : Int32))
  · replace hf := (if_pos hz6).symm.trans hf
    cases hf
  replace hf := (if_neg hz6).symm.trans hf
  obtain ⟨rfl, rfl⟩ := jso hf
  exact J.zret hE (jz01n (Decidable.not_not.mp hz6)) (Nat.le_of_ble_eq_true rfl) (Nat.le_of_ble_eq_true rfl) dX0_isBar_11
def rm_X0_press : Room := { frames := 5, cells := 1, slots := 8, locals := 119 }
theorem hd_X0_press : yX0_press.cls = RX0 ∧ yX0_press.cls ≠ "java/lang/invoke/MethodHandle" ∧ yX0_press.cls ≠ "java/lang/invoke/VarHandle" ∧ (parseMethodDescriptor yX0_press.desc).map (fun d => d.parameters.length) = some 2 := by decide +kernel
set_option maxHeartbeats 4000000 in
set_option maxRecDepth 100000 in
theorem w_X0_press_L179 {D : va_G} {l : Launch} {X : jX} {hp0 hpE : jH} {rE : Int32} (hDl : jDl X D l) (hRm : jRoom X rm_X0_press.frames rm_X0_press.locals rm_X0_press.cells rm_X0_press.slots) (hE : jEnds X (some .int) (some (.int rE)) hpE rm_X0_press.cells rm_X0_press.slots) (hX0 : jX0 X hp0) : ∀ (N : Nat) (xa_0 : Nat) (xa_3 : Nat) (xa_4 : Nat) (xi_7 : Int32) (hp : jH), f_X0_press_L179 N xa_0 xa_3 xa_4 xi_7 hp = some (rE, hpE) → J X cX0_press 8 yX0_press 1 8 179 [some (.ref xa_0), none, none, some (.ref xa_3), some (.ref xa_4), none, none, some (.int xi_7)] [] hp := by
  intro N
  induction N with
  | zero =>
    intro xa_0 xa_3 xa_4 xi_7 hp hf
    rw [f_X0_press_L179] at hf
    cases hf
  | succ N ih179 =>
    intro xa_0 xa_3 xa_4 xi_7 hp hf
    rw [f_X0_press_L179] at hf
    refine J.iload dX0_press_179 rfl ?_
    refine J.aload_n (i := 3) dX0_press_181 rfl rfl ?_
    replace hf := jbd hf
    obtain ⟨a73, h74, hf⟩ := hf
    refine J.getA 6 0 in_X7 rfl (Nat.le_of_ble_eq_true rfl) (Or.inr ⟨_, q303⟩) (Or.inl rfl) h74 dX0_press_182 ?_
    replace hf := jbd hf
    obtain ⟨a75, h76, hf⟩ := hf
    refine J.getA 4 4 in_X6 rfl (Nat.le_of_ble_eq_true rfl) (Or.inr ⟨_, q277⟩) (Or.inl rfl) h76 dX0_press_185 ?_
    replace hf := jbd hf
    obtain ⟨u77, h78, hf⟩ := hf
    replace hf := jbs hf
    obtain ⟨v81, hp80, h79, hf⟩ := hf
    refine J.callV (As := []) (k2 := 1) (n2 := 8) 5 hDl hRm (w_J2_size h79) (lw_V q449 q450 q451 q48 q452) hd_J2_size rfl ⟨_, h78⟩ rfl (Nat.le_of_ble_eq_true rfl) (Nat.le_of_ble_eq_true rfl) (Nat.le_of_ble_eq_true rfl) (Nat.le_of_ble_eq_true rfl) (Nat.le_of_ble_eq_true rfl) (Nat.le_of_ble_eq_true rfl) (Nat.le_of_ble_eq_true rfl) rfl dX0_press_188 ?_
    refine J.icmp_ge (tgt := 230) dX0_press_191 (by decide) (fun hc82 => ?_) (fun hc82 => ?_)
    · replace hf := (if_pos hc82).symm.trans hf
      refine J.aload_n (i := 0) dX0_press_230 rfl rfl ?_
      replace hf := jbd hf
      obtain ⟨a83, h84, hf⟩ := hf
      refine J.getA 0 9 in_X0 rfl (Nat.le_of_ble_eq_true rfl) (Or.inl q154) (Or.inl rfl) h84 dX0_press_231 ?_
      refine J.aload_n (i := 0) dX0_press_234 rfl rfl ?_
      replace hf := jbd hf
      obtain ⟨v85, h86, hf⟩ := hf
      refine J.getI 0 10 in_X0 rfl (Nat.le_of_ble_eq_true rfl) (Or.inl q155) (Or.inl rfl) h86 dX0_press_235 ?_
      refine J.aload dX0_press_238 rfl ?_
      replace hf := jbd hf
      obtain ⟨hp87, h88, hf⟩ := hf
      refine J.aast (ci := 7) rfl (Or.inl rfl) h88 dX0_press_240 ?_
      refine J.aload_n (i := 0) dX0_press_241 rfl rfl ?_
      refine J.dup dX0_press_242 rfl ?_
      replace hf := jbd hf
      obtain ⟨v89, h90, hf⟩ := hf
      refine J.getI 0 10 in_X0 rfl (Nat.le_of_ble_eq_true rfl) (Or.inl q155) (Or.inl rfl) h90 dX0_press_243 ?_
      refine J.iconst (v := 1) dX0_press_246 (by decide) ?_
      refine J.iadd dX0_press_247 ?_
      replace hf := jbd hf
      obtain ⟨hp91, h92, hf⟩ := hf
      refine J.put (ty := .int) 0 10 in_X0 ap0 rfl (Nat.le_of_ble_eq_true rfl) (Or.inl q155) (Or.inl rfl) rfl (by decide +kernel) (fun _ => ⟨rfl, rfl⟩) h92 dX0_press_248 ?_
      refine J.aload_n (i := 3) dX0_press_251 rfl rfl ?_
      refine J.dup dX0_press_252 rfl ?_
      replace hf := jbd hf
      obtain ⟨v93, h94, hf⟩ := hf
      refine J.getI 6 3 in_X7 rfl (Nat.le_of_ble_eq_true rfl) (Or.inr ⟨_, q309⟩) (Or.inl rfl) h94 dX0_press_253 ?_
      refine J.iconst (v := 1) dX0_press_256 (by decide) ?_
      refine J.iadd dX0_press_257 ?_
      replace hf := jbd hf
      obtain ⟨hp95, h96, hf⟩ := hf
      refine J.put (ty := .int) 6 3 in_X7 ap6 rfl (Nat.le_of_ble_eq_true rfl) (Or.inr ⟨_, q309⟩) (Or.inl rfl) rfl (by decide +kernel) (fun _ => ⟨rfl, rfl⟩) h96 dX0_press_258 ?_
      refine J.aload_n (i := 3) dX0_press_261 rfl rfl ?_
      refine J.dup dX0_press_262 rfl ?_
      replace hf := jbd hf
      obtain ⟨v97, h98, hf⟩ := hf
      refine J.getI 6 4 in_X7 rfl (Nat.le_of_ble_eq_true rfl) (Or.inr ⟨_, q310⟩) (Or.inl rfl) h98 dX0_press_263 ?_
      refine J.iconst (v := 1) dX0_press_266 (by decide) ?_
      refine J.iadd dX0_press_267 ?_
      replace hf := jbd hf
      obtain ⟨hp99, h100, hf⟩ := hf
      refine J.put (ty := .int) 6 4 in_X7 ap6 rfl (Nat.le_of_ble_eq_true rfl) (Or.inr ⟨_, q310⟩) (Or.inl rfl) rfl (by decide +kernel) (fun _ => ⟨rfl, rfl⟩) h100 dX0_press_268 ?_
      refine J.aload_n (i := 0) dX0_press_271 rfl rfl ?_
      refine J.aload_n (i := 3) dX0_press_272 rfl rfl ?_
      replace hf := jbd hf
      obtain ⟨hp101, h102, hf⟩ := hf
      refine J.put (ty := (.object "BilletBars$Die")) 0 11 in_X0 ap0 rfl (Nat.le_of_ble_eq_true rfl) (Or.inl q156) (Or.inl rfl) rfl (by decide +kernel) (fun _ => ⟨rfl, rfl⟩) h102 dX0_press_273 ?_
      refine J.aload_n (i := 0) dX0_press_276 rfl rfl ?_
      refine J.aload_n (i := 0) dX0_press_277 rfl rfl ?_
      replace hf := jbd hf
      obtain ⟨v103, h104, hf⟩ := hf
      refine J.getI 0 4 in_X0 rfl (Nat.le_of_ble_eq_true rfl) (Or.inl q147) (Or.inl rfl) h104 dX0_press_278 ?_
      replace hf := jbd hf
      obtain ⟨hp105, h106, hf⟩ := hf
      refine J.put (ty := .int) 0 12 in_X0 ap0 rfl (Nat.le_of_ble_eq_true rfl) (Or.inl q157) (Or.inl rfl) rfl (by decide +kernel) (fun _ => ⟨rfl, rfl⟩) h106 dX0_press_281 ?_
      refine J.aload_n (i := 0) dX0_press_284 rfl rfl ?_
      refine J.dup dX0_press_285 rfl ?_
      replace hf := jbd hf
      obtain ⟨v107, h108, hf⟩ := hf
      refine J.getI 0 4 in_X0 rfl (Nat.le_of_ble_eq_true rfl) (Or.inl q147) (Or.inl rfl) h108 dX0_press_286 ?_
      refine J.iconst (v := 1) dX0_press_289 (by decide) ?_
      refine J.iadd dX0_press_290 ?_
      replace hf := jbd hf
      obtain ⟨hp109, h110, hf⟩ := hf
      refine J.put (ty := .int) 0 4 in_X0 ap0 rfl (Nat.le_of_ble_eq_true rfl) (Or.inl q147) (Or.inl rfl) rfl (by decide +kernel) (fun _ => ⟨rfl, rfl⟩) h110 dX0_press_291 ?_
      refine J.aload dX0_press_294 rfl ?_
      replace hf := jbd hf
      obtain ⟨v111, h112, hf⟩ := hf
      refine J.getI 7 3 in_X8 rfl (Nat.le_of_ble_eq_true rfl) (Or.inr ⟨_, q387⟩) (Or.inl rfl) h112 dX0_press_296 ?_
      obtain ⟨rfl, rfl⟩ := jso hf
      exact J.iret hE (Nat.le_of_ble_eq_true rfl) (Nat.le_of_ble_eq_true rfl) dX0_press_299
    · replace hf := (if_neg hc82).symm.trans hf
      refine J.aload_n (i := 3) dX0_press_194 rfl rfl ?_
      replace hf := jbd hf
      obtain ⟨a113, h114, hf⟩ := hf
      refine J.getA 6 0 in_X7 rfl (Nat.le_of_ble_eq_true rfl) (Or.inr ⟨_, q303⟩) (Or.inl rfl) h114 dX0_press_195 ?_
      replace hf := jbd hf
      obtain ⟨a115, h116, hf⟩ := hf
      refine J.getA 4 4 in_X6 rfl (Nat.le_of_ble_eq_true rfl) (Or.inr ⟨_, q277⟩) (Or.inl rfl) h116 dX0_press_198 ?_
      refine J.iload dX0_press_201 rfl ?_
      replace hf := jbd hf
      obtain ⟨u117, h118, hf⟩ := hf
      replace hf := jbs hf
      obtain ⟨a121, hp120, h119, hf⟩ := hf
      refine J.callV (As := [.int xi_7]) (k2 := 1) (n2 := 8) 5 hDl hRm (w_J2_get h119) (lw_V q453 q454 q455 q48 q456) hd_J2_get rfl ⟨_, h118⟩ rfl (Nat.le_of_ble_eq_true rfl) (Nat.le_of_ble_eq_true rfl) (Nat.le_of_ble_eq_true rfl) (Nat.le_of_ble_eq_true rfl) (Nat.le_of_ble_eq_true rfl) (Nat.le_of_ble_eq_true rfl) (Nat.le_of_ble_eq_true rfl) rfl dX0_press_203 ?_
      replace hf := jbd hf
      obtain ⟨u123, h122, hf⟩ := hf
      refine J.castO 8 rfl q467 ⟨_, h122⟩ dX0_press_206 ?_
      refine J.dup dX0_press_209 rfl ?_
      replace hf := jbd hf
      obtain ⟨v124, h125, hf⟩ := hf
      refine J.getI 8 1 in_X9 rfl (Nat.le_of_ble_eq_true rfl) (Or.inr ⟨_, q493⟩) (Or.inl rfl) h125 dX0_press_210 ?_
      refine J.aload_n (i := 0) dX0_press_213 rfl rfl ?_
      replace hf := jbd hf
      obtain ⟨a126, h127, hf⟩ := hf
      refine J.getA 0 13 in_X0 rfl (Nat.le_of_ble_eq_true rfl) (Or.inl q158) (Or.inl rfl) h127 dX0_press_214 ?_
      refine J.iload dX0_press_217 rfl ?_
      replace hf := jbd hf
      obtain ⟨v128, h129, hf⟩ := hf
      refine J.iald h129 dX0_press_219 ?_
      refine J.isub dX0_press_220 ?_
      replace hf := jbd hf
      obtain ⟨hp130, h131, hf⟩ := hf
      refine J.put (ty := .int) 8 1 in_X9 ap8 rfl (Nat.le_of_ble_eq_true rfl) (Or.inr ⟨_, q493⟩) (Or.inl rfl) rfl (by decide +kernel) (fun _ => ⟨rfl, rfl⟩) h131 dX0_press_221 ?_
      refine J.iinc (i := 7) (v := (xi_7 + 1)) (lv' := [some (.ref xa_0), none, none, some (.ref xa_3), some (.ref xa_4), none, none, some (.int (xi_7 + 1))]) dX0_press_224 rfl rfl (Nat.le_of_ble_eq_true rfl) rfl ?_
      refine J.goto (tgt := 179) dX0_press_227 (by decide) ?_
      exact ih179 _ _ _ _ _ hf
set_option maxHeartbeats 4000000 in
set_option maxRecDepth 100000 in
theorem w_X0_press_j124 {D : va_G} {l : Launch} {X : jX} {hp0 hpE : jH} {rE : Int32} (hDl : jDl X D l) (hRm : jRoom X rm_X0_press.frames rm_X0_press.locals rm_X0_press.cells rm_X0_press.slots) (hE : jEnds X (some .int) (some (.int rE)) hpE rm_X0_press.cells rm_X0_press.slots) (hX0 : jX0 X hp0) {xa_0 : Nat} {xa_3 : Nat} {xa_4 : Nat} {xi_5 : Int32} {xa_s0 : Nat} {xi_s1 : Int32} {xi_s2 : Int32} {hp : jH} (hf : f_X0_press_j124 xa_0 xa_3 xa_4 xi_5 xa_s0 xi_s1 xi_s2 hp = some (rE, hpE)) : J X cX0_press 8 yX0_press 1 8 124 [some (.ref xa_0), none, none, some (.ref xa_3), some (.ref xa_4), some (.int xi_5), none, none] [.int xi_s2, .int xi_s1, .ref xa_s0] hp := by
  rw [f_X0_press_j124] at hf
  refine J.iconst (v := 1) dX0_press_124 (by decide) ?_
  replace hf := jbd hf
  obtain ⟨u48, h49, hf⟩ := hf
  replace hf := jbs hf
  obtain ⟨v52, hp51, h50, hf⟩ := hf
  refine J.callV (As := [.int xi_s1, .int xi_s2, .int 1]) (k2 := 1) (n2 := 8) 0 hDl hRm (w_X0_usable h50) (lw_V q417 q419 qs4 q39 q420) hd_X0_usable rfl ⟨_, h49⟩ rfl (Nat.le_of_ble_eq_true rfl) (Nat.le_of_ble_eq_true rfl) (Nat.le_of_ble_eq_true rfl) (Nat.le_of_ble_eq_true rfl) (Nat.le_of_ble_eq_true rfl) (Nat.le_of_ble_eq_true rfl) (Nat.le_of_ble_eq_true rfl) rfl dX0_press_125 ?_
  refine J.istore (i := 6) (lv' := [some (.ref xa_0), none, none, some (.ref xa_3), some (.ref xa_4), some (.int xi_5), some (.int v52), none]) dX0_press_128 (Nat.le_of_ble_eq_true rfl) rfl ?_
  refine J.aload dX0_press_130 rfl ?_
  refine J.aload_n (i := 0) dX0_press_132 rfl rfl ?_
  replace hf := jbd hf
  obtain ⟨a53, h54, hf⟩ := hf
  refine J.getA 0 8 in_X0 rfl (Nat.le_of_ble_eq_true rfl) (Or.inl q153) (Or.inl rfl) h54 dX0_press_133 ?_
  replace hf := jbd hf
  obtain ⟨v55, h56, hf⟩ := hf
  refine J.getI 2 0 in_X3 rfl (Nat.le_of_ble_eq_true rfl) (Or.inl q91) (Or.inr q92) h56 dX0_press_136 ?_
  refine J.iload dX0_press_139 rfl ?_
  refine J.isub dX0_press_141 ?_
  replace hf := jbd hf
  obtain ⟨hp57, h58, hf⟩ := hf
  refine J.put (ty := .int) 7 5 in_X8 ap7 rfl (Nat.le_of_ble_eq_true rfl) (Or.inr ⟨_, q389⟩) (Or.inl rfl) rfl (by decide +kernel) (fun _ => ⟨rfl, rfl⟩) h58 dX0_press_142 ?_
  refine J.aload_n (i := 0) dX0_press_145 rfl rfl ?_
  refine J.aload_n (i := 3) dX0_press_146 rfl rfl ?_
  replace hf := jbd hf
  obtain ⟨a59, h60, hf⟩ := hf
  refine J.getA 6 0 in_X7 rfl (Nat.le_of_ble_eq_true rfl) (Or.inr ⟨_, q303⟩) (Or.inl rfl) h60 dX0_press_147 ?_
  refine J.iload dX0_press_150 rfl ?_
  replace hf := jbd hf
  obtain ⟨u61, h62, hf⟩ := hf
  replace hf := jbd hf
  obtain ⟨hp64, h63, hf⟩ := hf
  refine J.callV (As := [.ref a59, .int v52]) (k2 := 1) (n2 := 8) 0 hDl hRm (w_X0_cuts h63) (lw_V q442 q444 qs5 q39 q445) hd_X0_cuts rfl ⟨_, h62⟩ rfl (Nat.le_of_ble_eq_true rfl) (Nat.le_of_ble_eq_true rfl) (Nat.le_of_ble_eq_true rfl) (Nat.le_of_ble_eq_true rfl) (Nat.le_of_ble_eq_true rfl) (Nat.le_of_ble_eq_true rfl) (Nat.le_of_ble_eq_true rfl) rfl dX0_press_152 ?_
  refine J.aload dX0_press_155 rfl ?_
  refine J.aload_n (i := 0) dX0_press_157 rfl rfl ?_
  replace hf := jbd hf
  obtain ⟨v65, h66, hf⟩ := hf
  refine J.getI 0 14 in_X0 rfl (Nat.le_of_ble_eq_true rfl) (Or.inl q159) (Or.inl rfl) h66 dX0_press_158 ?_
  replace hf := jbd hf
  obtain ⟨hp67, h68, hf⟩ := hf
  refine J.put (ty := .int) 7 3 in_X8 ap7 rfl (Nat.le_of_ble_eq_true rfl) (Or.inr ⟨_, q387⟩) (Or.inl rfl) rfl (by decide +kernel) (fun _ => ⟨rfl, rfl⟩) h68 dX0_press_161 ?_
  refine J.aload dX0_press_164 rfl ?_
  refine J.iload dX0_press_166 rfl ?_
  refine J.aload_n (i := 0) dX0_press_168 rfl rfl ?_
  replace hf := jbd hf
  obtain ⟨v69, h70, hf⟩ := hf
  refine J.getI 0 14 in_X0 rfl (Nat.le_of_ble_eq_true rfl) (Or.inl q159) (Or.inl rfl) h70 dX0_press_169 ?_
  refine J.isub dX0_press_172 ?_
  replace hf := jbd hf
  obtain ⟨hp71, h72, hf⟩ := hf
  refine J.put (ty := .int) 7 4 in_X8 ap7 rfl (Nat.le_of_ble_eq_true rfl) (Or.inr ⟨_, q388⟩) (Or.inl rfl) rfl (by decide +kernel) (fun _ => ⟨rfl, rfl⟩) h72 dX0_press_173 ?_
  refine J.iconst (v := 0) dX0_press_176 (by decide) ?_
  refine J.istore (i := 7) (lv' := [some (.ref xa_0), none, none, some (.ref xa_3), some (.ref xa_4), some (.int xi_5), some (.int v52), some (.int 0)]) dX0_press_177 (Nat.le_of_ble_eq_true rfl) rfl ?_
  refine J.mask (lv' := [some (.ref xa_0), none, none, some (.ref xa_3), some (.ref xa_4), none, none, some (.int 0)]) [true, false, false, true, true, false, false, true] rfl ?_
  exact w_X0_press_L179 hDl hRm hE hX0 _ _ _ _ _ _ hf
set_option maxHeartbeats 4000000 in
set_option maxRecDepth 100000 in
theorem w_X0_press_j123 {D : va_G} {l : Launch} {X : jX} {hp0 hpE : jH} {rE : Int32} (hDl : jDl X D l) (hRm : jRoom X rm_X0_press.frames rm_X0_press.locals rm_X0_press.cells rm_X0_press.slots) (hE : jEnds X (some .int) (some (.int rE)) hpE rm_X0_press.cells rm_X0_press.slots) (hX0 : jX0 X hp0) {xa_0 : Nat} {xa_3 : Nat} {xa_4 : Nat} {xi_5 : Int32} {xa_s0 : Nat} {xi_s1 : Int32} {hp : jH} (hf : f_X0_press_j123 xa_0 xa_3 xa_4 xi_5 xa_s0 xi_s1 hp = some (rE, hpE)) : J X cX0_press 8 yX0_press 1 8 123 [some (.ref xa_0), none, none, some (.ref xa_3), some (.ref xa_4), some (.int xi_5), none, none] [.int xi_s1, .ref xa_s0] hp := by
  rw [f_X0_press_j123] at hf
  refine J.iconst (v := 0) dX0_press_123 (by decide) ?_
  exact w_X0_press_j124 hDl hRm hE hX0 hf
set_option maxHeartbeats 4000000 in
set_option maxRecDepth 100000 in
theorem w_X0_press {D : va_G} {l : Launch} {hp hpE : jH} {rE : Int32} {this : Nat} {p1 : Int32} {p2 : Int32} (hf : f_X0_press this p1 p2 hp = some (rE, hpE)) : jM D l yX0_press (ws_ yX0_press cX0_press 8 (some .int)) rm_X0_press hp [.ref this, .int p1, .int p2] (some (.int rE)) hpE := by
  refine jM.of (lv0 := [some (.ref this), some (.int p1), some (.int p2), none, none, none, none, none]) (by decide) (Nat.le_of_ble_eq_true rfl) rfl (fun X hDl hRm hE hX0 => ?_)
  rw [f_X0_press] at hf
  refine J.aload_n (i := 0) dX0_press_0 rfl rfl ?_
  refine J.iload_n (i := 1) dX0_press_1 rfl rfl ?_
  replace hf := jbd hf
  obtain ⟨u1, h2, hf⟩ := hf
  replace hf := jbs hf
  obtain ⟨v5, hp4, h3, hf⟩ := hf
  refine J.callV (As := [.int p1]) (k2 := 0) (n2 := 0) 0 hDl hRm (w_X0_isDie h3) (lw_V q334 q336 qs1 q39 q337) hd_X0_isDie rfl ⟨_, h2⟩ rfl (Nat.le_of_ble_eq_true rfl) (Nat.le_of_ble_eq_true rfl) (Nat.le_of_ble_eq_true rfl) (Nat.le_of_ble_eq_true rfl) (Nat.le_of_ble_eq_true rfl) (Nat.le_of_ble_eq_true rfl) (Nat.le_of_ble_eq_true rfl) rfl dX0_press_2 ?_
  refine J.if_eq (tgt := 21) dX0_press_5 (by decide) (fun hc6 => ?_) (fun hc6 => ?_)
  · replace hf := (if_pos hc6).symm.trans hf
    refine J.bipush (v := (-2)) dX0_press_21 (by decide) ?_
    obtain ⟨rfl, rfl⟩ := jso hf
    exact J.iret hE (Nat.le_of_ble_eq_true rfl) (Nat.le_of_ble_eq_true rfl) dX0_press_23
  · replace hf := (if_neg hc6).symm.trans hf
    refine J.iload_n (i := 2) dX0_press_8 rfl rfl ?_
    refine J.sipush (v := 200) dX0_press_9 (by decide) ?_
    refine J.sipush (v := 1200) dX0_press_12 (by decide) ?_
    replace hf := jbs hf
    obtain ⟨v9, hp8, h7, hf⟩ := hf
    refine J.callS (As := [.int p2, .int 200, .int 1200]) (k2 := 0) (n2 := 0) hDl hRm (w_X0_in h7) (lw_S q234 q235 q39 q236) hs_X0_in rfl (Nat.le_of_ble_eq_true rfl) (Nat.le_of_ble_eq_true rfl) (Nat.le_of_ble_eq_true rfl) (Nat.le_of_ble_eq_true rfl) (Nat.le_of_ble_eq_true rfl) (Nat.le_of_ble_eq_true rfl) (Nat.le_of_ble_eq_true rfl) rfl dX0_press_15 ?_
    refine J.if_ne (tgt := 24) dX0_press_18 (by decide) (fun hc10 => ?_) (fun hc10 => ?_)
    · replace hf := (if_neg hc10).symm.trans hf
      refine J.aload_n (i := 0) dX0_press_24 rfl rfl ?_
      replace hf := jbd hf
      obtain ⟨a11, h12, hf⟩ := hf
      refine J.getA 0 2 in_X0 rfl (Nat.le_of_ble_eq_true rfl) (Or.inl q145) (Or.inl rfl) h12 dX0_press_25 ?_
      refine J.iload_n (i := 1) dX0_press_28 rfl rfl ?_
      replace hf := jbd hf
      obtain ⟨a13, h14, hf⟩ := hf
      refine J.aaldA h14 dX0_press_29 ?_
      refine J.astore_n (i := 3) (lv' := [some (.ref this), some (.int p1), some (.int p2), some (.ref a13), none, none, none, none]) dX0_press_30 rfl (Nat.le_of_ble_eq_true rfl) rfl ?_
      refine J.aload_n (i := 3) dX0_press_31 rfl rfl ?_
      refine J.aload_n (i := 0) dX0_press_32 rfl rfl ?_
      replace hf := jbd hf
      obtain ⟨v15, h16, hf⟩ := hf
      refine J.getI 0 4 in_X0 rfl (Nat.le_of_ble_eq_true rfl) (Or.inl q147) (Or.inl rfl) h16 dX0_press_33 ?_
      replace hf := jbd hf
      obtain ⟨u17, h18, hf⟩ := hf
      replace hf := jbs hf
      obtain ⟨v21, hp20, h19, hf⟩ := hf
      refine J.callV (As := [.int v15]) (k2 := 0) (n2 := 0) 6 hDl hRm (w_X7_may h19) (lw_V q354 q355 q356 q49 q357) hd_X7_may rfl ⟨_, h18⟩ rfl (Nat.le_of_ble_eq_true rfl) (Nat.le_of_ble_eq_true rfl) (Nat.le_of_ble_eq_true rfl) (Nat.le_of_ble_eq_true rfl) (Nat.le_of_ble_eq_true rfl) (Nat.le_of_ble_eq_true rfl) (Nat.le_of_ble_eq_true rfl) rfl dX0_press_36 ?_
      refine J.if_ne (tgt := 45) dX0_press_39 (by decide) (fun hc22 => ?_) (fun hc22 => ?_)
      · replace hf := (if_neg hc22).symm.trans hf
        refine J.aload_n (i := 0) dX0_press_45 rfl rfl ?_
        replace hf := jbd hf
        obtain ⟨v23, h24, hf⟩ := hf
        refine J.getI 0 10 in_X0 rfl (Nat.le_of_ble_eq_true rfl) (Or.inl q155) (Or.inl rfl) h24 dX0_press_46 ?_
        refine J.sipush (v := 200) dX0_press_49 (by decide) ?_
        refine J.icmp_ne (tgt := 58) dX0_press_52 (by decide) (fun hc25 => ?_) (fun hc25 => ?_)
        · replace hf := (if_neg hc25).symm.trans hf
          replace hf := jbd hf
          obtain ⟨hp26, h27, hf⟩ := hf
          refine J.new (fs := [.null, .int 0, .int 0, .int 0, .int 0, .int 0, .int 0, .int 0]) (k2 := 1) (n2 := 8) 7 hRm in_X8 tyX8 tyX8_ok rfl q122 q377 q50 (by decide +kernel) (fun _ => rfl) rfl (Nat.le_of_ble_eq_true rfl) (Nat.le_of_ble_eq_true rfl) (Nat.le_of_ble_eq_true rfl) (Nat.le_of_ble_eq_true rfl) h27 dX0_press_58 ?_
          refine J.dup dX0_press_61 rfl ?_
          refine J.aload_n (i := 3) dX0_press_62 rfl rfl ?_
          refine J.iload_n (i := 2) dX0_press_63 rfl rfl ?_
          replace hf := jbd hf
          obtain ⟨hp29, h28, hf⟩ := hf
          refine J.callI (As := [.ref a13, .int p2]) (k2 := 1) (n2 := 8) hDl hRm (w_X8_init h28) (lw_meth q380) q50 q378 q379 hi_X8_init rfl (Nat.le_of_ble_eq_true rfl) (Nat.le_of_ble_eq_true rfl) (Nat.le_of_ble_eq_true rfl) (Nat.le_of_ble_eq_true rfl) (Nat.le_of_ble_eq_true rfl) (Nat.le_of_ble_eq_true rfl) (Nat.le_of_ble_eq_true rfl) rfl dX0_press_64 ?_
          refine J.astore (i := 4) (lv' := [some (.ref this), some (.int p1), some (.int p2), some (.ref a13), some (.ref (1000 + jNI hp20 this 0 10)), none, none, none]) dX0_press_67 (Nat.le_of_ble_eq_true rfl) rfl ?_
          refine J.aload dX0_press_69 rfl ?_
          refine J.aload_n (i := 0) dX0_press_71 rfl rfl ?_
          refine J.aload_n (i := 3) dX0_press_72 rfl rfl ?_
          replace hf := jbd hf
          obtain ⟨a30, h31, hf⟩ := hf
          refine J.getA 6 0 in_X7 rfl (Nat.le_of_ble_eq_true rfl) (Or.inr ⟨_, q303⟩) (Or.inl rfl) h31 dX0_press_73 ?_
          refine J.iload_n (i := 2) dX0_press_76 rfl rfl ?_
          replace hf := jbd hf
          obtain ⟨u32, h33, hf⟩ := hf
          replace hf := jbs hf
          obtain ⟨v36, hp35, h34, hf⟩ := hf
          refine J.callV (As := [.ref a30, .int p2]) (k2 := 1) (n2 := 8) 0 hDl hRm (w_X0_barOf h34) (lw_V q410 q412 qs3 q39 q413) hd_X0_barOf rfl ⟨_, h33⟩ rfl (Nat.le_of_ble_eq_true rfl) (Nat.le_of_ble_eq_true rfl) (Nat.le_of_ble_eq_true rfl) (Nat.le_of_ble_eq_true rfl) (Nat.le_of_ble_eq_true rfl) (Nat.le_of_ble_eq_true rfl) (Nat.le_of_ble_eq_true rfl) rfl dX0_press_77 ?_
          replace hf := jbd hf
          obtain ⟨hp37, h38, hf⟩ := hf
          refine J.put (ty := .int) 7 2 in_X8 ap7 rfl (Nat.le_of_ble_eq_true rfl) (Or.inr ⟨_, q386⟩) (Or.inl rfl) rfl (by decide +kernel) (fun _ => ⟨rfl, rfl⟩) h38 dX0_press_80 ?_
          refine J.aload_n (i := 0) dX0_press_83 rfl rfl ?_
          replace hf := jbd hf
          obtain ⟨a39, h40, hf⟩ := hf
          refine J.getA 0 8 in_X0 rfl (Nat.le_of_ble_eq_true rfl) (Or.inl q153) (Or.inl rfl) h40 dX0_press_84 ?_
          replace hf := jbd hf
          obtain ⟨v41, h42, hf⟩ := hf
          refine J.getI 2 0 in_X3 rfl (Nat.le_of_ble_eq_true rfl) (Or.inl q91) (Or.inr q92) h42 dX0_press_87 ?_
          refine J.istore (i := 5) (lv' := [some (.ref this), some (.int p1), some (.int p2), some (.ref a13), some (.ref (1000 + jNI hp20 this 0 10)), some (.int v41), none, none]) dX0_press_90 (Nat.le_of_ble_eq_true rfl) rfl ?_
          refine J.aload_n (i := 0) dX0_press_92 rfl rfl ?_
          refine J.aload dX0_press_93 rfl ?_
          replace hf := jbd hf
          obtain ⟨v43, h44, hf⟩ := hf
          refine J.getI 7 2 in_X8 rfl (Nat.le_of_ble_eq_true rfl) (Or.inr ⟨_, q386⟩) (Or.inl rfl) h44 dX0_press_95 ?_
          refine J.aload_n (i := 0) dX0_press_98 rfl rfl ?_
          replace hf := jbd hf
          obtain ⟨r47, h46, hf⟩ := hf
          cases r47 with
          | none =>
            refine J.getRn 0 11 in_X0 rfl (Nat.le_of_ble_eq_true rfl) (Or.inl q156) (Or.inl rfl) h46 dX0_press_99 ?_
            refine J.aload_n (i := 3) dX0_press_102 rfl rfl ?_
            refine J.acmp_neN (tgt := 123) dX0_press_103 (by decide) ?_
            refine J.mask (lv' := [some (.ref this), none, none, some (.ref a13), some (.ref (1000 + jNI hp20 this 0 10)), some (.int v41), none, none]) [true, false, false, true, true, true, false, false] rfl ?_
            exact w_X0_press_j123 hDl hRm hE hX0 hf
          | some a45 =>
            refine J.getRs 0 11 in_X0 rfl (Nat.le_of_ble_eq_true rfl) (Or.inl q156) (Or.inl rfl) h46 dX0_press_99 ?_
            refine J.aload_n (i := 3) dX0_press_102 rfl rfl ?_
            refine J.acmp_ne (tgt := 123) dX0_press_103 (by decide) (fun hc132 => ?_) (fun hc132 => ?_)
            · replace hf := (if_neg hc132).symm.trans hf
              refine J.mask (lv' := [some (.ref this), none, none, some (.ref a13), some (.ref (1000 + jNI hp20 this 0 10)), some (.int v41), none, none]) [true, false, false, true, true, true, false, false] rfl ?_
              exact w_X0_press_j123 hDl hRm hE hX0 hf
            · replace hf := (if_pos hc132).symm.trans hf
              refine J.aload_n (i := 0) dX0_press_106 rfl rfl ?_
              replace hf := jbd hf
              obtain ⟨v133, h134, hf⟩ := hf
              refine J.getI 0 12 in_X0 rfl (Nat.le_of_ble_eq_true rfl) (Or.inl q157) (Or.inl rfl) h134 dX0_press_107 ?_
              refine J.aload_n (i := 0) dX0_press_110 rfl rfl ?_
              replace hf := jbd hf
              obtain ⟨v135, h136, hf⟩ := hf
              refine J.getI 0 4 in_X0 rfl (Nat.le_of_ble_eq_true rfl) (Or.inl q147) (Or.inl rfl) h136 dX0_press_111 ?_
              refine J.iconst (v := 1) dX0_press_114 (by decide) ?_
              refine J.isub dX0_press_115 ?_
              refine J.icmp_ne (tgt := 123) dX0_press_116 (by decide) (fun hc137 => ?_) (fun hc137 => ?_)
              · replace hf := (if_neg hc137).symm.trans hf
                refine J.mask (lv' := [some (.ref this), none, none, some (.ref a13), some (.ref (1000 + jNI hp20 this 0 10)), some (.int v41), none, none]) [true, false, false, true, true, true, false, false] rfl ?_
                exact w_X0_press_j123 hDl hRm hE hX0 hf
              · replace hf := (if_pos hc137).symm.trans hf
                refine J.iconst (v := 1) dX0_press_119 (by decide) ?_
                refine J.goto (tgt := 124) dX0_press_120 (by decide) ?_
                refine J.mask (lv' := [some (.ref this), none, none, some (.ref a13), some (.ref (1000 + jNI hp20 this 0 10)), some (.int v41), none, none]) [true, false, false, true, true, true, false, false] rfl ?_
                exact w_X0_press_j124 hDl hRm hE hX0 hf
        · replace hf := (if_pos hc25).symm.trans hf
          refine J.bipush (v := (-4)) dX0_press_55 (by decide) ?_
          obtain ⟨rfl, rfl⟩ := jso hf
          exact J.iret hE (Nat.le_of_ble_eq_true rfl) (Nat.le_of_ble_eq_true rfl) dX0_press_57
      · replace hf := (if_pos hc22).symm.trans hf
        refine J.bipush (v := (-3)) dX0_press_42 (by decide) ?_
        obtain ⟨rfl, rfl⟩ := jso hf
        exact J.iret hE (Nat.le_of_ble_eq_true rfl) (Nat.le_of_ble_eq_true rfl) dX0_press_44
    · replace hf := (if_pos hc10).symm.trans hf
      refine J.bipush (v := (-2)) dX0_press_21 (by decide) ?_
      obtain ⟨rfl, rfl⟩ := jso hf
      exact J.iret hE (Nat.le_of_ble_eq_true rfl) (Nat.le_of_ble_eq_true rfl) dX0_press_23
def rm_X0_bar : Room := { frames := 2, cells := 0, slots := 0, locals := 43 }
theorem hd_X0_bar : yX0_bar.cls = RX0 ∧ yX0_bar.cls ≠ "java/lang/invoke/MethodHandle" ∧ yX0_bar.cls ≠ "java/lang/invoke/VarHandle" ∧ (parseMethodDescriptor yX0_bar.desc).map (fun d => d.parameters.length) = some 2 := by decide +kernel
set_option maxHeartbeats 4000000 in
set_option maxRecDepth 100000 in
theorem w_X0_bar {D : va_G} {l : Launch} {hp hpE : jH} {rE : Int32} {this : Nat} {p1 : Int32} {p2 : Int32} (hf : f_X0_bar this p1 p2 hp = some (rE, hpE)) : jM D l yX0_bar (ws_ yX0_bar cX0_bar 4 (some .int)) rm_X0_bar hp [.ref this, .int p1, .int p2] (some (.int rE)) hpE := by
  refine jM.of (lv0 := [some (.ref this), some (.int p1), some (.int p2), none]) (by decide) (Nat.le_of_ble_eq_true rfl) rfl (fun X hDl hRm hE hX0 => ?_)
  rw [f_X0_bar] at hf
  refine J.aload_n (i := 0) dX0_bar_0 rfl rfl ?_
  refine J.iload_n (i := 1) dX0_bar_1 rfl rfl ?_
  replace hf := jbd hf
  obtain ⟨u1, h2, hf⟩ := hf
  replace hf := jbs hf
  obtain ⟨v5, hp4, h3, hf⟩ := hf
  refine J.callV (As := [.int p1]) (k2 := 0) (n2 := 0) 0 hDl hRm (w_X0_isBar h3) (lw_V q477 q479 qs7 q39 q480) hd_X0_isBar rfl ⟨_, h2⟩ rfl (Nat.le_of_ble_eq_true rfl) (Nat.le_of_ble_eq_true rfl) (Nat.le_of_ble_eq_true rfl) (Nat.le_of_ble_eq_true rfl) (Nat.le_of_ble_eq_true rfl) (Nat.le_of_ble_eq_true rfl) (Nat.le_of_ble_eq_true rfl) rfl dX0_bar_2 ?_
  refine J.if_ne (tgt := 11) dX0_bar_5 (by decide) (fun hc6 => ?_) (fun hc6 => ?_)
  · replace hf := (if_neg hc6).symm.trans hf
    refine J.aload_n (i := 0) dX0_bar_11 rfl rfl ?_
    replace hf := jbd hf
    obtain ⟨a7, h8, hf⟩ := hf
    refine J.getA 0 9 in_X0 rfl (Nat.le_of_ble_eq_true rfl) (Or.inl q154) (Or.inl rfl) h8 dX0_bar_12 ?_
    refine J.iload_n (i := 1) dX0_bar_15 rfl rfl ?_
    replace hf := jbd hf
    obtain ⟨a9, h10, hf⟩ := hf
    refine J.aaldA h10 dX0_bar_16 ?_
    refine J.astore_n (i := 3) (lv' := [some (.ref this), some (.int p1), some (.int p2), some (.ref a9)]) dX0_bar_17 rfl (Nat.le_of_ble_eq_true rfl) rfl ?_
    refine J.iload_n (i := 2) dX0_bar_18 rfl rfl ?_
    by_cases hc11 : p2 = (0 : Int32)
    · replace hf := (if_pos hc11).symm.trans hf
      refine J.tableIn (tgt := 60) dX0_bar_19 (by rw [hc11]; decide) (by rw [hc11]; decide) (by rw [hc11]; rfl) (by decide) ?_
      refine J.aload_n (i := 3) dX0_bar_60 rfl rfl ?_
      replace hf := jbd hf
      obtain ⟨a12, h13, hf⟩ := hf
      refine J.getA 7 0 in_X8 rfl (Nat.le_of_ble_eq_true rfl) (Or.inr ⟨_, q383⟩) (Or.inl rfl) h13 dX0_bar_61 ?_
      replace hf := jbd hf
      obtain ⟨v14, h15, hf⟩ := hf
      refine J.getI 6 1 in_X7 rfl (Nat.le_of_ble_eq_true rfl) (Or.inr ⟨_, q305⟩) (Or.inl rfl) h15 dX0_bar_64 ?_
      obtain ⟨rfl, rfl⟩ := jso hf
      exact J.iret hE (Nat.le_of_ble_eq_true rfl) (Nat.le_of_ble_eq_true rfl) dX0_bar_67
    replace hf := (if_neg hc11).symm.trans hf
    by_cases hc16 : p2 = (1 : Int32)
    · replace hf := (if_pos hc16).symm.trans hf
      refine J.tableIn (tgt := 68) dX0_bar_19 (by rw [hc16]; decide) (by rw [hc16]; decide) (by rw [hc16]; rfl) (by decide) ?_
      refine J.aload_n (i := 3) dX0_bar_68 rfl rfl ?_
      replace hf := jbd hf
      obtain ⟨v17, h18, hf⟩ := hf
      refine J.getI 7 1 in_X8 rfl (Nat.le_of_ble_eq_true rfl) (Or.inr ⟨_, q385⟩) (Or.inl rfl) h18 dX0_bar_69 ?_
      obtain ⟨rfl, rfl⟩ := jso hf
      exact J.iret hE (Nat.le_of_ble_eq_true rfl) (Nat.le_of_ble_eq_true rfl) dX0_bar_72
    replace hf := (if_neg hc16).symm.trans hf
    by_cases hc19 : p2 = (2 : Int32)
    · replace hf := (if_pos hc19).symm.trans hf
      refine J.tableIn (tgt := 73) dX0_bar_19 (by rw [hc19]; decide) (by rw [hc19]; decide) (by rw [hc19]; rfl) (by decide) ?_
      refine J.aload_n (i := 3) dX0_bar_73 rfl rfl ?_
      replace hf := jbd hf
      obtain ⟨v20, h21, hf⟩ := hf
      refine J.getI 7 2 in_X8 rfl (Nat.le_of_ble_eq_true rfl) (Or.inr ⟨_, q386⟩) (Or.inl rfl) h21 dX0_bar_74 ?_
      obtain ⟨rfl, rfl⟩ := jso hf
      exact J.iret hE (Nat.le_of_ble_eq_true rfl) (Nat.le_of_ble_eq_true rfl) dX0_bar_77
    replace hf := (if_neg hc19).symm.trans hf
    by_cases hc22 : p2 = (3 : Int32)
    · replace hf := (if_pos hc22).symm.trans hf
      refine J.tableIn (tgt := 78) dX0_bar_19 (by rw [hc22]; decide) (by rw [hc22]; decide) (by rw [hc22]; rfl) (by decide) ?_
      refine J.aload_n (i := 3) dX0_bar_78 rfl rfl ?_
      replace hf := jbd hf
      obtain ⟨v23, h24, hf⟩ := hf
      refine J.getI 7 3 in_X8 rfl (Nat.le_of_ble_eq_true rfl) (Or.inr ⟨_, q387⟩) (Or.inl rfl) h24 dX0_bar_79 ?_
      obtain ⟨rfl, rfl⟩ := jso hf
      exact J.iret hE (Nat.le_of_ble_eq_true rfl) (Nat.le_of_ble_eq_true rfl) dX0_bar_82
    replace hf := (if_neg hc22).symm.trans hf
    by_cases hc25 : p2 = (4 : Int32)
    · replace hf := (if_pos hc25).symm.trans hf
      refine J.tableIn (tgt := 83) dX0_bar_19 (by rw [hc25]; decide) (by rw [hc25]; decide) (by rw [hc25]; rfl) (by decide) ?_
      refine J.aload_n (i := 3) dX0_bar_83 rfl rfl ?_
      replace hf := jbd hf
      obtain ⟨v26, h27, hf⟩ := hf
      refine J.getI 7 4 in_X8 rfl (Nat.le_of_ble_eq_true rfl) (Or.inr ⟨_, q388⟩) (Or.inl rfl) h27 dX0_bar_84 ?_
      obtain ⟨rfl, rfl⟩ := jso hf
      exact J.iret hE (Nat.le_of_ble_eq_true rfl) (Nat.le_of_ble_eq_true rfl) dX0_bar_87
    replace hf := (if_neg hc25).symm.trans hf
    by_cases hc28 : p2 = (5 : Int32)
    · replace hf := (if_pos hc28).symm.trans hf
      refine J.tableIn (tgt := 88) dX0_bar_19 (by rw [hc28]; decide) (by rw [hc28]; decide) (by rw [hc28]; rfl) (by decide) ?_
      refine J.aload_n (i := 3) dX0_bar_88 rfl rfl ?_
      replace hf := jbd hf
      obtain ⟨v29, h30, hf⟩ := hf
      refine J.getI 7 5 in_X8 rfl (Nat.le_of_ble_eq_true rfl) (Or.inr ⟨_, q389⟩) (Or.inl rfl) h30 dX0_bar_89 ?_
      obtain ⟨rfl, rfl⟩ := jso hf
      exact J.iret hE (Nat.le_of_ble_eq_true rfl) (Nat.le_of_ble_eq_true rfl) dX0_bar_92
    replace hf := (if_neg hc28).symm.trans hf
    by_cases hc31 : p2 = (6 : Int32)
    · replace hf := (if_pos hc31).symm.trans hf
      refine J.tableIn (tgt := 93) dX0_bar_19 (by rw [hc31]; decide) (by rw [hc31]; decide) (by rw [hc31]; rfl) (by decide) ?_
      refine J.aload_n (i := 3) dX0_bar_93 rfl rfl ?_
      replace hf := jbd hf
      obtain ⟨v32, h33, hf⟩ := hf
      refine J.getI 7 6 in_X8 rfl (Nat.le_of_ble_eq_true rfl) (Or.inr ⟨_, q391⟩) (Or.inl rfl) h33 dX0_bar_94 ?_
      obtain ⟨rfl, rfl⟩ := jso hf
      exact J.iret hE (Nat.le_of_ble_eq_true rfl) (Nat.le_of_ble_eq_true rfl) dX0_bar_97
    replace hf := (if_neg hc31).symm.trans hf
    refine J.tableOut (tgt := 98) dX0_bar_19 (by have ehc11 := lv_neT hc11 (show (0 : Int32).toInt = 0 from rfl); have ehc16 := lv_neT hc16 (show (1 : Int32).toInt = 1 from rfl); have ehc19 := lv_neT hc19 (show (2 : Int32).toInt = 2 from rfl); have ehc22 := lv_neT hc22 (show (3 : Int32).toInt = 3 from rfl); have ehc25 := lv_neT hc25 (show (4 : Int32).toInt = 4 from rfl); have ehc28 := lv_neT hc28 (show (5 : Int32).toInt = 5 from rfl); have ehc31 := lv_neT hc31 (show (6 : Int32).toInt = 6 from rfl); omega) (by decide) ?_
    refine J.bipush (v := (-2)) dX0_bar_98 (by decide) ?_
    obtain ⟨rfl, rfl⟩ := jso hf
    exact J.iret hE (Nat.le_of_ble_eq_true rfl) (Nat.le_of_ble_eq_true rfl) dX0_bar_100
  · replace hf := (if_pos hc6).symm.trans hf
    refine J.bipush (v := (-2)) dX0_bar_8 (by decide) ?_
    obtain ⟨rfl, rfl⟩ := jso hf
    exact J.iret hE (Nat.le_of_ble_eq_true rfl) (Nat.le_of_ble_eq_true rfl) dX0_bar_10
def rm_X0_order : Room := { frames := 5, cells := 2, slots := 12, locals := 111 }
theorem hd_X0_order : yX0_order.cls = RX0 ∧ yX0_order.cls ≠ "java/lang/invoke/MethodHandle" ∧ yX0_order.cls ≠ "java/lang/invoke/VarHandle" ∧ (parseMethodDescriptor yX0_order.desc).map (fun d => d.parameters.length) = some 3 := by decide +kernel
set_option maxHeartbeats 4000000 in
set_option maxRecDepth 100000 in
theorem w_X0_order {D : va_G} {l : Launch} {hp hpE : jH} {rE : Int32} {this : Nat} {p1 : Int32} {p2 : Int32} {p3 : Int32} (hf : f_X0_order this p1 p2 p3 hp = some (rE, hpE)) : jM D l yX0_order (ws_ yX0_order cX0_order 5 (some .int)) rm_X0_order hp [.ref this, .int p1, .int p2, .int p3] (some (.int rE)) hpE := by
  refine jM.of (lv0 := [some (.ref this), some (.int p1), some (.int p2), some (.int p3), none]) (by decide) (Nat.le_of_ble_eq_true rfl) rfl (fun X hDl hRm hE hX0 => ?_)
  rw [f_X0_order] at hf
  refine J.aload_n (i := 0) dX0_order_0 rfl rfl ?_
  refine J.iload_n (i := 1) dX0_order_1 rfl rfl ?_
  replace hf := jbd hf
  obtain ⟨u1, h2, hf⟩ := hf
  replace hf := jbs hf
  obtain ⟨v5, hp4, h3, hf⟩ := hf
  refine J.callV (As := [.int p1]) (k2 := 0) (n2 := 0) 0 hDl hRm (w_X0_isProfile h3) (lw_V q293 q295 qs0 q39 q296) hd_X0_isProfile rfl ⟨_, h2⟩ rfl (Nat.le_of_ble_eq_true rfl) (Nat.le_of_ble_eq_true rfl) (Nat.le_of_ble_eq_true rfl) (Nat.le_of_ble_eq_true rfl) (Nat.le_of_ble_eq_true rfl) (Nat.le_of_ble_eq_true rfl) (Nat.le_of_ble_eq_true rfl) rfl dX0_order_2 ?_
  refine J.if_eq (tgt := 31) dX0_order_5 (by decide) (fun hc6 => ?_) (fun hc6 => ?_)
  · replace hf := (if_pos hc6).symm.trans hf
    refine J.bipush (v := (-2)) dX0_order_31 (by decide) ?_
    obtain ⟨rfl, rfl⟩ := jso hf
    exact J.iret hE (Nat.le_of_ble_eq_true rfl) (Nat.le_of_ble_eq_true rfl) dX0_order_33
  · replace hf := (if_neg hc6).symm.trans hf
    refine J.iload_n (i := 2) dX0_order_8 rfl rfl ?_
    refine J.bipush (v := 100) dX0_order_9 (by decide) ?_
    refine J.sipush (v := 9000) dX0_order_11 (by decide) ?_
    replace hf := jbs hf
    obtain ⟨v9, hp8, h7, hf⟩ := hf
    refine J.callS (As := [.int p2, .int 100, .int 9000]) (k2 := 0) (n2 := 0) hDl hRm (w_X0_in h7) (lw_S q234 q235 q39 q236) hs_X0_in rfl (Nat.le_of_ble_eq_true rfl) (Nat.le_of_ble_eq_true rfl) (Nat.le_of_ble_eq_true rfl) (Nat.le_of_ble_eq_true rfl) (Nat.le_of_ble_eq_true rfl) (Nat.le_of_ble_eq_true rfl) (Nat.le_of_ble_eq_true rfl) rfl dX0_order_14 ?_
    refine J.if_eq (tgt := 31) dX0_order_17 (by decide) (fun hc10 => ?_) (fun hc10 => ?_)
    · replace hf := (if_pos hc10).symm.trans hf
      refine J.bipush (v := (-2)) dX0_order_31 (by decide) ?_
      obtain ⟨rfl, rfl⟩ := jso hf
      exact J.iret hE (Nat.le_of_ble_eq_true rfl) (Nat.le_of_ble_eq_true rfl) dX0_order_33
    · replace hf := (if_neg hc10).symm.trans hf
      refine J.iload_n (i := 3) dX0_order_20 rfl rfl ?_
      refine J.iconst (v := 0) dX0_order_21 (by decide) ?_
      refine J.sipush (v := 500) dX0_order_22 (by decide) ?_
      replace hf := jbs hf
      obtain ⟨v13, hp12, h11, hf⟩ := hf
      refine J.callS (As := [.int p3, .int 0, .int 500]) (k2 := 0) (n2 := 0) hDl hRm (w_X0_in h11) (lw_S q234 q235 q39 q236) hs_X0_in rfl (Nat.le_of_ble_eq_true rfl) (Nat.le_of_ble_eq_true rfl) (Nat.le_of_ble_eq_true rfl) (Nat.le_of_ble_eq_true rfl) (Nat.le_of_ble_eq_true rfl) (Nat.le_of_ble_eq_true rfl) (Nat.le_of_ble_eq_true rfl) rfl dX0_order_25 ?_
      refine J.if_ne (tgt := 34) dX0_order_28 (by decide) (fun hc14 => ?_) (fun hc14 => ?_)
      · replace hf := (if_neg hc14).symm.trans hf
        refine J.aload_n (i := 0) dX0_order_34 rfl rfl ?_
        replace hf := jbd hf
        obtain ⟨a15, h16, hf⟩ := hf
        refine J.getA 0 0 in_X0 rfl (Nat.le_of_ble_eq_true rfl) (Or.inl q143) (Or.inl rfl) h16 dX0_order_35 ?_
        refine J.iload_n (i := 1) dX0_order_38 rfl rfl ?_
        replace hf := jbd hf
        obtain ⟨a17, h18, hf⟩ := hf
        refine J.aaldA h18 dX0_order_39 ?_
        replace hf := jbd hf
        obtain ⟨a19, h20, hf⟩ := hf
        refine J.getA 4 4 in_X6 rfl (Nat.le_of_ble_eq_true rfl) (Or.inr ⟨_, q277⟩) (Or.inl rfl) h20 dX0_order_40 ?_
        refine J.astore (i := 4) (lv' := [some (.ref this), some (.int p1), some (.int p2), some (.int p3), some (.ref a19)]) dX0_order_43 (Nat.le_of_ble_eq_true rfl) rfl ?_
        refine J.aload dX0_order_45 rfl ?_
        replace hf := jbd hf
        obtain ⟨u21, h22, hf⟩ := hf
        replace hf := jbs hf
        obtain ⟨v25, hp24, h23, hf⟩ := hf
        refine J.callV (As := []) (k2 := 0) (n2 := 0) 5 hDl hRm (w_J2_size h23) (lw_V q449 q450 q451 q48 q452) hd_J2_size rfl ⟨_, h22⟩ rfl (Nat.le_of_ble_eq_true rfl) (Nat.le_of_ble_eq_true rfl) (Nat.le_of_ble_eq_true rfl) (Nat.le_of_ble_eq_true rfl) (Nat.le_of_ble_eq_true rfl) (Nat.le_of_ble_eq_true rfl) (Nat.le_of_ble_eq_true rfl) rfl dX0_order_47 ?_
        refine J.iconst (v := 3) dX0_order_50 (by decide) ?_
        refine J.icmp_ne (tgt := 57) dX0_order_51 (by decide) (fun hc26 => ?_) (fun hc26 => ?_)
        · replace hf := (if_neg hc26).symm.trans hf
          refine J.aload dX0_order_57 rfl ?_
          replace hf := jbd hf
          obtain ⟨hp27, h28, hf⟩ := hf
          refine J.new (fs := [.int 0, .int 0]) (k2 := 1) (n2 := 2) 8 hRm in_X9 tyX9 tyX9_ok rfl q467 q485 q54 (by decide +kernel) (fun _ => rfl) rfl (Nat.le_of_ble_eq_true rfl) (Nat.le_of_ble_eq_true rfl) (Nat.le_of_ble_eq_true rfl) (Nat.le_of_ble_eq_true rfl) h28 dX0_order_59 ?_
          refine J.dup dX0_order_62 rfl ?_
          refine J.iload_n (i := 2) dX0_order_63 rfl rfl ?_
          refine J.iload_n (i := 3) dX0_order_64 rfl rfl ?_
          replace hf := jbd hf
          obtain ⟨hp30, h29, hf⟩ := hf
          refine J.callI (As := [.int p2, .int p3]) (k2 := 1) (n2 := 2) hDl hRm (w_X9_init h29) (lw_meth q488) q54 q486 q487 hi_X9_init rfl (Nat.le_of_ble_eq_true rfl) (Nat.le_of_ble_eq_true rfl) (Nat.le_of_ble_eq_true rfl) (Nat.le_of_ble_eq_true rfl) (Nat.le_of_ble_eq_true rfl) (Nat.le_of_ble_eq_true rfl) (Nat.le_of_ble_eq_true rfl) rfl dX0_order_65 ?_
          replace hf := jbd hf
          obtain ⟨u31, h32, hf⟩ := hf
          replace hf := jbs hf
          obtain ⟨v35, hp34, h33, hf⟩ := hf
          refine J.callV (As := [.ref (a19 + 2 + jNI hp24 a19 5 2)]) (k2 := 2) (n2 := 12) 5 hDl hRm (w_J2_add h33) (lw_V q499 q500 q501 q48 q502) hd_J2_add rfl ⟨_, h32⟩ rfl (Nat.le_of_ble_eq_true rfl) (Nat.le_of_ble_eq_true rfl) (Nat.le_of_ble_eq_true rfl) (Nat.le_of_ble_eq_true rfl) (Nat.le_of_ble_eq_true rfl) (Nat.le_of_ble_eq_true rfl) (Nat.le_of_ble_eq_true rfl) rfl dX0_order_68 ?_
          refine J.pop dX0_order_71 rfl ?_
          refine J.aload dX0_order_72 rfl ?_
          replace hf := jbd hf
          obtain ⟨u36, h37, hf⟩ := hf
          replace hf := jbs hf
          obtain ⟨v40, hp39, h38, hf⟩ := hf
          refine J.callV (As := []) (k2 := 2) (n2 := 12) 5 hDl hRm (w_J2_size h38) (lw_V q449 q450 q451 q48 q452) hd_J2_size rfl ⟨_, h37⟩ rfl (Nat.le_of_ble_eq_true rfl) (Nat.le_of_ble_eq_true rfl) (Nat.le_of_ble_eq_true rfl) (Nat.le_of_ble_eq_true rfl) (Nat.le_of_ble_eq_true rfl) (Nat.le_of_ble_eq_true rfl) (Nat.le_of_ble_eq_true rfl) rfl dX0_order_74 ?_
          refine J.iconst (v := 1) dX0_order_77 (by decide) ?_
          refine J.isub dX0_order_78 ?_
          obtain ⟨rfl, rfl⟩ := jso hf
          exact J.iret hE (Nat.le_of_ble_eq_true rfl) (Nat.le_of_ble_eq_true rfl) dX0_order_79
        · replace hf := (if_pos hc26).symm.trans hf
          refine J.bipush (v := (-4)) dX0_order_54 (by decide) ?_
          obtain ⟨rfl, rfl⟩ := jso hf
          exact J.iret hE (Nat.le_of_ble_eq_true rfl) (Nat.le_of_ble_eq_true rfl) dX0_order_56
      · replace hf := (if_pos hc14).symm.trans hf
        refine J.bipush (v := (-2)) dX0_order_31 (by decide) ?_
        obtain ⟨rfl, rfl⟩ := jso hf
        exact J.iret hE (Nat.le_of_ble_eq_true rfl) (Nat.le_of_ble_eq_true rfl) dX0_order_33
def rm_X0_wanted : Room := { frames := 3, cells := 0, slots := 0, locals := 64 }
theorem hd_X0_wanted : yX0_wanted.cls = RX0 ∧ yX0_wanted.cls ≠ "java/lang/invoke/MethodHandle" ∧ yX0_wanted.cls ≠ "java/lang/invoke/VarHandle" ∧ (parseMethodDescriptor yX0_wanted.desc).map (fun d => d.parameters.length) = some 2 := by decide +kernel
set_option maxHeartbeats 4000000 in
set_option maxRecDepth 100000 in
theorem w_X0_wanted {D : va_G} {l : Launch} {hp hpE : jH} {rE : Int32} {this : Nat} {p1 : Int32} {p2 : Int32} (hf : f_X0_wanted this p1 p2 hp = some (rE, hpE)) : jM D l yX0_wanted (ws_ yX0_wanted cX0_wanted 3 (some .int)) rm_X0_wanted hp [.ref this, .int p1, .int p2] (some (.int rE)) hpE := by
  refine jM.of (lv0 := [some (.ref this), some (.int p1), some (.int p2)]) (by decide) (Nat.le_of_ble_eq_true rfl) rfl (fun X hDl hRm hE hX0 => ?_)
  rw [f_X0_wanted] at hf
  refine J.aload_n (i := 0) dX0_wanted_0 rfl rfl ?_
  refine J.iload_n (i := 1) dX0_wanted_1 rfl rfl ?_
  replace hf := jbd hf
  obtain ⟨u1, h2, hf⟩ := hf
  replace hf := jbs hf
  obtain ⟨v5, hp4, h3, hf⟩ := hf
  refine J.callV (As := [.int p1]) (k2 := 0) (n2 := 0) 0 hDl hRm (w_X0_isProfile h3) (lw_V q293 q295 qs0 q39 q296) hd_X0_isProfile rfl ⟨_, h2⟩ rfl (Nat.le_of_ble_eq_true rfl) (Nat.le_of_ble_eq_true rfl) (Nat.le_of_ble_eq_true rfl) (Nat.le_of_ble_eq_true rfl) (Nat.le_of_ble_eq_true rfl) (Nat.le_of_ble_eq_true rfl) (Nat.le_of_ble_eq_true rfl) rfl dX0_wanted_2 ?_
  refine J.if_eq (tgt := 52) dX0_wanted_5 (by decide) (fun hc6 => ?_) (fun hc6 => ?_)
  · replace hf := (if_pos hc6).symm.trans hf
    refine J.bipush (v := (-2)) dX0_wanted_52 (by decide) ?_
    obtain ⟨rfl, rfl⟩ := jso hf
    exact J.iret hE (Nat.le_of_ble_eq_true rfl) (Nat.le_of_ble_eq_true rfl) dX0_wanted_54
  · replace hf := (if_neg hc6).symm.trans hf
    refine J.iload_n (i := 2) dX0_wanted_8 rfl rfl ?_
    refine J.iconst (v := 0) dX0_wanted_9 (by decide) ?_
    refine J.aload_n (i := 0) dX0_wanted_10 rfl rfl ?_
    replace hf := jbd hf
    obtain ⟨a7, h8, hf⟩ := hf
    refine J.getA 0 0 in_X0 rfl (Nat.le_of_ble_eq_true rfl) (Or.inl q143) (Or.inl rfl) h8 dX0_wanted_11 ?_
    refine J.iload_n (i := 1) dX0_wanted_14 rfl rfl ?_
    replace hf := jbd hf
    obtain ⟨a9, h10, hf⟩ := hf
    refine J.aaldA h10 dX0_wanted_15 ?_
    replace hf := jbd hf
    obtain ⟨a11, h12, hf⟩ := hf
    refine J.getA 4 4 in_X6 rfl (Nat.le_of_ble_eq_true rfl) (Or.inr ⟨_, q277⟩) (Or.inl rfl) h12 dX0_wanted_16 ?_
    replace hf := jbd hf
    obtain ⟨u13, h14, hf⟩ := hf
    replace hf := jbs hf
    obtain ⟨v17, hp16, h15, hf⟩ := hf
    refine J.callV (As := []) (k2 := 0) (n2 := 0) 5 hDl hRm (w_J2_size h15) (lw_V q449 q450 q451 q48 q452) hd_J2_size rfl ⟨_, h14⟩ rfl (Nat.le_of_ble_eq_true rfl) (Nat.le_of_ble_eq_true rfl) (Nat.le_of_ble_eq_true rfl) (Nat.le_of_ble_eq_true rfl) (Nat.le_of_ble_eq_true rfl) (Nat.le_of_ble_eq_true rfl) (Nat.le_of_ble_eq_true rfl) rfl dX0_wanted_19 ?_
    refine J.iconst (v := 1) dX0_wanted_22 (by decide) ?_
    refine J.isub dX0_wanted_23 ?_
    replace hf := jbs hf
    obtain ⟨v20, hp19, h18, hf⟩ := hf
    refine J.callS (As := [.int p2, .int 0, .int (v17 - 1)]) (k2 := 0) (n2 := 0) hDl hRm (w_X0_in h18) (lw_S q234 q235 q39 q236) hs_X0_in rfl (Nat.le_of_ble_eq_true rfl) (Nat.le_of_ble_eq_true rfl) (Nat.le_of_ble_eq_true rfl) (Nat.le_of_ble_eq_true rfl) (Nat.le_of_ble_eq_true rfl) (Nat.le_of_ble_eq_true rfl) (Nat.le_of_ble_eq_true rfl) rfl dX0_wanted_24 ?_
    refine J.if_eq (tgt := 52) dX0_wanted_27 (by decide) (fun hc21 => ?_) (fun hc21 => ?_)
    · replace hf := (if_pos hc21).symm.trans hf
      refine J.bipush (v := (-2)) dX0_wanted_52 (by decide) ?_
      obtain ⟨rfl, rfl⟩ := jso hf
      exact J.iret hE (Nat.le_of_ble_eq_true rfl) (Nat.le_of_ble_eq_true rfl) dX0_wanted_54
    · replace hf := (if_neg hc21).symm.trans hf
      refine J.aload_n (i := 0) dX0_wanted_30 rfl rfl ?_
      replace hf := jbd hf
      obtain ⟨a22, h23, hf⟩ := hf
      refine J.getA 0 0 in_X0 rfl (Nat.le_of_ble_eq_true rfl) (Or.inl q143) (Or.inl rfl) h23 dX0_wanted_31 ?_
      refine J.iload_n (i := 1) dX0_wanted_34 rfl rfl ?_
      replace hf := jbd hf
      obtain ⟨a24, h25, hf⟩ := hf
      refine J.aaldA h25 dX0_wanted_35 ?_
      replace hf := jbd hf
      obtain ⟨a26, h27, hf⟩ := hf
      refine J.getA 4 4 in_X6 rfl (Nat.le_of_ble_eq_true rfl) (Or.inr ⟨_, q277⟩) (Or.inl rfl) h27 dX0_wanted_36 ?_
      refine J.iload_n (i := 2) dX0_wanted_39 rfl rfl ?_
      replace hf := jbd hf
      obtain ⟨u28, h29, hf⟩ := hf
      replace hf := jbs hf
      obtain ⟨a32, hp31, h30, hf⟩ := hf
      refine J.callV (As := [.int p2]) (k2 := 0) (n2 := 0) 5 hDl hRm (w_J2_get h30) (lw_V q453 q454 q455 q48 q456) hd_J2_get rfl ⟨_, h29⟩ rfl (Nat.le_of_ble_eq_true rfl) (Nat.le_of_ble_eq_true rfl) (Nat.le_of_ble_eq_true rfl) (Nat.le_of_ble_eq_true rfl) (Nat.le_of_ble_eq_true rfl) (Nat.le_of_ble_eq_true rfl) (Nat.le_of_ble_eq_true rfl) rfl dX0_wanted_40 ?_
      replace hf := jbd hf
      obtain ⟨u34, h33, hf⟩ := hf
      refine J.castO 8 rfl q467 ⟨_, h33⟩ dX0_wanted_43 ?_
      replace hf := jbd hf
      obtain ⟨v35, h36, hf⟩ := hf
      refine J.getI 8 1 in_X9 rfl (Nat.le_of_ble_eq_true rfl) (Or.inr ⟨_, q493⟩) (Or.inl rfl) h36 dX0_wanted_46 ?_
      refine J.goto (tgt := 54) dX0_wanted_49 (by decide) ?_
      obtain ⟨rfl, rfl⟩ := jso hf
      exact J.iret hE (Nat.le_of_ble_eq_true rfl) (Nat.le_of_ble_eq_true rfl) dX0_wanted_54
def rm_X0_pattern : Room := { frames := 5, cells := 0, slots := 0, locals := 119 }
theorem hd_X0_pattern : yX0_pattern.cls = RX0 ∧ yX0_pattern.cls ≠ "java/lang/invoke/MethodHandle" ∧ yX0_pattern.cls ≠ "java/lang/invoke/VarHandle" ∧ (parseMethodDescriptor yX0_pattern.desc).map (fun d => d.parameters.length) = some 3 := by decide +kernel
set_option maxHeartbeats 4000000 in
set_option maxRecDepth 100000 in
theorem w_X0_pattern {D : va_G} {l : Launch} {hp hpE : jH} {rE : Int32} {this : Nat} {p1 : Int32} {p2 : Int32} {p3 : Int32} (hf : f_X0_pattern this p1 p2 p3 hp = some (rE, hpE)) : jM D l yX0_pattern (ws_ yX0_pattern cX0_pattern 4 (some .int)) rm_X0_pattern hp [.ref this, .int p1, .int p2, .int p3] (some (.int rE)) hpE := by
  refine jM.of (lv0 := [some (.ref this), some (.int p1), some (.int p2), some (.int p3)]) (by decide) (Nat.le_of_ble_eq_true rfl) rfl (fun X hDl hRm hE hX0 => ?_)
  rw [f_X0_pattern] at hf
  refine J.aload_n (i := 0) dX0_pattern_0 rfl rfl ?_
  refine J.iload_n (i := 1) dX0_pattern_1 rfl rfl ?_
  replace hf := jbd hf
  obtain ⟨u1, h2, hf⟩ := hf
  replace hf := jbs hf
  obtain ⟨v5, hp4, h3, hf⟩ := hf
  refine J.callV (As := [.int p1]) (k2 := 0) (n2 := 0) 0 hDl hRm (w_X0_isProfile h3) (lw_V q293 q295 qs0 q39 q296) hd_X0_isProfile rfl ⟨_, h2⟩ rfl (Nat.le_of_ble_eq_true rfl) (Nat.le_of_ble_eq_true rfl) (Nat.le_of_ble_eq_true rfl) (Nat.le_of_ble_eq_true rfl) (Nat.le_of_ble_eq_true rfl) (Nat.le_of_ble_eq_true rfl) (Nat.le_of_ble_eq_true rfl) rfl dX0_pattern_2 ?_
  refine J.if_eq (tgt := 27) dX0_pattern_5 (by decide) (fun hc6 => ?_) (fun hc6 => ?_)
  · replace hf := (if_pos hc6).symm.trans hf
    refine J.bipush (v := (-2)) dX0_pattern_27 (by decide) ?_
    obtain ⟨rfl, rfl⟩ := jso hf
    exact J.iret hE (Nat.le_of_ble_eq_true rfl) (Nat.le_of_ble_eq_true rfl) dX0_pattern_29
  · replace hf := (if_neg hc6).symm.trans hf
    refine J.iload_n (i := 2) dX0_pattern_8 rfl rfl ?_
    refine J.iconst (v := 0) dX0_pattern_9 (by decide) ?_
    refine J.ldc q564 dX0_pattern_10 ?_
    replace hf := jbs hf
    obtain ⟨v9, hp8, h7, hf⟩ := hf
    refine J.callS (As := [.int p2, .int 0, .int 200000]) (k2 := 0) (n2 := 0) hDl hRm (w_X0_in h7) (lw_S q234 q235 q39 q236) hs_X0_in rfl (Nat.le_of_ble_eq_true rfl) (Nat.le_of_ble_eq_true rfl) (Nat.le_of_ble_eq_true rfl) (Nat.le_of_ble_eq_true rfl) (Nat.le_of_ble_eq_true rfl) (Nat.le_of_ble_eq_true rfl) (Nat.le_of_ble_eq_true rfl) rfl dX0_pattern_12 ?_
    refine J.if_eq (tgt := 27) dX0_pattern_15 (by decide) (fun hc10 => ?_) (fun hc10 => ?_)
    · replace hf := (if_pos hc10).symm.trans hf
      refine J.bipush (v := (-2)) dX0_pattern_27 (by decide) ?_
      obtain ⟨rfl, rfl⟩ := jso hf
      exact J.iret hE (Nat.le_of_ble_eq_true rfl) (Nat.le_of_ble_eq_true rfl) dX0_pattern_29
    · replace hf := (if_neg hc10).symm.trans hf
      refine J.iload_n (i := 3) dX0_pattern_18 rfl rfl ?_
      refine J.iconst (v := 0) dX0_pattern_19 (by decide) ?_
      refine J.iconst (v := 3) dX0_pattern_20 (by decide) ?_
      replace hf := jbs hf
      obtain ⟨v13, hp12, h11, hf⟩ := hf
      refine J.callS (As := [.int p3, .int 0, .int 3]) (k2 := 0) (n2 := 0) hDl hRm (w_X0_in h11) (lw_S q234 q235 q39 q236) hs_X0_in rfl (Nat.le_of_ble_eq_true rfl) (Nat.le_of_ble_eq_true rfl) (Nat.le_of_ble_eq_true rfl) (Nat.le_of_ble_eq_true rfl) (Nat.le_of_ble_eq_true rfl) (Nat.le_of_ble_eq_true rfl) (Nat.le_of_ble_eq_true rfl) rfl dX0_pattern_21 ?_
      refine J.if_ne (tgt := 30) dX0_pattern_24 (by decide) (fun hc14 => ?_) (fun hc14 => ?_)
      · replace hf := (if_neg hc14).symm.trans hf
        refine J.aload_n (i := 0) dX0_pattern_30 rfl rfl ?_
        refine J.aload_n (i := 0) dX0_pattern_31 rfl rfl ?_
        replace hf := jbd hf
        obtain ⟨a15, h16, hf⟩ := hf
        refine J.getA 0 0 in_X0 rfl (Nat.le_of_ble_eq_true rfl) (Or.inl q143) (Or.inl rfl) h16 dX0_pattern_32 ?_
        refine J.iload_n (i := 1) dX0_pattern_35 rfl rfl ?_
        replace hf := jbd hf
        obtain ⟨a17, h18, hf⟩ := hf
        refine J.aaldA h18 dX0_pattern_36 ?_
        refine J.iload_n (i := 2) dX0_pattern_37 rfl rfl ?_
        replace hf := jbd hf
        obtain ⟨u19, h20, hf⟩ := hf
        replace hf := jbd hf
        obtain ⟨hp22, h21, hf⟩ := hf
        refine J.callV (As := [.ref a17, .int p2]) (k2 := 0) (n2 := 0) 0 hDl hRm (w_X0_cuts h21) (lw_V q442 q444 qs5 q39 q445) hd_X0_cuts rfl ⟨_, h20⟩ rfl (Nat.le_of_ble_eq_true rfl) (Nat.le_of_ble_eq_true rfl) (Nat.le_of_ble_eq_true rfl) (Nat.le_of_ble_eq_true rfl) (Nat.le_of_ble_eq_true rfl) (Nat.le_of_ble_eq_true rfl) (Nat.le_of_ble_eq_true rfl) rfl dX0_pattern_38 ?_
        refine J.iload_n (i := 3) dX0_pattern_41 rfl rfl ?_
        refine J.iconst (v := 3) dX0_pattern_42 (by decide) ?_
        refine J.icmp_ne (tgt := 53) dX0_pattern_43 (by decide) (fun hc23 => ?_) (fun hc23 => ?_)
        · replace hf := (if_neg hc23).symm.trans hf
          refine J.aload_n (i := 0) dX0_pattern_53 rfl rfl ?_
          replace hf := jbd hf
          obtain ⟨a24, h25, hf⟩ := hf
          refine J.getA 0 13 in_X0 rfl (Nat.le_of_ble_eq_true rfl) (Or.inl q158) (Or.inl rfl) h25 dX0_pattern_54 ?_
          refine J.iload_n (i := 3) dX0_pattern_57 rfl rfl ?_
          replace hf := jbd hf
          obtain ⟨v26, h27, hf⟩ := hf
          refine J.iald h27 dX0_pattern_58 ?_
          obtain ⟨rfl, rfl⟩ := jso hf
          exact J.iret hE (Nat.le_of_ble_eq_true rfl) (Nat.le_of_ble_eq_true rfl) dX0_pattern_59
        · replace hf := (if_pos hc23).symm.trans hf
          refine J.aload_n (i := 0) dX0_pattern_46 rfl rfl ?_
          replace hf := jbd hf
          obtain ⟨v28, h29, hf⟩ := hf
          refine J.getI 0 14 in_X0 rfl (Nat.le_of_ble_eq_true rfl) (Or.inl q159) (Or.inl rfl) h29 dX0_pattern_47 ?_
          refine J.goto (tgt := 59) dX0_pattern_50 (by decide) ?_
          obtain ⟨rfl, rfl⟩ := jso hf
          exact J.iret hE (Nat.le_of_ble_eq_true rfl) (Nat.le_of_ble_eq_true rfl) dX0_pattern_59
      · replace hf := (if_pos hc14).symm.trans hf
        refine J.bipush (v := (-2)) dX0_pattern_27 (by decide) ?_
        obtain ⟨rfl, rfl⟩ := jso hf
        exact J.iret hE (Nat.le_of_ble_eq_true rfl) (Nat.le_of_ble_eq_true rfl) dX0_pattern_29
def rm_X0_stock : Room := { frames := 1, cells := 0, slots := 0, locals := 22 }
theorem hd_X0_stock : yX0_stock.cls = RX0 ∧ yX0_stock.cls ≠ "java/lang/invoke/MethodHandle" ∧ yX0_stock.cls ≠ "java/lang/invoke/VarHandle" ∧ (parseMethodDescriptor yX0_stock.desc).map (fun d => d.parameters.length) = some 1 := by decide +kernel
set_option maxHeartbeats 4000000 in
set_option maxRecDepth 100000 in
theorem w_X0_stock {D : va_G} {l : Launch} {hp hpE : jH} {rE : Int32} {this : Nat} {p1 : Int32} (hf : f_X0_stock this p1 hp = some (rE, hpE)) : jM D l yX0_stock (ws_ yX0_stock cX0_stock 2 (some .int)) rm_X0_stock hp [.ref this, .int p1] (some (.int rE)) hpE := by
  refine jM.of (lv0 := [some (.ref this), some (.int p1)]) (by decide) (Nat.le_of_ble_eq_true rfl) rfl (fun X hDl hRm hE hX0 => ?_)
  rw [f_X0_stock] at hf
  refine J.iload_n (i := 1) dX0_stock_0 rfl rfl ?_
  refine J.sipush (v := 200) dX0_stock_1 (by decide) ?_
  refine J.sipush (v := 1200) dX0_stock_4 (by decide) ?_
  replace hf := jbs hf
  obtain ⟨v3, hp2, h1, hf⟩ := hf
  refine J.callS (As := [.int p1, .int 200, .int 1200]) (k2 := 0) (n2 := 0) hDl hRm (w_X0_in h1) (lw_S q234 q235 q39 q236) hs_X0_in rfl (Nat.le_of_ble_eq_true rfl) (Nat.le_of_ble_eq_true rfl) (Nat.le_of_ble_eq_true rfl) (Nat.le_of_ble_eq_true rfl) (Nat.le_of_ble_eq_true rfl) (Nat.le_of_ble_eq_true rfl) (Nat.le_of_ble_eq_true rfl) rfl dX0_stock_7 ?_
  refine J.if_ne (tgt := 16) dX0_stock_10 (by decide) (fun hc4 => ?_) (fun hc4 => ?_)
  · replace hf := (if_neg hc4).symm.trans hf
    refine J.aload_n (i := 0) dX0_stock_16 rfl rfl ?_
    replace hf := jbd hf
    obtain ⟨v5, h6, hf⟩ := hf
    refine J.getI 0 16 in_X0 rfl (Nat.le_of_ble_eq_true rfl) (Or.inl q161) (Or.inl rfl) h6 dX0_stock_17 ?_
    refine J.bipush (v := 6) dX0_stock_20 (by decide) ?_
    refine J.icmp_ne (tgt := 28) dX0_stock_22 (by decide) (fun hc7 => ?_) (fun hc7 => ?_)
    · replace hf := (if_neg hc7).symm.trans hf
      refine J.aload_n (i := 0) dX0_stock_28 rfl rfl ?_
      replace hf := jbd hf
      obtain ⟨a8, h9, hf⟩ := hf
      refine J.getA 0 15 in_X0 rfl (Nat.le_of_ble_eq_true rfl) (Or.inl q160) (Or.inl rfl) h9 dX0_stock_29 ?_
      refine J.aload_n (i := 0) dX0_stock_32 rfl rfl ?_
      replace hf := jbd hf
      obtain ⟨v10, h11, hf⟩ := hf
      refine J.getI 0 16 in_X0 rfl (Nat.le_of_ble_eq_true rfl) (Or.inl q161) (Or.inl rfl) h11 dX0_stock_33 ?_
      refine J.iload_n (i := 1) dX0_stock_36 rfl rfl ?_
      replace hf := jbd hf
      obtain ⟨hp12, h13, hf⟩ := hf
      refine J.iast h13 dX0_stock_37 ?_
      refine J.aload_n (i := 0) dX0_stock_38 rfl rfl ?_
      refine J.dup dX0_stock_39 rfl ?_
      replace hf := jbd hf
      obtain ⟨v14, h15, hf⟩ := hf
      refine J.getI 0 16 in_X0 rfl (Nat.le_of_ble_eq_true rfl) (Or.inl q161) (Or.inl rfl) h15 dX0_stock_40 ?_
      refine J.iconst (v := 1) dX0_stock_43 (by decide) ?_
      refine J.iadd dX0_stock_44 ?_
      replace hf := jbd hf
      obtain ⟨hp16, h17, hf⟩ := hf
      refine J.put (ty := .int) 0 16 in_X0 ap0 rfl (Nat.le_of_ble_eq_true rfl) (Or.inl q161) (Or.inl rfl) rfl (by decide +kernel) (fun _ => ⟨rfl, rfl⟩) h17 dX0_stock_45 ?_
      refine J.aload_n (i := 0) dX0_stock_48 rfl rfl ?_
      replace hf := jbd hf
      obtain ⟨v18, h19, hf⟩ := hf
      refine J.getI 0 16 in_X0 rfl (Nat.le_of_ble_eq_true rfl) (Or.inl q161) (Or.inl rfl) h19 dX0_stock_49 ?_
      obtain ⟨rfl, rfl⟩ := jso hf
      exact J.iret hE (Nat.le_of_ble_eq_true rfl) (Nat.le_of_ble_eq_true rfl) dX0_stock_52
    · replace hf := (if_pos hc7).symm.trans hf
      refine J.bipush (v := (-4)) dX0_stock_25 (by decide) ?_
      obtain ⟨rfl, rfl⟩ := jso hf
      exact J.iret hE (Nat.le_of_ble_eq_true rfl) (Nat.le_of_ble_eq_true rfl) dX0_stock_27
  · replace hf := (if_pos hc4).symm.trans hf
    refine J.bipush (v := (-2)) dX0_stock_13 (by decide) ?_
    obtain ⟨rfl, rfl⟩ := jso hf
    exact J.iret hE (Nat.le_of_ble_eq_true rfl) (Nat.le_of_ble_eq_true rfl) dX0_stock_15
def rm_X0_best : Room := { frames := 5, cells := 0, slots := 0, locals := 119 }
theorem hd_X0_best : yX0_best.cls = RX0 ∧ yX0_best.cls ≠ "java/lang/invoke/MethodHandle" ∧ yX0_best.cls ≠ "java/lang/invoke/VarHandle" ∧ (parseMethodDescriptor yX0_best.desc).map (fun d => d.parameters.length) = some 2 := by decide +kernel
set_option maxHeartbeats 4000000 in
set_option maxRecDepth 100000 in
theorem w_X0_best_j148 {D : va_G} {l : Launch} {X : jX} {hp0 hpE : jH} {rE : Int32} (hDl : jDl X D l) (hRm : jRoom X rm_X0_best.frames rm_X0_best.locals rm_X0_best.cells rm_X0_best.slots) (hE : jEnds X (some .int) (some (.int rE)) hpE rm_X0_best.cells rm_X0_best.slots) (hX0 : jX0 X hp0) {K30 : Nat → Int32 → Nat → Int32 → Int32 → Int32 → jH → Option (Int32 × jH)} (hK30 : ∀ (xa_0 : Nat) (xi_2 : Int32) (xa_3 : Nat) (xi_4 : Int32) (xi_5 : Int32) (xi_6 : Int32) (hp : jH), K30 xa_0 xi_2 xa_3 xi_4 xi_5 xi_6 hp = some (rE, hpE) → J X cX0_best 9 yX0_best 0 0 30 [some (.ref xa_0), none, some (.int xi_2), some (.ref xa_3), some (.int xi_4), some (.int xi_5), some (.int xi_6), none, none] [] hp) {xa_0 : Nat} {xi_2 : Int32} {xa_3 : Nat} {xi_4 : Int32} {xi_5 : Int32} {xi_6 : Int32} {hp : jH} (hf : f_X0_best_j148 K30 xa_0 xi_2 xa_3 xi_4 xi_5 xi_6 hp = some (rE, hpE)) : J X cX0_best 9 yX0_best 0 0 148 [some (.ref xa_0), none, some (.int xi_2), some (.ref xa_3), some (.int xi_4), some (.int xi_5), some (.int xi_6), none, none] [] hp := by
  rw [f_X0_best_j148] at hf
  refine J.iinc (i := 6) (v := (xi_6 + 1)) (lv' := [some (.ref xa_0), none, some (.int xi_2), some (.ref xa_3), some (.int xi_4), some (.int xi_5), some (.int (xi_6 + 1)), none, none]) dX0_best_148 rfl rfl (Nat.le_of_ble_eq_true rfl) rfl ?_
  refine J.goto (tgt := 30) dX0_best_151 (by decide) ?_
  exact hK30 _ _ _ _ _ _ _ hf
set_option maxHeartbeats 4000000 in
set_option maxRecDepth 100000 in
theorem w_X0_best_j133 {D : va_G} {l : Launch} {X : jX} {hp0 hpE : jH} {rE : Int32} (hDl : jDl X D l) (hRm : jRoom X rm_X0_best.frames rm_X0_best.locals rm_X0_best.cells rm_X0_best.slots) (hE : jEnds X (some .int) (some (.int rE)) hpE rm_X0_best.cells rm_X0_best.slots) (hX0 : jX0 X hp0) {K30 : Nat → Int32 → Nat → Int32 → Int32 → Int32 → jH → Option (Int32 × jH)} (hK30 : ∀ (xa_0 : Nat) (xi_2 : Int32) (xa_3 : Nat) (xi_4 : Int32) (xi_5 : Int32) (xi_6 : Int32) (hp : jH), K30 xa_0 xi_2 xa_3 xi_4 xi_5 xi_6 hp = some (rE, hpE) → J X cX0_best 9 yX0_best 0 0 30 [some (.ref xa_0), none, some (.int xi_2), some (.ref xa_3), some (.int xi_4), some (.int xi_5), some (.int xi_6), none, none] [] hp) {xa_0 : Nat} {xi_2 : Int32} {xa_3 : Nat} {xi_6 : Int32} {hp : jH} (hf : f_X0_best_j133 K30 xa_0 xi_2 xa_3 xi_6 hp = some (rE, hpE)) : J X cX0_best 9 yX0_best 0 0 133 [some (.ref xa_0), none, some (.int xi_2), some (.ref xa_3), none, none, some (.int xi_6), none, none] [] hp := by
  rw [f_X0_best_j133] at hf
  refine J.aload_n (i := 0) dX0_best_133 rfl rfl ?_
  replace hf := jbd hf
  obtain ⟨a42, h43, hf⟩ := hf
  refine J.getA 0 15 in_X0 rfl (Nat.le_of_ble_eq_true rfl) (Or.inl q160) (Or.inl rfl) h43 dX0_best_134 ?_
  refine J.iload dX0_best_137 rfl ?_
  replace hf := jbd hf
  obtain ⟨v44, h45, hf⟩ := hf
  refine J.iald h45 dX0_best_139 ?_
  refine J.istore (i := 4) (lv' := [some (.ref xa_0), none, some (.int xi_2), some (.ref xa_3), some (.int v44), none, some (.int xi_6), none, none]) dX0_best_140 (Nat.le_of_ble_eq_true rfl) rfl ?_
  refine J.aload_n (i := 0) dX0_best_142 rfl rfl ?_
  replace hf := jbd hf
  obtain ⟨v46, h47, hf⟩ := hf
  refine J.getI 0 14 in_X0 rfl (Nat.le_of_ble_eq_true rfl) (Or.inl q159) (Or.inl rfl) h47 dX0_best_143 ?_
  refine J.istore (i := 5) (lv' := [some (.ref xa_0), none, some (.int xi_2), some (.ref xa_3), some (.int v44), some (.int v46), some (.int xi_6), none, none]) dX0_best_146 (Nat.le_of_ble_eq_true rfl) rfl ?_
  exact w_X0_best_j148 hDl hRm hE hX0 hK30 hf
set_option maxHeartbeats 4000000 in
set_option maxRecDepth 100000 in
theorem w_X0_best_j98 {D : va_G} {l : Launch} {X : jX} {hp0 hpE : jH} {rE : Int32} (hDl : jDl X D l) (hRm : jRoom X rm_X0_best.frames rm_X0_best.locals rm_X0_best.cells rm_X0_best.slots) (hE : jEnds X (some .int) (some (.int rE)) hpE rm_X0_best.cells rm_X0_best.slots) (hX0 : jX0 X hp0) {K30 : Nat → Int32 → Nat → Int32 → Int32 → Int32 → jH → Option (Int32 × jH)} (hK30 : ∀ (xa_0 : Nat) (xi_2 : Int32) (xa_3 : Nat) (xi_4 : Int32) (xi_5 : Int32) (xi_6 : Int32) (hp : jH), K30 xa_0 xi_2 xa_3 xi_4 xi_5 xi_6 hp = some (rE, hpE) → J X cX0_best 9 yX0_best 0 0 30 [some (.ref xa_0), none, some (.int xi_2), some (.ref xa_3), some (.int xi_4), some (.int xi_5), some (.int xi_6), none, none] [] hp) {xa_0 : Nat} {xi_2 : Int32} {xa_3 : Nat} {xi_4 : Int32} {xi_5 : Int32} {xi_6 : Int32} {xl_s0 : Int64} {hp : jH} (hf : f_X0_best_j98 K30 xa_0 xi_2 xa_3 xi_4 xi_5 xi_6 xl_s0 hp = some (rE, hpE)) : J X cX0_best 9 yX0_best 0 0 98 [some (.ref xa_0), none, some (.int xi_2), some (.ref xa_3), some (.int xi_4), some (.int xi_5), some (.int xi_6), none, none] [.long xl_s0] hp := by
  rw [f_X0_best_j98] at hf
  refine J.lstore (i := 7) (lv' := [some (.ref xa_0), none, some (.int xi_2), some (.ref xa_3), some (.int xi_4), some (.int xi_5), some (.int xi_6), some (.long xl_s0), none]) dX0_best_98 (Nat.le_of_ble_eq_true rfl) rfl ?_
  refine J.lload dX0_best_100 rfl ?_
  refine J.lconst (v := 0) dX0_best_102 (by decide) ?_
  refine J.lcmp dX0_best_103 ?_
  refine J.if_gt (tgt := 133) dX0_best_104 (by decide) (fun hc41 => ?_) (fun hc41 => ?_)
  · replace hf := (if_pos hc41).symm.trans hf
    refine J.mask (lv' := [some (.ref xa_0), none, some (.int xi_2), some (.ref xa_3), none, none, some (.int xi_6), none, none]) [true, false, true, true, false, false, true, false, false] rfl ?_
    exact w_X0_best_j133 hDl hRm hE hX0 hK30 hf
  · replace hf := (if_neg hc41).symm.trans hf
    refine J.lload dX0_best_107 rfl ?_
    refine J.lconst (v := 0) dX0_best_109 (by decide) ?_
    refine J.lcmp dX0_best_110 ?_
    refine J.if_ne (tgt := 148) dX0_best_111 (by decide) (fun hc48 => ?_) (fun hc48 => ?_)
    · replace hf := (if_neg hc48).symm.trans hf
      refine J.mask (lv' := [some (.ref xa_0), none, some (.int xi_2), some (.ref xa_3), some (.int xi_4), some (.int xi_5), some (.int xi_6), none, none]) [true, false, true, true, true, true, true, false, false] rfl ?_
      exact w_X0_best_j148 hDl hRm hE hX0 hK30 hf
    · replace hf := (if_pos hc48).symm.trans hf
      refine J.aload_n (i := 0) dX0_best_114 rfl rfl ?_
      replace hf := jbd hf
      obtain ⟨v49, h50, hf⟩ := hf
      refine J.getI 0 14 in_X0 rfl (Nat.le_of_ble_eq_true rfl) (Or.inl q159) (Or.inl rfl) h50 dX0_best_115 ?_
      refine J.if_le (tgt := 148) dX0_best_118 (by decide) (fun hc51 => ?_) (fun hc51 => ?_)
      · replace hf := (if_pos hc51).symm.trans hf
        refine J.mask (lv' := [some (.ref xa_0), none, some (.int xi_2), some (.ref xa_3), some (.int xi_4), some (.int xi_5), some (.int xi_6), none, none]) [true, false, true, true, true, true, true, false, false] rfl ?_
        exact w_X0_best_j148 hDl hRm hE hX0 hK30 hf
      · replace hf := (if_neg hc51).symm.trans hf
        refine J.aload_n (i := 0) dX0_best_121 rfl rfl ?_
        replace hf := jbd hf
        obtain ⟨a52, h53, hf⟩ := hf
        refine J.getA 0 15 in_X0 rfl (Nat.le_of_ble_eq_true rfl) (Or.inl q160) (Or.inl rfl) h53 dX0_best_122 ?_
        refine J.iload dX0_best_125 rfl ?_
        replace hf := jbd hf
        obtain ⟨v54, h55, hf⟩ := hf
        refine J.iald h55 dX0_best_127 ?_
        refine J.iload dX0_best_128 rfl ?_
        refine J.icmp_ge (tgt := 148) dX0_best_130 (by decide) (fun hc56 => ?_) (fun hc56 => ?_)
        · replace hf := (if_pos hc56).symm.trans hf
          refine J.mask (lv' := [some (.ref xa_0), none, some (.int xi_2), some (.ref xa_3), some (.int xi_4), some (.int xi_5), some (.int xi_6), none, none]) [true, false, true, true, true, true, true, false, false] rfl ?_
          exact w_X0_best_j148 hDl hRm hE hX0 hK30 hf
        · replace hf := (if_neg hc56).symm.trans hf
          refine J.mask (lv' := [some (.ref xa_0), none, some (.int xi_2), some (.ref xa_3), none, none, some (.int xi_6), none, none]) [true, false, true, true, false, false, true, false, false] rfl ?_
          exact w_X0_best_j133 hDl hRm hE hX0 hK30 hf
set_option maxHeartbeats 4000000 in
set_option maxRecDepth 100000 in
theorem w_X0_best_L30 {D : va_G} {l : Launch} {X : jX} {hp0 hpE : jH} {rE : Int32} (hDl : jDl X D l) (hRm : jRoom X rm_X0_best.frames rm_X0_best.locals rm_X0_best.cells rm_X0_best.slots) (hE : jEnds X (some .int) (some (.int rE)) hpE rm_X0_best.cells rm_X0_best.slots) (hX0 : jX0 X hp0) : ∀ (N : Nat) (xa_0 : Nat) (xi_2 : Int32) (xa_3 : Nat) (xi_4 : Int32) (xi_5 : Int32) (xi_6 : Int32) (hp : jH), f_X0_best_L30 N xa_0 xi_2 xa_3 xi_4 xi_5 xi_6 hp = some (rE, hpE) → J X cX0_best 9 yX0_best 0 0 30 [some (.ref xa_0), none, some (.int xi_2), some (.ref xa_3), some (.int xi_4), some (.int xi_5), some (.int xi_6), none, none] [] hp := by
  intro N
  induction N with
  | zero =>
    intro xa_0 xi_2 xa_3 xi_4 xi_5 xi_6 hp hf
    rw [f_X0_best_L30] at hf
    cases hf
  | succ N ih30 =>
    intro xa_0 xi_2 xa_3 xi_4 xi_5 xi_6 hp hf
    rw [f_X0_best_L30] at hf
    refine J.iload dX0_best_30 rfl ?_
    refine J.aload_n (i := 0) dX0_best_32 rfl rfl ?_
    replace hf := jbd hf
    obtain ⟨v13, h14, hf⟩ := hf
    refine J.getI 0 16 in_X0 rfl (Nat.le_of_ble_eq_true rfl) (Or.inl q161) (Or.inl rfl) h14 dX0_best_33 ?_
    refine J.icmp_ge (tgt := 154) dX0_best_36 (by decide) (fun hc15 => ?_) (fun hc15 => ?_)
    · replace hf := (if_pos hc15).symm.trans hf
      refine J.iload dX0_best_154 rfl ?_
      obtain ⟨rfl, rfl⟩ := jso hf
      exact J.iret hE (Nat.le_of_ble_eq_true rfl) (Nat.le_of_ble_eq_true rfl) dX0_best_156
    · replace hf := (if_neg hc15).symm.trans hf
      refine J.aload_n (i := 0) dX0_best_39 rfl rfl ?_
      refine J.aload_n (i := 3) dX0_best_40 rfl rfl ?_
      refine J.aload_n (i := 0) dX0_best_41 rfl rfl ?_
      refine J.aload_n (i := 0) dX0_best_42 rfl rfl ?_
      refine J.aload_n (i := 3) dX0_best_43 rfl rfl ?_
      refine J.aload_n (i := 0) dX0_best_44 rfl rfl ?_
      replace hf := jbd hf
      obtain ⟨a16, h17, hf⟩ := hf
      refine J.getA 0 15 in_X0 rfl (Nat.le_of_ble_eq_true rfl) (Or.inl q160) (Or.inl rfl) h17 dX0_best_45 ?_
      refine J.iload dX0_best_48 rfl ?_
      replace hf := jbd hf
      obtain ⟨v18, h19, hf⟩ := hf
      refine J.iald h19 dX0_best_50 ?_
      replace hf := jbd hf
      obtain ⟨u20, h21, hf⟩ := hf
      replace hf := jbs hf
      obtain ⟨v24, hp23, h22, hf⟩ := hf
      refine J.callV (As := [.ref xa_3, .int v18]) (k2 := 0) (n2 := 0) 0 hDl hRm (w_X0_barOf h22) (lw_V q410 q412 qs3 q39 q413) hd_X0_barOf rfl ⟨_, h21⟩ rfl (Nat.le_of_ble_eq_true rfl) (Nat.le_of_ble_eq_true rfl) (Nat.le_of_ble_eq_true rfl) (Nat.le_of_ble_eq_true rfl) (Nat.le_of_ble_eq_true rfl) (Nat.le_of_ble_eq_true rfl) (Nat.le_of_ble_eq_true rfl) rfl dX0_best_51 ?_
      refine J.iload_n (i := 2) dX0_best_54 rfl rfl ?_
      refine J.iconst (v := 0) dX0_best_55 (by decide) ?_
      replace hf := jbd hf
      obtain ⟨u25, h26, hf⟩ := hf
      replace hf := jbs hf
      obtain ⟨v29, hp28, h27, hf⟩ := hf
      refine J.callV (As := [.int v24, .int xi_2, .int 0]) (k2 := 0) (n2 := 0) 0 hDl hRm (w_X0_usable h27) (lw_V q417 q419 qs4 q39 q420) hd_X0_usable rfl ⟨_, h26⟩ rfl (Nat.le_of_ble_eq_true rfl) (Nat.le_of_ble_eq_true rfl) (Nat.le_of_ble_eq_true rfl) (Nat.le_of_ble_eq_true rfl) (Nat.le_of_ble_eq_true rfl) (Nat.le_of_ble_eq_true rfl) (Nat.le_of_ble_eq_true rfl) rfl dX0_best_56 ?_
      replace hf := jbd hf
      obtain ⟨u30, h31, hf⟩ := hf
      replace hf := jbd hf
      obtain ⟨hp33, h32, hf⟩ := hf
      refine J.callV (As := [.ref xa_3, .int v29]) (k2 := 0) (n2 := 0) 0 hDl hRm (w_X0_cuts h32) (lw_V q442 q444 qs5 q39 q445) hd_X0_cuts rfl ⟨_, h31⟩ rfl (Nat.le_of_ble_eq_true rfl) (Nat.le_of_ble_eq_true rfl) (Nat.le_of_ble_eq_true rfl) (Nat.le_of_ble_eq_true rfl) (Nat.le_of_ble_eq_true rfl) (Nat.le_of_ble_eq_true rfl) (Nat.le_of_ble_eq_true rfl) rfl dX0_best_59 ?_
      refine J.iload dX0_best_62 rfl ?_
      refine J.iconst (v := (-1)) dX0_best_64 (by decide) ?_
      refine J.icmp_ne (tgt := 76) dX0_best_65 (by decide) (fun hc34 => ?_) (fun hc34 => ?_)
      · replace hf := (if_neg hc34).symm.trans hf
        refine J.aload_n (i := 0) dX0_best_76 rfl rfl ?_
        replace hf := jbd hf
        obtain ⟨v35, h36, hf⟩ := hf
        refine J.getI 0 14 in_X0 rfl (Nat.le_of_ble_eq_true rfl) (Or.inl q159) (Or.inl rfl) h36 dX0_best_77 ?_
        refine J.i2l dX0_best_80 ?_
        refine J.iload dX0_best_81 rfl ?_
        refine J.i2l dX0_best_83 ?_
        refine J.lmul dX0_best_84 ?_
        refine J.iload dX0_best_85 rfl ?_
        refine J.i2l dX0_best_87 ?_
        refine J.aload_n (i := 0) dX0_best_88 rfl rfl ?_
        replace hf := jbd hf
        obtain ⟨a37, h38, hf⟩ := hf
        refine J.getA 0 15 in_X0 rfl (Nat.le_of_ble_eq_true rfl) (Or.inl q160) (Or.inl rfl) h38 dX0_best_89 ?_
        refine J.iload dX0_best_92 rfl ?_
        replace hf := jbd hf
        obtain ⟨v39, h40, hf⟩ := hf
        refine J.iald h40 dX0_best_94 ?_
        refine J.i2l dX0_best_95 ?_
        refine J.lmul dX0_best_96 ?_
        refine J.lsub dX0_best_97 ?_
        exact w_X0_best_j98 hDl hRm hE hX0 (fun z0 z1 z2 z3 z4 z5 z6 hz => ih30 z0 z1 z2 z3 z4 z5 z6 hz) hf
      · replace hf := (if_pos hc34).symm.trans hf
        refine J.aload_n (i := 0) dX0_best_68 rfl rfl ?_
        replace hf := jbd hf
        obtain ⟨v57, h58, hf⟩ := hf
        refine J.getI 0 14 in_X0 rfl (Nat.le_of_ble_eq_true rfl) (Or.inl q159) (Or.inl rfl) h58 dX0_best_69 ?_
        refine J.i2l dX0_best_72 ?_
        refine J.goto (tgt := 98) dX0_best_73 (by decide) ?_
        exact w_X0_best_j98 hDl hRm hE hX0 (fun z0 z1 z2 z3 z4 z5 z6 hz => ih30 z0 z1 z2 z3 z4 z5 z6 hz) hf
set_option maxHeartbeats 4000000 in
set_option maxRecDepth 100000 in
theorem w_X0_best {D : va_G} {l : Launch} {hp hpE : jH} {rE : Int32} {this : Nat} {p1 : Int32} {p2 : Int32} (hf : f_X0_best this p1 p2 hp = some (rE, hpE)) : jM D l yX0_best (ws_ yX0_best cX0_best 9 (some .int)) rm_X0_best hp [.ref this, .int p1, .int p2] (some (.int rE)) hpE := by
  refine jM.of (lv0 := [some (.ref this), some (.int p1), some (.int p2), none, none, none, none, none, none]) (by decide) (Nat.le_of_ble_eq_true rfl) rfl (fun X hDl hRm hE hX0 => ?_)
  rw [f_X0_best] at hf
  refine J.aload_n (i := 0) dX0_best_0 rfl rfl ?_
  refine J.iload_n (i := 1) dX0_best_1 rfl rfl ?_
  replace hf := jbd hf
  obtain ⟨u1, h2, hf⟩ := hf
  replace hf := jbs hf
  obtain ⟨v5, hp4, h3, hf⟩ := hf
  refine J.callV (As := [.int p1]) (k2 := 0) (n2 := 0) 0 hDl hRm (w_X0_isDie h3) (lw_V q334 q336 qs1 q39 q337) hd_X0_isDie rfl ⟨_, h2⟩ rfl (Nat.le_of_ble_eq_true rfl) (Nat.le_of_ble_eq_true rfl) (Nat.le_of_ble_eq_true rfl) (Nat.le_of_ble_eq_true rfl) (Nat.le_of_ble_eq_true rfl) (Nat.le_of_ble_eq_true rfl) (Nat.le_of_ble_eq_true rfl) rfl dX0_best_2 ?_
  refine J.if_ne (tgt := 11) dX0_best_5 (by decide) (fun hc6 => ?_) (fun hc6 => ?_)
  · replace hf := (if_neg hc6).symm.trans hf
    refine J.aload_n (i := 0) dX0_best_11 rfl rfl ?_
    replace hf := jbd hf
    obtain ⟨a7, h8, hf⟩ := hf
    refine J.getA 0 2 in_X0 rfl (Nat.le_of_ble_eq_true rfl) (Or.inl q145) (Or.inl rfl) h8 dX0_best_12 ?_
    refine J.iload_n (i := 1) dX0_best_15 rfl rfl ?_
    replace hf := jbd hf
    obtain ⟨a9, h10, hf⟩ := hf
    refine J.aaldA h10 dX0_best_16 ?_
    replace hf := jbd hf
    obtain ⟨a11, h12, hf⟩ := hf
    refine J.getA 6 0 in_X7 rfl (Nat.le_of_ble_eq_true rfl) (Or.inr ⟨_, q303⟩) (Or.inl rfl) h12 dX0_best_17 ?_
    refine J.astore_n (i := 3) (lv' := [some (.ref this), some (.int p1), some (.int p2), some (.ref a11), none, none, none, none, none]) dX0_best_20 rfl (Nat.le_of_ble_eq_true rfl) rfl ?_
    refine J.iconst (v := (-1)) dX0_best_21 (by decide) ?_
    refine J.istore (i := 4) (lv' := [some (.ref this), some (.int p1), some (.int p2), some (.ref a11), some (.int (-1)), none, none, none, none]) dX0_best_22 (Nat.le_of_ble_eq_true rfl) rfl ?_
    refine J.iconst (v := 0) dX0_best_24 (by decide) ?_
    refine J.istore (i := 5) (lv' := [some (.ref this), some (.int p1), some (.int p2), some (.ref a11), some (.int (-1)), some (.int 0), none, none, none]) dX0_best_25 (Nat.le_of_ble_eq_true rfl) rfl ?_
    refine J.iconst (v := 0) dX0_best_27 (by decide) ?_
    refine J.istore (i := 6) (lv' := [some (.ref this), some (.int p1), some (.int p2), some (.ref a11), some (.int (-1)), some (.int 0), some (.int 0), none, none]) dX0_best_28 (Nat.le_of_ble_eq_true rfl) rfl ?_
    refine J.mask (lv' := [some (.ref this), none, some (.int p2), some (.ref a11), some (.int (-1)), some (.int 0), some (.int 0), none, none]) [true, false, true, true, true, true, true, false, false] rfl ?_
    exact w_X0_best_L30 hDl hRm hE hX0 _ _ _ _ _ _ _ _ hf
  · replace hf := (if_pos hc6).symm.trans hf
    refine J.bipush (v := (-2)) dX0_best_8 (by decide) ?_
    obtain ⟨rfl, rfl⟩ := jso hf
    exact J.iret hE (Nat.le_of_ble_eq_true rfl) (Nat.le_of_ble_eq_true rfl) dX0_best_10
def rm_X0_job : Room := { frames := 2, cells := 0, slots := 0, locals := 43 }
theorem hd_X0_job : yX0_job.cls = RX0 ∧ yX0_job.cls ≠ "java/lang/invoke/MethodHandle" ∧ yX0_job.cls ≠ "java/lang/invoke/VarHandle" ∧ (parseMethodDescriptor yX0_job.desc).map (fun d => d.parameters.length) = some 3 := by decide +kernel
set_option maxHeartbeats 4000000 in
set_option maxRecDepth 100000 in
theorem w_X0_job {D : va_G} {l : Launch} {hp hpE : jH} {rE : Int32} {this : Nat} {p1 : Int32} {p2 : Int32} {p3 : Int32} (hf : f_X0_job this p1 p2 p3 hp = some (rE, hpE)) : jM D l yX0_job (ws_ yX0_job cX0_job 4 (some .int)) rm_X0_job hp [.ref this, .int p1, .int p2, .int p3] (some (.int rE)) hpE := by
  refine jM.of (lv0 := [some (.ref this), some (.int p1), some (.int p2), some (.int p3)]) (by decide) (Nat.le_of_ble_eq_true rfl) rfl (fun X hDl hRm hE hX0 => ?_)
  rw [f_X0_job] at hf
  refine J.aload_n (i := 0) dX0_job_0 rfl rfl ?_
  refine J.iload_n (i := 1) dX0_job_1 rfl rfl ?_
  replace hf := jbd hf
  obtain ⟨u1, h2, hf⟩ := hf
  replace hf := jbs hf
  obtain ⟨v5, hp4, h3, hf⟩ := hf
  refine J.callV (As := [.int p1]) (k2 := 0) (n2 := 0) 0 hDl hRm (w_X0_isProfile h3) (lw_V q293 q295 qs0 q39 q296) hd_X0_isProfile rfl ⟨_, h2⟩ rfl (Nat.le_of_ble_eq_true rfl) (Nat.le_of_ble_eq_true rfl) (Nat.le_of_ble_eq_true rfl) (Nat.le_of_ble_eq_true rfl) (Nat.le_of_ble_eq_true rfl) (Nat.le_of_ble_eq_true rfl) (Nat.le_of_ble_eq_true rfl) rfl dX0_job_2 ?_
  refine J.if_eq (tgt := 29) dX0_job_5 (by decide) (fun hc6 => ?_) (fun hc6 => ?_)
  · replace hf := (if_pos hc6).symm.trans hf
    refine J.bipush (v := (-2)) dX0_job_29 (by decide) ?_
    obtain ⟨rfl, rfl⟩ := jso hf
    exact J.iret hE (Nat.le_of_ble_eq_true rfl) (Nat.le_of_ble_eq_true rfl) dX0_job_31
  · replace hf := (if_neg hc6).symm.trans hf
    refine J.iload_n (i := 2) dX0_job_8 rfl rfl ?_
    refine J.iconst (v := 1) dX0_job_9 (by decide) ?_
    refine J.bipush (v := 50) dX0_job_10 (by decide) ?_
    replace hf := jbs hf
    obtain ⟨v9, hp8, h7, hf⟩ := hf
    refine J.callS (As := [.int p2, .int 1, .int 50]) (k2 := 0) (n2 := 0) hDl hRm (w_X0_in h7) (lw_S q234 q235 q39 q236) hs_X0_in rfl (Nat.le_of_ble_eq_true rfl) (Nat.le_of_ble_eq_true rfl) (Nat.le_of_ble_eq_true rfl) (Nat.le_of_ble_eq_true rfl) (Nat.le_of_ble_eq_true rfl) (Nat.le_of_ble_eq_true rfl) (Nat.le_of_ble_eq_true rfl) rfl dX0_job_12 ?_
    refine J.if_eq (tgt := 29) dX0_job_15 (by decide) (fun hc10 => ?_) (fun hc10 => ?_)
    · replace hf := (if_pos hc10).symm.trans hf
      refine J.bipush (v := (-2)) dX0_job_29 (by decide) ?_
      obtain ⟨rfl, rfl⟩ := jso hf
      exact J.iret hE (Nat.le_of_ble_eq_true rfl) (Nat.le_of_ble_eq_true rfl) dX0_job_31
    · replace hf := (if_neg hc10).symm.trans hf
      refine J.iload_n (i := 3) dX0_job_18 rfl rfl ?_
      refine J.iconst (v := 0) dX0_job_19 (by decide) ?_
      refine J.sipush (v := 1000) dX0_job_20 (by decide) ?_
      replace hf := jbs hf
      obtain ⟨v13, hp12, h11, hf⟩ := hf
      refine J.callS (As := [.int p3, .int 0, .int 1000]) (k2 := 0) (n2 := 0) hDl hRm (w_X0_in h11) (lw_S q234 q235 q39 q236) hs_X0_in rfl (Nat.le_of_ble_eq_true rfl) (Nat.le_of_ble_eq_true rfl) (Nat.le_of_ble_eq_true rfl) (Nat.le_of_ble_eq_true rfl) (Nat.le_of_ble_eq_true rfl) (Nat.le_of_ble_eq_true rfl) (Nat.le_of_ble_eq_true rfl) rfl dX0_job_23 ?_
      refine J.if_ne (tgt := 32) dX0_job_26 (by decide) (fun hc14 => ?_) (fun hc14 => ?_)
      · replace hf := (if_neg hc14).symm.trans hf
        refine J.aload_n (i := 0) dX0_job_32 rfl rfl ?_
        replace hf := jbd hf
        obtain ⟨v15, h16, hf⟩ := hf
        refine J.getI 0 18 in_X0 rfl (Nat.le_of_ble_eq_true rfl) (Or.inl q163) (Or.inl rfl) h16 dX0_job_33 ?_
        refine J.bipush (v := 7) dX0_job_36 (by decide) ?_
        refine J.icmp_ne (tgt := 44) dX0_job_38 (by decide) (fun hc17 => ?_) (fun hc17 => ?_)
        · replace hf := (if_neg hc17).symm.trans hf
          refine J.aload_n (i := 0) dX0_job_44 rfl rfl ?_
          replace hf := jbd hf
          obtain ⟨a18, h19, hf⟩ := hf
          refine J.getA 0 17 in_X0 rfl (Nat.le_of_ble_eq_true rfl) (Or.inl q162) (Or.inl rfl) h19 dX0_job_45 ?_
          refine J.aload_n (i := 0) dX0_job_48 rfl rfl ?_
          replace hf := jbd hf
          obtain ⟨v20, h21, hf⟩ := hf
          refine J.getI 0 18 in_X0 rfl (Nat.le_of_ble_eq_true rfl) (Or.inl q163) (Or.inl rfl) h21 dX0_job_49 ?_
          replace hf := jbd hf
          obtain ⟨a22, h23, hf⟩ := hf
          refine J.aaldA h23 dX0_job_52 ?_
          refine J.iconst (v := 0) dX0_job_53 (by decide) ?_
          refine J.iload_n (i := 1) dX0_job_54 rfl rfl ?_
          replace hf := jbd hf
          obtain ⟨hp24, h25, hf⟩ := hf
          refine J.iast h25 dX0_job_55 ?_
          refine J.aload_n (i := 0) dX0_job_56 rfl rfl ?_
          replace hf := jbd hf
          obtain ⟨a26, h27, hf⟩ := hf
          refine J.getA 0 17 in_X0 rfl (Nat.le_of_ble_eq_true rfl) (Or.inl q162) (Or.inl rfl) h27 dX0_job_57 ?_
          refine J.aload_n (i := 0) dX0_job_60 rfl rfl ?_
          replace hf := jbd hf
          obtain ⟨v28, h29, hf⟩ := hf
          refine J.getI 0 18 in_X0 rfl (Nat.le_of_ble_eq_true rfl) (Or.inl q163) (Or.inl rfl) h29 dX0_job_61 ?_
          replace hf := jbd hf
          obtain ⟨a30, h31, hf⟩ := hf
          refine J.aaldA h31 dX0_job_64 ?_
          refine J.iconst (v := 1) dX0_job_65 (by decide) ?_
          refine J.iload_n (i := 2) dX0_job_66 rfl rfl ?_
          replace hf := jbd hf
          obtain ⟨hp32, h33, hf⟩ := hf
          refine J.iast h33 dX0_job_67 ?_
          refine J.aload_n (i := 0) dX0_job_68 rfl rfl ?_
          replace hf := jbd hf
          obtain ⟨a34, h35, hf⟩ := hf
          refine J.getA 0 17 in_X0 rfl (Nat.le_of_ble_eq_true rfl) (Or.inl q162) (Or.inl rfl) h35 dX0_job_69 ?_
          refine J.aload_n (i := 0) dX0_job_72 rfl rfl ?_
          replace hf := jbd hf
          obtain ⟨v36, h37, hf⟩ := hf
          refine J.getI 0 18 in_X0 rfl (Nat.le_of_ble_eq_true rfl) (Or.inl q163) (Or.inl rfl) h37 dX0_job_73 ?_
          replace hf := jbd hf
          obtain ⟨a38, h39, hf⟩ := hf
          refine J.aaldA h39 dX0_job_76 ?_
          refine J.iconst (v := 2) dX0_job_77 (by decide) ?_
          refine J.iload_n (i := 3) dX0_job_78 rfl rfl ?_
          replace hf := jbd hf
          obtain ⟨hp40, h41, hf⟩ := hf
          refine J.iast h41 dX0_job_79 ?_
          refine J.aload_n (i := 0) dX0_job_80 rfl rfl ?_
          refine J.dup dX0_job_81 rfl ?_
          replace hf := jbd hf
          obtain ⟨v42, h43, hf⟩ := hf
          refine J.getI 0 18 in_X0 rfl (Nat.le_of_ble_eq_true rfl) (Or.inl q163) (Or.inl rfl) h43 dX0_job_82 ?_
          refine J.iconst (v := 1) dX0_job_85 (by decide) ?_
          refine J.iadd dX0_job_86 ?_
          replace hf := jbd hf
          obtain ⟨hp44, h45, hf⟩ := hf
          refine J.put (ty := .int) 0 18 in_X0 ap0 rfl (Nat.le_of_ble_eq_true rfl) (Or.inl q163) (Or.inl rfl) rfl (by decide +kernel) (fun _ => ⟨rfl, rfl⟩) h45 dX0_job_87 ?_
          refine J.aload_n (i := 0) dX0_job_90 rfl rfl ?_
          replace hf := jbd hf
          obtain ⟨v46, h47, hf⟩ := hf
          refine J.getI 0 18 in_X0 rfl (Nat.le_of_ble_eq_true rfl) (Or.inl q163) (Or.inl rfl) h47 dX0_job_91 ?_
          refine J.iconst (v := 1) dX0_job_94 (by decide) ?_
          refine J.isub dX0_job_95 ?_
          obtain ⟨rfl, rfl⟩ := jso hf
          exact J.iret hE (Nat.le_of_ble_eq_true rfl) (Nat.le_of_ble_eq_true rfl) dX0_job_96
        · replace hf := (if_pos hc17).symm.trans hf
          refine J.bipush (v := (-4)) dX0_job_41 (by decide) ?_
          obtain ⟨rfl, rfl⟩ := jso hf
          exact J.iret hE (Nat.le_of_ble_eq_true rfl) (Nat.le_of_ble_eq_true rfl) dX0_job_43
      · replace hf := (if_pos hc14).symm.trans hf
        refine J.bipush (v := (-2)) dX0_job_29 (by decide) ?_
        obtain ⟨rfl, rfl⟩ := jso hf
        exact J.iret hE (Nat.le_of_ble_eq_true rfl) (Nat.le_of_ble_eq_true rfl) dX0_job_31
def rm_X0_change : Room := { frames := 1, cells := 0, slots := 0, locals := 22 }
theorem hd_X0_change : yX0_change.cls = RX0 ∧ yX0_change.cls ≠ "java/lang/invoke/MethodHandle" ∧ yX0_change.cls ≠ "java/lang/invoke/VarHandle" ∧ (parseMethodDescriptor yX0_change.desc).map (fun d => d.parameters.length) = some 1 := by decide +kernel
set_option maxHeartbeats 4000000 in
set_option maxRecDepth 100000 in
theorem w_X0_change {D : va_G} {l : Launch} {hp hpE : jH} {rE : Int32} {this : Nat} {p1 : Int32} (hf : f_X0_change this p1 hp = some (rE, hpE)) : jM D l yX0_change (ws_ yX0_change cX0_change 3 (some .int)) rm_X0_change hp [.ref this, .int p1] (some (.int rE)) hpE := by
  refine jM.of (lv0 := [some (.ref this), some (.int p1), none]) (by decide) (Nat.le_of_ble_eq_true rfl) rfl (fun X hDl hRm hE hX0 => ?_)
  rw [f_X0_change] at hf
  refine J.iload_n (i := 1) dX0_change_0 rfl rfl ?_
  refine J.iconst (v := 0) dX0_change_1 (by decide) ?_
  refine J.bipush (v := 20) dX0_change_2 (by decide) ?_
  replace hf := jbs hf
  obtain ⟨v3, hp2, h1, hf⟩ := hf
  refine J.callS (As := [.int p1, .int 0, .int 20]) (k2 := 0) (n2 := 0) hDl hRm (w_X0_in h1) (lw_S q234 q235 q39 q236) hs_X0_in rfl (Nat.le_of_ble_eq_true rfl) (Nat.le_of_ble_eq_true rfl) (Nat.le_of_ble_eq_true rfl) (Nat.le_of_ble_eq_true rfl) (Nat.le_of_ble_eq_true rfl) (Nat.le_of_ble_eq_true rfl) (Nat.le_of_ble_eq_true rfl) rfl dX0_change_4 ?_
  refine J.if_ne (tgt := 13) dX0_change_7 (by decide) (fun hc4 => ?_) (fun hc4 => ?_)
  · replace hf := (if_neg hc4).symm.trans hf
    refine J.aload_n (i := 0) dX0_change_13 rfl rfl ?_
    replace hf := jbd hf
    obtain ⟨v5, h6, hf⟩ := hf
    refine J.getI 0 19 in_X0 rfl (Nat.le_of_ble_eq_true rfl) (Or.inl q164) (Or.inl rfl) h6 dX0_change_14 ?_
    refine J.istore_n (i := 2) (lv' := [some (.ref this), some (.int p1), some (.int v5)]) dX0_change_17 rfl (Nat.le_of_ble_eq_true rfl) rfl ?_
    refine J.aload_n (i := 0) dX0_change_18 rfl rfl ?_
    refine J.iload_n (i := 1) dX0_change_19 rfl rfl ?_
    replace hf := jbd hf
    obtain ⟨hp7, h8, hf⟩ := hf
    refine J.put (ty := .int) 0 19 in_X0 ap0 rfl (Nat.le_of_ble_eq_true rfl) (Or.inl q164) (Or.inl rfl) rfl (by decide +kernel) (fun _ => ⟨rfl, rfl⟩) h8 dX0_change_20 ?_
    refine J.iload_n (i := 2) dX0_change_23 rfl rfl ?_
    obtain ⟨rfl, rfl⟩ := jso hf
    exact J.iret hE (Nat.le_of_ble_eq_true rfl) (Nat.le_of_ble_eq_true rfl) dX0_change_24
  · replace hf := (if_pos hc4).symm.trans hf
    refine J.bipush (v := (-2)) dX0_change_10 (by decide) ?_
    obtain ⟨rfl, rfl⟩ := jso hf
    exact J.iret hE (Nat.le_of_ble_eq_true rfl) (Nat.le_of_ble_eq_true rfl) dX0_change_12
def rm_X0_alloyOf : Room := { frames := 0, cells := 0, slots := 0, locals := 0 }
theorem hd_X0_alloyOf : yX0_alloyOf.cls = RX0 ∧ yX0_alloyOf.cls ≠ "java/lang/invoke/MethodHandle" ∧ yX0_alloyOf.cls ≠ "java/lang/invoke/VarHandle" ∧ (parseMethodDescriptor yX0_alloyOf.desc).map (fun d => d.parameters.length) = some 1 := by decide +kernel
set_option maxHeartbeats 4000000 in
set_option maxRecDepth 100000 in
theorem w_X0_alloyOf {D : va_G} {l : Launch} {hp hpE : jH} {rE : Int32} {this : Nat} {p1 : Int32} (hf : f_X0_alloyOf this p1 hp = some (rE, hpE)) : jM D l yX0_alloyOf (ws_ yX0_alloyOf cX0_alloyOf 2 (some .int)) rm_X0_alloyOf hp [.ref this, .int p1] (some (.int rE)) hpE := by
  refine jM.of (lv0 := [some (.ref this), some (.int p1)]) (by decide) (Nat.le_of_ble_eq_true rfl) rfl (fun X hDl hRm hE hX0 => ?_)
  rw [f_X0_alloyOf] at hf
  refine J.aload_n (i := 0) dX0_alloyOf_0 rfl rfl ?_
  replace hf := jbd hf
  obtain ⟨a1, h2, hf⟩ := hf
  refine J.getA 0 0 in_X0 rfl (Nat.le_of_ble_eq_true rfl) (Or.inl q143) (Or.inl rfl) h2 dX0_alloyOf_1 ?_
  refine J.aload_n (i := 0) dX0_alloyOf_4 rfl rfl ?_
  replace hf := jbd hf
  obtain ⟨a3, h4, hf⟩ := hf
  refine J.getA 0 17 in_X0 rfl (Nat.le_of_ble_eq_true rfl) (Or.inl q162) (Or.inl rfl) h4 dX0_alloyOf_5 ?_
  refine J.iload_n (i := 1) dX0_alloyOf_8 rfl rfl ?_
  replace hf := jbd hf
  obtain ⟨a5, h6, hf⟩ := hf
  refine J.aaldA h6 dX0_alloyOf_9 ?_
  refine J.iconst (v := 0) dX0_alloyOf_10 (by decide) ?_
  replace hf := jbd hf
  obtain ⟨v7, h8, hf⟩ := hf
  refine J.iald h8 dX0_alloyOf_11 ?_
  replace hf := jbd hf
  obtain ⟨a9, h10, hf⟩ := hf
  refine J.aaldA h10 dX0_alloyOf_12 ?_
  replace hf := jbd hf
  obtain ⟨v11, h12, hf⟩ := hf
  refine J.getI 4 0 in_X6 rfl (Nat.le_of_ble_eq_true rfl) (Or.inr ⟨_, q269⟩) (Or.inl rfl) h12 dX0_alloyOf_13 ?_
  obtain ⟨rfl, rfl⟩ := jso hf
  exact J.iret hE (Nat.le_of_ble_eq_true rfl) (Nat.le_of_ble_eq_true rfl) dX0_alloyOf_16
def rm_X0_tries (d : Nat) : Room := { frames := 1 + d, cells := 0, slots := 0, locals := 24 + 27 * d }
theorem hd_X0_tries : yX0_tries.cls = RX0 ∧ yX0_tries.cls ≠ "java/lang/invoke/MethodHandle" ∧ yX0_tries.cls ≠ "java/lang/invoke/VarHandle" ∧ (parseMethodDescriptor yX0_tries.desc).map (fun d => d.parameters.length) = some 4 := by decide +kernel
set_option maxHeartbeats 4000000 in
set_option maxRecDepth 100000 in
theorem w_X0_tries_j201 {D : va_G} {l : Launch} {X : jX} {hp0 hpE : jH} {d : Nat} {rec : Nat → Int32 → Int32 → Int32 → Int32 → jH → Option jH} (hDl : jDl X D l) (hRm : jRoom X (rm_X0_tries (d + 1)).frames (rm_X0_tries (d + 1)).locals (rm_X0_tries (d + 1)).cells (rm_X0_tries (d + 1)).slots) (hE : jEnds X none none hpE (rm_X0_tries (d + 1)).cells (rm_X0_tries (d + 1)).slots) (hX0 : jX0 X hp0) (hrec : ∀ {this : Nat} {p1 p2 p3 p4 : Int32} {hp hpE : jH}, rec this p1 p2 p3 p4 hp = some hpE → jM D l yX0_tries (ws_ yX0_tries cX0_tries 8 none) (rm_X0_tries d) hp [.ref this, .int p1, .int p2, .int p3, .int p4] none hpE) {K82 : Nat → Int32 → Int32 → Int32 → Int32 → Int32 → jH → Option jH} (hK82 : ∀ (xa_0 : Nat) (xi_1 : Int32) (xi_2 : Int32) (xi_3 : Int32) (xi_4 : Int32) (xi_5 : Int32) (hp : jH), K82 xa_0 xi_1 xi_2 xi_3 xi_4 xi_5 hp = some hpE → J X cX0_tries 8 yX0_tries 0 0 82 [some (.ref xa_0), some (.int xi_1), some (.int xi_2), some (.int xi_3), some (.int xi_4), some (.int xi_5), none, none] [] hp) {xa_0 : Nat} {xi_1 : Int32} {xi_2 : Int32} {xi_3 : Int32} {xi_4 : Int32} {xi_5 : Int32} {hp : jH} (hf : f_X0_tries_j201 rec K82 xa_0 xi_1 xi_2 xi_3 xi_4 xi_5 hp = some hpE) : J X cX0_tries 8 yX0_tries 0 0 201 [some (.ref xa_0), some (.int xi_1), some (.int xi_2), some (.int xi_3), some (.int xi_4), some (.int xi_5), none, none] [] hp := by
  rw [f_X0_tries_j201] at hf
  refine J.iinc (i := 5) (v := (xi_5 + 1)) (lv' := [some (.ref xa_0), some (.int xi_1), some (.int xi_2), some (.int xi_3), some (.int xi_4), some (.int (xi_5 + 1)), none, none]) dX0_tries_201 rfl rfl (by first | exact Nat.le_of_ble_eq_true rfl | (simp only [rm_X0_alloyOf, rm_X0_tries]; omega)) rfl ?_
  refine J.goto (tgt := 82) dX0_tries_204 (by decide) ?_
  exact hK82 _ _ _ _ _ _ _ hf
set_option maxHeartbeats 4000000 in
set_option maxRecDepth 100000 in
theorem w_X0_tries_j146 {D : va_G} {l : Launch} {X : jX} {hp0 hpE : jH} {d : Nat} {rec : Nat → Int32 → Int32 → Int32 → Int32 → jH → Option jH} (hDl : jDl X D l) (hRm : jRoom X (rm_X0_tries (d + 1)).frames (rm_X0_tries (d + 1)).locals (rm_X0_tries (d + 1)).cells (rm_X0_tries (d + 1)).slots) (hE : jEnds X none none hpE (rm_X0_tries (d + 1)).cells (rm_X0_tries (d + 1)).slots) (hX0 : jX0 X hp0) (hrec : ∀ {this : Nat} {p1 p2 p3 p4 : Int32} {hp hpE : jH}, rec this p1 p2 p3 p4 hp = some hpE → jM D l yX0_tries (ws_ yX0_tries cX0_tries 8 none) (rm_X0_tries d) hp [.ref this, .int p1, .int p2, .int p3, .int p4] none hpE) {K82 : Nat → Int32 → Int32 → Int32 → Int32 → Int32 → jH → Option jH} (hK82 : ∀ (xa_0 : Nat) (xi_1 : Int32) (xi_2 : Int32) (xi_3 : Int32) (xi_4 : Int32) (xi_5 : Int32) (hp : jH), K82 xa_0 xi_1 xi_2 xi_3 xi_4 xi_5 hp = some hpE → J X cX0_tries 8 yX0_tries 0 0 82 [some (.ref xa_0), some (.int xi_1), some (.int xi_2), some (.int xi_3), some (.int xi_4), some (.int xi_5), none, none] [] hp) {xa_0 : Nat} {xi_1 : Int32} {xi_2 : Int32} {xi_3 : Int32} {xi_4 : Int32} {xi_5 : Int32} {xi_s0 : Int32} {xi_s1 : Int32} {hp : jH} (hf : f_X0_tries_j146 rec K82 xa_0 xi_1 xi_2 xi_3 xi_4 xi_5 xi_s0 xi_s1 hp = some hpE) : J X cX0_tries 8 yX0_tries 0 0 146 [some (.ref xa_0), some (.int xi_1), some (.int xi_2), some (.int xi_3), some (.int xi_4), some (.int xi_5), none, none] [.int xi_s1, .int xi_s0] hp := by
  rw [f_X0_tries_j146] at hf
  refine J.iadd dX0_tries_146 ?_
  refine J.aload_n (i := 0) dX0_tries_147 rfl rfl ?_
  replace hf := jbd hf
  obtain ⟨a13, h14, hf⟩ := hf
  refine J.getA 0 17 in_X0 rfl (by first | exact Nat.le_of_ble_eq_true rfl | (simp only [rm_X0_alloyOf, rm_X0_tries]; omega)) (Or.inl q162) (Or.inl rfl) h14 dX0_tries_148 ?_
  refine J.iload dX0_tries_151 rfl ?_
  replace hf := jbd hf
  obtain ⟨a15, h16, hf⟩ := hf
  refine J.aaldA h16 dX0_tries_153 ?_
  refine J.iconst (v := 1) dX0_tries_154 (by decide) ?_
  replace hf := jbd hf
  obtain ⟨v17, h18, hf⟩ := hf
  refine J.iald h18 dX0_tries_155 ?_
  refine J.iadd dX0_tries_156 ?_
  refine J.istore (i := 7) (lv' := [some (.ref xa_0), some (.int xi_1), some (.int xi_2), some (.int xi_3), some (.int xi_4), some (.int xi_5), none, some (.int ((xi_s0 + xi_s1) + v17))]) dX0_tries_157 (by first | exact Nat.le_of_ble_eq_true rfl | (simp only [rm_X0_alloyOf, rm_X0_tries]; omega)) rfl ?_
  refine J.aload_n (i := 0) dX0_tries_159 rfl rfl ?_
  replace hf := jbd hf
  obtain ⟨a19, h20, hf⟩ := hf
  refine J.getA 0 20 in_X0 rfl (by first | exact Nat.le_of_ble_eq_true rfl | (simp only [rm_X0_alloyOf, rm_X0_tries]; omega)) (Or.inl q165) (Or.inl rfl) h20 dX0_tries_160 ?_
  refine J.iload_n (i := 1) dX0_tries_163 rfl rfl ?_
  refine J.iload dX0_tries_164 rfl ?_
  replace hf := jbd hf
  obtain ⟨hp21, h22, hf⟩ := hf
  refine J.iast h22 dX0_tries_166 ?_
  refine J.aload_n (i := 0) dX0_tries_167 rfl rfl ?_
  refine J.iload_n (i := 1) dX0_tries_168 rfl rfl ?_
  refine J.iconst (v := 1) dX0_tries_169 (by decide) ?_
  refine J.iadd dX0_tries_170 ?_
  refine J.iload_n (i := 2) dX0_tries_171 rfl rfl ?_
  refine J.iconst (v := 1) dX0_tries_172 (by decide) ?_
  refine J.iload dX0_tries_173 rfl ?_
  refine J.ishl dX0_tries_175 ?_
  refine J.ior dX0_tries_176 ?_
  refine J.iload dX0_tries_177 rfl ?_
  refine J.iload dX0_tries_179 rfl ?_
  refine J.iconst (v := 0) dX0_tries_181 (by decide) ?_
  refine J.iload dX0_tries_182 rfl ?_
  refine J.aload_n (i := 0) dX0_tries_184 rfl rfl ?_
  replace hf := jbd hf
  obtain ⟨a23, h24, hf⟩ := hf
  refine J.getA 0 17 in_X0 rfl (by first | exact Nat.le_of_ble_eq_true rfl | (simp only [rm_X0_alloyOf, rm_X0_tries]; omega)) (Or.inl q162) (Or.inl rfl) h24 dX0_tries_185 ?_
  refine J.iload dX0_tries_188 rfl ?_
  replace hf := jbd hf
  obtain ⟨a25, h26, hf⟩ := hf
  refine J.aaldA h26 dX0_tries_190 ?_
  refine J.iconst (v := 2) dX0_tries_191 (by decide) ?_
  replace hf := jbd hf
  obtain ⟨v27, h28, hf⟩ := hf
  refine J.iald h28 dX0_tries_192 ?_
  refine J.isub dX0_tries_193 ?_
  refine J.mmax hRm q414 q415 q51 q416 (by first | exact Nat.le_of_ble_eq_true rfl | (simp only [rm_X0_alloyOf, rm_X0_tries]; omega)) (by first | exact Nat.le_of_ble_eq_true rfl | (simp only [rm_X0_alloyOf, rm_X0_tries]; omega)) (by first | exact Nat.le_of_ble_eq_true rfl | (simp only [rm_X0_alloyOf, rm_X0_tries]; omega)) (by first | exact Nat.le_of_ble_eq_true rfl | (simp only [rm_X0_alloyOf, rm_X0_tries]; omega)) dX0_tries_194 ?_
  refine J.iadd dX0_tries_197 ?_
  replace hf := jbd hf
  obtain ⟨u29, h30, hf⟩ := hf
  replace hf := jbd hf
  obtain ⟨hp32, h31, hf⟩ := hf
  refine J.callV (As := [.int (xi_1 + 1), .int (xi_2 ||| (1 <<< (xi_5 &&& 31))), .int ((xi_s0 + xi_s1) + v17), .int (xi_4 + (jmax 0 (((xi_s0 + xi_s1) + v17) - v27)))]) (k2 := 0) (n2 := 0) 0 hDl hRm (hrec h31) (lw_V q684 q686 qs14 q39 q687) hd_X0_tries rfl ⟨_, h30⟩ rfl (by first | exact Nat.le_of_ble_eq_true rfl | (simp only [rm_X0_alloyOf, rm_X0_tries]; omega)) (by first | exact Nat.le_of_ble_eq_true rfl | (simp only [rm_X0_alloyOf, rm_X0_tries]; omega)) (by first | exact Nat.le_of_ble_eq_true rfl | (simp only [rm_X0_alloyOf, rm_X0_tries]; omega)) (by first | exact Nat.le_of_ble_eq_true rfl | (simp only [rm_X0_alloyOf, rm_X0_tries]; omega)) (by first | exact Nat.le_of_ble_eq_true rfl | (simp only [rm_X0_alloyOf, rm_X0_tries]; omega)) (by first | exact Nat.le_of_ble_eq_true rfl | (simp only [rm_X0_alloyOf, rm_X0_tries]; omega)) (by first | exact Nat.le_of_ble_eq_true rfl | (simp only [rm_X0_alloyOf, rm_X0_tries]; omega)) rfl dX0_tries_198 ?_
  refine J.mask (lv' := [some (.ref xa_0), some (.int xi_1), some (.int xi_2), some (.int xi_3), some (.int xi_4), some (.int xi_5), none, none]) [true, true, true, true, true, true, false, false] rfl ?_
  exact w_X0_tries_j201 hDl hRm hE hX0 hrec hK82 hf
set_option maxHeartbeats 4000000 in
set_option maxRecDepth 100000 in
theorem w_X0_tries_j130 {D : va_G} {l : Launch} {X : jX} {hp0 hpE : jH} {d : Nat} {rec : Nat → Int32 → Int32 → Int32 → Int32 → jH → Option jH} (hDl : jDl X D l) (hRm : jRoom X (rm_X0_tries (d + 1)).frames (rm_X0_tries (d + 1)).locals (rm_X0_tries (d + 1)).cells (rm_X0_tries (d + 1)).slots) (hE : jEnds X none none hpE (rm_X0_tries (d + 1)).cells (rm_X0_tries (d + 1)).slots) (hX0 : jX0 X hp0) (hrec : ∀ {this : Nat} {p1 p2 p3 p4 : Int32} {hp hpE : jH}, rec this p1 p2 p3 p4 hp = some hpE → jM D l yX0_tries (ws_ yX0_tries cX0_tries 8 none) (rm_X0_tries d) hp [.ref this, .int p1, .int p2, .int p3, .int p4] none hpE) {K82 : Nat → Int32 → Int32 → Int32 → Int32 → Int32 → jH → Option jH} (hK82 : ∀ (xa_0 : Nat) (xi_1 : Int32) (xi_2 : Int32) (xi_3 : Int32) (xi_4 : Int32) (xi_5 : Int32) (hp : jH), K82 xa_0 xi_1 xi_2 xi_3 xi_4 xi_5 hp = some hpE → J X cX0_tries 8 yX0_tries 0 0 82 [some (.ref xa_0), some (.int xi_1), some (.int xi_2), some (.int xi_3), some (.int xi_4), some (.int xi_5), none, none] [] hp) {xa_0 : Nat} {xi_1 : Int32} {xi_2 : Int32} {xi_3 : Int32} {xi_4 : Int32} {xi_5 : Int32} {xi_s0 : Int32} {hp : jH} (hf : f_X0_tries_j130 rec K82 xa_0 xi_1 xi_2 xi_3 xi_4 xi_5 xi_s0 hp = some hpE) : J X cX0_tries 8 yX0_tries 0 0 130 [some (.ref xa_0), some (.int xi_1), some (.int xi_2), some (.int xi_3), some (.int xi_4), some (.int xi_5), none, none] [.int xi_s0] hp := by
  rw [f_X0_tries_j130] at hf
  refine J.istore (i := 6) (lv' := [some (.ref xa_0), some (.int xi_1), some (.int xi_2), some (.int xi_3), some (.int xi_4), some (.int xi_5), some (.int xi_s0), none]) dX0_tries_130 (by first | exact Nat.le_of_ble_eq_true rfl | (simp only [rm_X0_alloyOf, rm_X0_tries]; omega)) rfl ?_
  refine J.iload_n (i := 3) dX0_tries_132 rfl rfl ?_
  refine J.iload dX0_tries_133 rfl ?_
  refine J.if_eq (tgt := 145) dX0_tries_135 (by decide) (fun hc12 => ?_) (fun hc12 => ?_)
  · replace hf := (if_pos hc12).symm.trans hf
    refine J.iconst (v := 0) dX0_tries_145 (by decide) ?_
    refine J.mask (lv' := [some (.ref xa_0), some (.int xi_1), some (.int xi_2), some (.int xi_3), some (.int xi_4), some (.int xi_5), none, none]) [true, true, true, true, true, true, false, false] rfl ?_
    exact w_X0_tries_j146 hDl hRm hE hX0 hrec hK82 hf
  · replace hf := (if_neg hc12).symm.trans hf
    refine J.aload_n (i := 0) dX0_tries_138 rfl rfl ?_
    replace hf := jbd hf
    obtain ⟨v33, h34, hf⟩ := hf
    refine J.getI 0 19 in_X0 rfl (by first | exact Nat.le_of_ble_eq_true rfl | (simp only [rm_X0_alloyOf, rm_X0_tries]; omega)) (Or.inl q164) (Or.inl rfl) h34 dX0_tries_139 ?_
    refine J.goto (tgt := 146) dX0_tries_142 (by decide) ?_
    refine J.mask (lv' := [some (.ref xa_0), some (.int xi_1), some (.int xi_2), some (.int xi_3), some (.int xi_4), some (.int xi_5), none, none]) [true, true, true, true, true, true, false, false] rfl ?_
    exact w_X0_tries_j146 hDl hRm hE hX0 hrec hK82 hf
set_option maxHeartbeats 4000000 in
set_option maxRecDepth 100000 in
theorem w_X0_tries_j129 {D : va_G} {l : Launch} {X : jX} {hp0 hpE : jH} {d : Nat} {rec : Nat → Int32 → Int32 → Int32 → Int32 → jH → Option jH} (hDl : jDl X D l) (hRm : jRoom X (rm_X0_tries (d + 1)).frames (rm_X0_tries (d + 1)).locals (rm_X0_tries (d + 1)).cells (rm_X0_tries (d + 1)).slots) (hE : jEnds X none none hpE (rm_X0_tries (d + 1)).cells (rm_X0_tries (d + 1)).slots) (hX0 : jX0 X hp0) (hrec : ∀ {this : Nat} {p1 p2 p3 p4 : Int32} {hp hpE : jH}, rec this p1 p2 p3 p4 hp = some hpE → jM D l yX0_tries (ws_ yX0_tries cX0_tries 8 none) (rm_X0_tries d) hp [.ref this, .int p1, .int p2, .int p3, .int p4] none hpE) {K82 : Nat → Int32 → Int32 → Int32 → Int32 → Int32 → jH → Option jH} (hK82 : ∀ (xa_0 : Nat) (xi_1 : Int32) (xi_2 : Int32) (xi_3 : Int32) (xi_4 : Int32) (xi_5 : Int32) (hp : jH), K82 xa_0 xi_1 xi_2 xi_3 xi_4 xi_5 hp = some hpE → J X cX0_tries 8 yX0_tries 0 0 82 [some (.ref xa_0), some (.int xi_1), some (.int xi_2), some (.int xi_3), some (.int xi_4), some (.int xi_5), none, none] [] hp) {xa_0 : Nat} {xi_1 : Int32} {xi_2 : Int32} {xi_3 : Int32} {xi_4 : Int32} {xi_5 : Int32} {hp : jH} (hf : f_X0_tries_j129 rec K82 xa_0 xi_1 xi_2 xi_3 xi_4 xi_5 hp = some hpE) : J X cX0_tries 8 yX0_tries 0 0 129 [some (.ref xa_0), some (.int xi_1), some (.int xi_2), some (.int xi_3), some (.int xi_4), some (.int xi_5), none, none] [] hp := by
  rw [f_X0_tries_j129] at hf
  refine J.iconst (v := 0) dX0_tries_129 (by decide) ?_
  exact w_X0_tries_j130 hDl hRm hE hX0 hrec hK82 hf
set_option maxHeartbeats 4000000 in
set_option maxRecDepth 100000 in
theorem w_X0_tries_L82 {D : va_G} {l : Launch} {X : jX} {hp0 hpE : jH} {d : Nat} {rec : Nat → Int32 → Int32 → Int32 → Int32 → jH → Option jH} (hDl : jDl X D l) (hRm : jRoom X (rm_X0_tries (d + 1)).frames (rm_X0_tries (d + 1)).locals (rm_X0_tries (d + 1)).cells (rm_X0_tries (d + 1)).slots) (hE : jEnds X none none hpE (rm_X0_tries (d + 1)).cells (rm_X0_tries (d + 1)).slots) (hX0 : jX0 X hp0) (hrec : ∀ {this : Nat} {p1 p2 p3 p4 : Int32} {hp hpE : jH}, rec this p1 p2 p3 p4 hp = some hpE → jM D l yX0_tries (ws_ yX0_tries cX0_tries 8 none) (rm_X0_tries d) hp [.ref this, .int p1, .int p2, .int p3, .int p4] none hpE) : ∀ (N : Nat) (xa_0 : Nat) (xi_1 : Int32) (xi_2 : Int32) (xi_3 : Int32) (xi_4 : Int32) (xi_5 : Int32) (hp : jH), f_X0_tries_L82 rec N xa_0 xi_1 xi_2 xi_3 xi_4 xi_5 hp = some hpE → J X cX0_tries 8 yX0_tries 0 0 82 [some (.ref xa_0), some (.int xi_1), some (.int xi_2), some (.int xi_3), some (.int xi_4), some (.int xi_5), none, none] [] hp := by
  intro N
  induction N with
  | zero =>
    intro xa_0 xi_1 xi_2 xi_3 xi_4 xi_5 hp hf
    rw [f_X0_tries_L82] at hf
    cases hf
  | succ N ih82 =>
    intro xa_0 xi_1 xi_2 xi_3 xi_4 xi_5 hp hf
    rw [f_X0_tries_L82] at hf
    refine J.iload dX0_tries_82 rfl ?_
    refine J.aload_n (i := 0) dX0_tries_84 rfl rfl ?_
    replace hf := jbd hf
    obtain ⟨v7, h8, hf⟩ := hf
    refine J.getI 0 18 in_X0 rfl (by first | exact Nat.le_of_ble_eq_true rfl | (simp only [rm_X0_alloyOf, rm_X0_tries]; omega)) (Or.inl q163) (Or.inl rfl) h8 dX0_tries_85 ?_
    refine J.icmp_ge (tgt := 207) dX0_tries_88 (by decide) (fun hc9 => ?_) (fun hc9 => ?_)
    · replace hf := (if_pos hc9).symm.trans hf
      obtain rfl := Option.some.inj hf
      exact J.vret hE (by first | exact Nat.le_of_ble_eq_true rfl | (simp only [rm_X0_alloyOf, rm_X0_tries]; omega)) (by first | exact Nat.le_of_ble_eq_true rfl | (simp only [rm_X0_alloyOf, rm_X0_tries]; omega)) dX0_tries_207
    · replace hf := (if_neg hc9).symm.trans hf
      refine J.iload_n (i := 2) dX0_tries_91 rfl rfl ?_
      refine J.iload dX0_tries_92 rfl ?_
      refine J.ishr dX0_tries_94 ?_
      refine J.iconst (v := 1) dX0_tries_95 (by decide) ?_
      refine J.iand dX0_tries_96 ?_
      refine J.if_ne (tgt := 201) dX0_tries_97 (by decide) (fun hc10 => ?_) (fun hc10 => ?_)
      · replace hf := (if_neg hc10).symm.trans hf
        exact w_X0_tries_j201 hDl hRm hE hX0 hrec (fun z0 z1 z2 z3 z4 z5 z6 hz => ih82 z0 z1 z2 z3 z4 z5 z6 hz) hf
      · replace hf := (if_pos hc10).symm.trans hf
        refine J.iload_n (i := 1) dX0_tries_100 rfl rfl ?_
        refine J.if_le (tgt := 129) dX0_tries_101 (by decide) (fun hc11 => ?_) (fun hc11 => ?_)
        · replace hf := (if_pos hc11).symm.trans hf
          exact w_X0_tries_j129 hDl hRm hE hX0 hrec (fun z0 z1 z2 z3 z4 z5 z6 hz => ih82 z0 z1 z2 z3 z4 z5 z6 hz) hf
        · replace hf := (if_neg hc11).symm.trans hf
          refine J.aload_n (i := 0) dX0_tries_104 rfl rfl ?_
          refine J.aload_n (i := 0) dX0_tries_105 rfl rfl ?_
          replace hf := jbd hf
          obtain ⟨a35, h36, hf⟩ := hf
          refine J.getA 0 20 in_X0 rfl (by first | exact Nat.le_of_ble_eq_true rfl | (simp only [rm_X0_alloyOf, rm_X0_tries]; omega)) (Or.inl q165) (Or.inl rfl) h36 dX0_tries_106 ?_
          refine J.iload_n (i := 1) dX0_tries_109 rfl rfl ?_
          refine J.iconst (v := 1) dX0_tries_110 (by decide) ?_
          refine J.isub dX0_tries_111 ?_
          replace hf := jbd hf
          obtain ⟨v37, h38, hf⟩ := hf
          refine J.iald h38 dX0_tries_112 ?_
          replace hf := jbd hf
          obtain ⟨u39, h40, hf⟩ := hf
          replace hf := jbs hf
          obtain ⟨v43, hp42, h41, hf⟩ := hf
          refine J.callV (As := [.int v37]) (k2 := 0) (n2 := 0) 0 hDl hRm (w_X0_alloyOf h41) (lw_V q688 q690 qs15 q39 q691) hd_X0_alloyOf rfl ⟨_, h40⟩ rfl (by first | exact Nat.le_of_ble_eq_true rfl | (simp only [rm_X0_alloyOf, rm_X0_tries]; omega)) (by first | exact Nat.le_of_ble_eq_true rfl | (simp only [rm_X0_alloyOf, rm_X0_tries]; omega)) (by first | exact Nat.le_of_ble_eq_true rfl | (simp only [rm_X0_alloyOf, rm_X0_tries]; omega)) (by first | exact Nat.le_of_ble_eq_true rfl | (simp only [rm_X0_alloyOf, rm_X0_tries]; omega)) (by first | exact Nat.le_of_ble_eq_true rfl | (simp only [rm_X0_alloyOf, rm_X0_tries]; omega)) (by first | exact Nat.le_of_ble_eq_true rfl | (simp only [rm_X0_alloyOf, rm_X0_tries]; omega)) (by first | exact Nat.le_of_ble_eq_true rfl | (simp only [rm_X0_alloyOf, rm_X0_tries]; omega)) rfl dX0_tries_113 ?_
          refine J.aload_n (i := 0) dX0_tries_116 rfl rfl ?_
          refine J.iload dX0_tries_117 rfl ?_
          replace hf := jbd hf
          obtain ⟨u44, h45, hf⟩ := hf
          replace hf := jbs hf
          obtain ⟨v48, hp47, h46, hf⟩ := hf
          refine J.callV (As := [.int xi_5]) (k2 := 0) (n2 := 0) 0 hDl hRm (w_X0_alloyOf h46) (lw_V q688 q690 qs15 q39 q691) hd_X0_alloyOf rfl ⟨_, h45⟩ rfl (by first | exact Nat.le_of_ble_eq_true rfl | (simp only [rm_X0_alloyOf, rm_X0_tries]; omega)) (by first | exact Nat.le_of_ble_eq_true rfl | (simp only [rm_X0_alloyOf, rm_X0_tries]; omega)) (by first | exact Nat.le_of_ble_eq_true rfl | (simp only [rm_X0_alloyOf, rm_X0_tries]; omega)) (by first | exact Nat.le_of_ble_eq_true rfl | (simp only [rm_X0_alloyOf, rm_X0_tries]; omega)) (by first | exact Nat.le_of_ble_eq_true rfl | (simp only [rm_X0_alloyOf, rm_X0_tries]; omega)) (by first | exact Nat.le_of_ble_eq_true rfl | (simp only [rm_X0_alloyOf, rm_X0_tries]; omega)) (by first | exact Nat.le_of_ble_eq_true rfl | (simp only [rm_X0_alloyOf, rm_X0_tries]; omega)) rfl dX0_tries_119 ?_
          refine J.icmp_eq (tgt := 129) dX0_tries_122 (by decide) (fun hc49 => ?_) (fun hc49 => ?_)
          · replace hf := (if_pos hc49).symm.trans hf
            exact w_X0_tries_j129 hDl hRm hE hX0 hrec (fun z0 z1 z2 z3 z4 z5 z6 hz => ih82 z0 z1 z2 z3 z4 z5 z6 hz) hf
          · replace hf := (if_neg hc49).symm.trans hf
            refine J.iconst (v := 1) dX0_tries_125 (by decide) ?_
            refine J.goto (tgt := 130) dX0_tries_126 (by decide) ?_
            exact w_X0_tries_j130 hDl hRm hE hX0 hrec (fun z0 z1 z2 z3 z4 z5 z6 hz => ih82 z0 z1 z2 z3 z4 z5 z6 hz) hf
set_option maxHeartbeats 4000000 in
set_option maxRecDepth 100000 in
theorem w_X0_tries_L49 {D : va_G} {l : Launch} {X : jX} {hp0 hpE : jH} {d : Nat} {rec : Nat → Int32 → Int32 → Int32 → Int32 → jH → Option jH} (hDl : jDl X D l) (hRm : jRoom X (rm_X0_tries (d + 1)).frames (rm_X0_tries (d + 1)).locals (rm_X0_tries (d + 1)).cells (rm_X0_tries (d + 1)).slots) (hE : jEnds X none none hpE (rm_X0_tries (d + 1)).cells (rm_X0_tries (d + 1)).slots) (hX0 : jX0 X hp0) (hrec : ∀ {this : Nat} {p1 p2 p3 p4 : Int32} {hp hpE : jH}, rec this p1 p2 p3 p4 hp = some hpE → jM D l yX0_tries (ws_ yX0_tries cX0_tries 8 none) (rm_X0_tries d) hp [.ref this, .int p1, .int p2, .int p3, .int p4] none hpE) : ∀ (N : Nat) (xa_0 : Nat) (xi_5 : Int32) (hp : jH), f_X0_tries_L49 rec N xa_0 xi_5 hp = some hpE → J X cX0_tries 8 yX0_tries 0 0 49 [some (.ref xa_0), none, none, none, none, some (.int xi_5), none, none] [] hp := by
  intro N
  induction N with
  | zero =>
    intro xa_0 xi_5 hp hf
    rw [f_X0_tries_L49] at hf
    cases hf
  | succ N ih49 =>
    intro xa_0 xi_5 hp hf
    rw [f_X0_tries_L49] at hf
    refine J.iload dX0_tries_49 rfl ?_
    refine J.aload_n (i := 0) dX0_tries_51 rfl rfl ?_
    replace hf := jbd hf
    obtain ⟨v57, h58, hf⟩ := hf
    refine J.getI 0 18 in_X0 rfl (by first | exact Nat.le_of_ble_eq_true rfl | (simp only [rm_X0_alloyOf, rm_X0_tries]; omega)) (Or.inl q163) (Or.inl rfl) h58 dX0_tries_52 ?_
    refine J.icmp_ge (tgt := 78) dX0_tries_55 (by decide) (fun hc59 => ?_) (fun hc59 => ?_)
    · replace hf := (if_pos hc59).symm.trans hf
      obtain rfl := Option.some.inj hf
      exact J.vret hE (by first | exact Nat.le_of_ble_eq_true rfl | (simp only [rm_X0_alloyOf, rm_X0_tries]; omega)) (by first | exact Nat.le_of_ble_eq_true rfl | (simp only [rm_X0_alloyOf, rm_X0_tries]; omega)) dX0_tries_78
    · replace hf := (if_neg hc59).symm.trans hf
      refine J.aload_n (i := 0) dX0_tries_58 rfl rfl ?_
      replace hf := jbd hf
      obtain ⟨a60, h61, hf⟩ := hf
      refine J.getA 0 21 in_X0 rfl (by first | exact Nat.le_of_ble_eq_true rfl | (simp only [rm_X0_alloyOf, rm_X0_tries]; omega)) (Or.inl q166) (Or.inl rfl) h61 dX0_tries_59 ?_
      refine J.iload dX0_tries_62 rfl ?_
      refine J.aload_n (i := 0) dX0_tries_64 rfl rfl ?_
      replace hf := jbd hf
      obtain ⟨a62, h63, hf⟩ := hf
      refine J.getA 0 20 in_X0 rfl (by first | exact Nat.le_of_ble_eq_true rfl | (simp only [rm_X0_alloyOf, rm_X0_tries]; omega)) (Or.inl q165) (Or.inl rfl) h63 dX0_tries_65 ?_
      refine J.iload dX0_tries_68 rfl ?_
      replace hf := jbd hf
      obtain ⟨v64, h65, hf⟩ := hf
      refine J.iald h65 dX0_tries_70 ?_
      replace hf := jbd hf
      obtain ⟨hp66, h67, hf⟩ := hf
      refine J.iast h67 dX0_tries_71 ?_
      refine J.iinc (i := 5) (v := (xi_5 + 1)) (lv' := [some (.ref xa_0), none, none, none, none, some (.int (xi_5 + 1)), none, none]) dX0_tries_72 rfl rfl (by first | exact Nat.le_of_ble_eq_true rfl | (simp only [rm_X0_alloyOf, rm_X0_tries]; omega)) rfl ?_
      refine J.goto (tgt := 49) dX0_tries_75 (by decide) ?_
      exact ih49 _ _ _ hf
set_option maxHeartbeats 4000000 in
set_option maxRecDepth 100000 in
theorem w_X0_tries_j35 {D : va_G} {l : Launch} {X : jX} {hp0 hpE : jH} {d : Nat} {rec : Nat → Int32 → Int32 → Int32 → Int32 → jH → Option jH} (hDl : jDl X D l) (hRm : jRoom X (rm_X0_tries (d + 1)).frames (rm_X0_tries (d + 1)).locals (rm_X0_tries (d + 1)).cells (rm_X0_tries (d + 1)).slots) (hE : jEnds X none none hpE (rm_X0_tries (d + 1)).cells (rm_X0_tries (d + 1)).slots) (hX0 : jX0 X hp0) (hrec : ∀ {this : Nat} {p1 p2 p3 p4 : Int32} {hp hpE : jH}, rec this p1 p2 p3 p4 hp = some hpE → jM D l yX0_tries (ws_ yX0_tries cX0_tries 8 none) (rm_X0_tries d) hp [.ref this, .int p1, .int p2, .int p3, .int p4] none hpE) {xa_0 : Nat} {xi_3 : Int32} {xi_4 : Int32} {hp : jH} (hf : f_X0_tries_j35 rec xa_0 xi_3 xi_4 hp = some hpE) : J X cX0_tries 8 yX0_tries 0 0 35 [some (.ref xa_0), none, none, some (.int xi_3), some (.int xi_4), none, none, none] [] hp := by
  rw [f_X0_tries_j35] at hf
  refine J.aload_n (i := 0) dX0_tries_35 rfl rfl ?_
  refine J.iload dX0_tries_36 rfl ?_
  replace hf := jbd hf
  obtain ⟨hp53, h54, hf⟩ := hf
  refine J.put (ty := .int) 0 22 in_X0 ap0 rfl (by first | exact Nat.le_of_ble_eq_true rfl | (simp only [rm_X0_alloyOf, rm_X0_tries]; omega)) (Or.inl q167) (Or.inl rfl) rfl (by decide +kernel) (fun _ => ⟨rfl, rfl⟩) h54 dX0_tries_38 ?_
  refine J.aload_n (i := 0) dX0_tries_41 rfl rfl ?_
  refine J.iload_n (i := 3) dX0_tries_42 rfl rfl ?_
  replace hf := jbd hf
  obtain ⟨hp55, h56, hf⟩ := hf
  refine J.put (ty := .int) 0 23 in_X0 ap0 rfl (by first | exact Nat.le_of_ble_eq_true rfl | (simp only [rm_X0_alloyOf, rm_X0_tries]; omega)) (Or.inl q168) (Or.inl rfl) rfl (by decide +kernel) (fun _ => ⟨rfl, rfl⟩) h56 dX0_tries_43 ?_
  refine J.iconst (v := 0) dX0_tries_46 (by decide) ?_
  refine J.istore (i := 5) (lv' := [some (.ref xa_0), none, none, some (.int xi_3), some (.int xi_4), some (.int 0), none, none]) dX0_tries_47 (by first | exact Nat.le_of_ble_eq_true rfl | (simp only [rm_X0_alloyOf, rm_X0_tries]; omega)) rfl ?_
  refine J.mask (lv' := [some (.ref xa_0), none, none, none, none, some (.int 0), none, none]) [true, false, false, false, false, true, false, false] rfl ?_
  exact w_X0_tries_L49 hDl hRm hE hX0 hrec _ _ _ _ hf
set_option maxHeartbeats 4000000 in
set_option maxRecDepth 100000 in
theorem w_X0_tries {D : va_G} {l : Launch} {hp hpE : jH} {this : Nat} {p1 : Int32} {p2 : Int32} {p3 : Int32} {p4 : Int32} {d : Nat} {rec : Nat → Int32 → Int32 → Int32 → Int32 → jH → Option jH} (hrec : ∀ {this : Nat} {p1 p2 p3 p4 : Int32} {hp hpE : jH}, rec this p1 p2 p3 p4 hp = some hpE → jM D l yX0_tries (ws_ yX0_tries cX0_tries 8 none) (rm_X0_tries d) hp [.ref this, .int p1, .int p2, .int p3, .int p4] none hpE) (hf : f_X0_tries rec this p1 p2 p3 p4 hp = some hpE) : jM D l yX0_tries (ws_ yX0_tries cX0_tries 8 none) (rm_X0_tries (d + 1)) hp [.ref this, .int p1, .int p2, .int p3, .int p4] none hpE := by
  refine jM.of (lv0 := [some (.ref this), some (.int p1), some (.int p2), some (.int p3), some (.int p4), none, none, none]) (by decide) (Nat.le_of_ble_eq_true rfl) rfl (fun X hDl hRm hE hX0 => ?_)
  rw [f_X0_tries] at hf
  refine J.iload dX0_tries_0 rfl ?_
  refine J.aload_n (i := 0) dX0_tries_2 rfl rfl ?_
  replace hf := jbd hf
  obtain ⟨v1, h2, hf⟩ := hf
  refine J.getI 0 22 in_X0 rfl (by first | exact Nat.le_of_ble_eq_true rfl | (simp only [rm_X0_alloyOf, rm_X0_tries]; omega)) (Or.inl q167) (Or.inl rfl) h2 dX0_tries_3 ?_
  refine J.icmp_le (tgt := 10) dX0_tries_6 (by decide) (fun hc3 => ?_) (fun hc3 => ?_)
  · replace hf := (if_pos hc3).symm.trans hf
    refine J.iload_n (i := 1) dX0_tries_10 rfl rfl ?_
    refine J.aload_n (i := 0) dX0_tries_11 rfl rfl ?_
    replace hf := jbd hf
    obtain ⟨v4, h5, hf⟩ := hf
    refine J.getI 0 18 in_X0 rfl (by first | exact Nat.le_of_ble_eq_true rfl | (simp only [rm_X0_alloyOf, rm_X0_tries]; omega)) (Or.inl q163) (Or.inl rfl) h5 dX0_tries_12 ?_
    refine J.icmp_ne (tgt := 79) dX0_tries_15 (by decide) (fun hc6 => ?_) (fun hc6 => ?_)
    · replace hf := (if_neg hc6).symm.trans hf
      refine J.iconst (v := 0) dX0_tries_79 (by decide) ?_
      refine J.istore (i := 5) (lv' := [some (.ref this), some (.int p1), some (.int p2), some (.int p3), some (.int p4), some (.int 0), none, none]) dX0_tries_80 (by first | exact Nat.le_of_ble_eq_true rfl | (simp only [rm_X0_alloyOf, rm_X0_tries]; omega)) rfl ?_
      exact w_X0_tries_L82 hDl hRm hE hX0 hrec _ _ _ _ _ _ _ _ hf
    · replace hf := (if_pos hc6).symm.trans hf
      refine J.iload dX0_tries_18 rfl ?_
      refine J.aload_n (i := 0) dX0_tries_20 rfl rfl ?_
      replace hf := jbd hf
      obtain ⟨v50, h51, hf⟩ := hf
      refine J.getI 0 22 in_X0 rfl (by first | exact Nat.le_of_ble_eq_true rfl | (simp only [rm_X0_alloyOf, rm_X0_tries]; omega)) (Or.inl q167) (Or.inl rfl) h51 dX0_tries_21 ?_
      refine J.icmp_lt (tgt := 35) dX0_tries_24 (by decide) (fun hc52 => ?_) (fun hc52 => ?_)
      · replace hf := (if_pos hc52).symm.trans hf
        refine J.mask (lv' := [some (.ref this), none, none, some (.int p3), some (.int p4), none, none, none]) [true, false, false, true, true, false, false, false] rfl ?_
        exact w_X0_tries_j35 hDl hRm hE hX0 hrec hf
      · replace hf := (if_neg hc52).symm.trans hf
        refine J.iload_n (i := 3) dX0_tries_27 rfl rfl ?_
        refine J.aload_n (i := 0) dX0_tries_28 rfl rfl ?_
        replace hf := jbd hf
        obtain ⟨v68, h69, hf⟩ := hf
        refine J.getI 0 23 in_X0 rfl (by first | exact Nat.le_of_ble_eq_true rfl | (simp only [rm_X0_alloyOf, rm_X0_tries]; omega)) (Or.inl q168) (Or.inl rfl) h69 dX0_tries_29 ?_
        refine J.icmp_ge (tgt := 78) dX0_tries_32 (by decide) (fun hc70 => ?_) (fun hc70 => ?_)
        · replace hf := (if_pos hc70).symm.trans hf
          obtain rfl := Option.some.inj hf
          exact J.vret hE (by first | exact Nat.le_of_ble_eq_true rfl | (simp only [rm_X0_alloyOf, rm_X0_tries]; omega)) (by first | exact Nat.le_of_ble_eq_true rfl | (simp only [rm_X0_alloyOf, rm_X0_tries]; omega)) dX0_tries_78
        · replace hf := (if_neg hc70).symm.trans hf
          refine J.mask (lv' := [some (.ref this), none, none, some (.int p3), some (.int p4), none, none, none]) [true, false, false, true, true, false, false, false] rfl ?_
          exact w_X0_tries_j35 hDl hRm hE hX0 hrec hf
  · replace hf := (if_neg hc3).symm.trans hf
    obtain rfl := Option.some.inj hf
    exact J.vret hE (by first | exact Nat.le_of_ble_eq_true rfl | (simp only [rm_X0_alloyOf, rm_X0_tries]; omega)) (by first | exact Nat.le_of_ble_eq_true rfl | (simp only [rm_X0_alloyOf, rm_X0_tries]; omega)) dX0_tries_9
theorem w_X0_triesD {D : va_G} {l : Launch} : ∀ (d : Nat) {this : Nat} {p1 p2 p3 p4 : Int32} {hp hpE : jH}, f_X0_triesD d this p1 p2 p3 p4 hp = some hpE → jM D l yX0_tries (ws_ yX0_tries cX0_tries 8 none) (rm_X0_tries d) hp [.ref this, .int p1, .int p2, .int p3, .int p4] none hpE := by
  intro d
  induction d with
  | zero =>
    intro this p1 p2 p3 p4 hp hpE hf
    rw [f_X0_triesD] at hf
    cases hf
  | succ d ih =>
    intro this p1 p2 p3 p4 hp hpE hf
    rw [f_X0_triesD] at hf
    exact w_X0_tries (d := d) (rec := f_X0_triesD d) (fun {this p1 p2 p3 p4 hp hpE} h => ih h) hf
abbrev rm_X0_triesR : Room := rm_X0_tries 9
theorem w_X0_triesR {D : va_G} {l : Launch} {this : Nat} {p1 p2 p3 p4 : Int32} {hp hpE : jH} (hf : f_X0_triesR this p1 p2 p3 p4 hp = some hpE) : jM D l yX0_tries (ws_ yX0_tries cX0_tries 8 none) rm_X0_triesR hp [.ref this, .int p1, .int p2, .int p3, .int p4] none hpE := w_X0_triesD 9 hf
def rm_X0_plans : Room := { frames := 11, cells := 0, slots := 0, locals := 294 }
theorem hd_X0_plans : yX0_plans.cls = RX0 ∧ yX0_plans.cls ≠ "java/lang/invoke/MethodHandle" ∧ yX0_plans.cls ≠ "java/lang/invoke/VarHandle" ∧ (parseMethodDescriptor yX0_plans.desc).map (fun d => d.parameters.length) = some 0 := by decide +kernel
set_option maxHeartbeats 4000000 in
set_option maxRecDepth 100000 in
theorem w_X0_plans {D : va_G} {l : Launch} {hp hpE : jH} {this : Nat} (hf : f_X0_plans this hp = some hpE) : jM D l yX0_plans (ws_ yX0_plans cX0_plans 1 none) rm_X0_plans hp [.ref this] none hpE := by
  refine jM.of (lv0 := [some (.ref this)]) (by decide) (Nat.le_of_ble_eq_true rfl) rfl (fun X hDl hRm hE hX0 => ?_)
  rw [f_X0_plans] at hf
  refine J.aload_n (i := 0) dX0_plans_0 rfl rfl ?_
  refine J.ldcw q683 dX0_plans_1 ?_
  replace hf := jbd hf
  obtain ⟨hp1, h2, hf⟩ := hf
  refine J.put (ty := .int) 0 22 in_X0 ap0 rfl (Nat.le_of_ble_eq_true rfl) (Or.inl q167) (Or.inl rfl) rfl (by decide +kernel) (fun _ => ⟨rfl, rfl⟩) h2 dX0_plans_4 ?_
  refine J.aload_n (i := 0) dX0_plans_7 rfl rfl ?_
  refine J.ldcw q683 dX0_plans_8 ?_
  replace hf := jbd hf
  obtain ⟨hp3, h4, hf⟩ := hf
  refine J.put (ty := .int) 0 23 in_X0 ap0 rfl (Nat.le_of_ble_eq_true rfl) (Or.inl q168) (Or.inl rfl) rfl (by decide +kernel) (fun _ => ⟨rfl, rfl⟩) h4 dX0_plans_11 ?_
  refine J.aload_n (i := 0) dX0_plans_14 rfl rfl ?_
  refine J.iconst (v := 0) dX0_plans_15 (by decide) ?_
  refine J.iconst (v := 0) dX0_plans_16 (by decide) ?_
  refine J.iconst (v := 0) dX0_plans_17 (by decide) ?_
  refine J.iconst (v := 0) dX0_plans_18 (by decide) ?_
  replace hf := jbd hf
  obtain ⟨u5, h6, hf⟩ := hf
  replace hf := jbd hf
  obtain ⟨hp8, h7, hf⟩ := hf
  refine J.callV (As := [.int 0, .int 0, .int 0, .int 0]) (k2 := 0) (n2 := 0) 0 hDl hRm (w_X0_triesR h7) (lw_V q684 q686 qs14 q39 q687) hd_X0_tries rfl ⟨_, h6⟩ rfl (Nat.le_of_ble_eq_true rfl) (Nat.le_of_ble_eq_true rfl) (Nat.le_of_ble_eq_true rfl) (Nat.le_of_ble_eq_true rfl) (Nat.le_of_ble_eq_true rfl) (Nat.le_of_ble_eq_true rfl) (Nat.le_of_ble_eq_true rfl) rfl dX0_plans_19 ?_
  obtain rfl := Option.some.inj hf
  exact J.vret hE (Nat.le_of_ble_eq_true rfl) (Nat.le_of_ble_eq_true rfl) dX0_plans_22
def rm_X0_late : Room := { frames := 12, cells := 0, slots := 0, locals := 314 }
theorem hd_X0_late : yX0_late.cls = RX0 ∧ yX0_late.cls ≠ "java/lang/invoke/MethodHandle" ∧ yX0_late.cls ≠ "java/lang/invoke/VarHandle" ∧ (parseMethodDescriptor yX0_late.desc).map (fun d => d.parameters.length) = some 0 := by decide +kernel
set_option maxHeartbeats 4000000 in
set_option maxRecDepth 100000 in
theorem w_X0_late {D : va_G} {l : Launch} {hp hpE : jH} {rE : Int32} {this : Nat} (hf : f_X0_late this hp = some (rE, hpE)) : jM D l yX0_late (ws_ yX0_late cX0_late 1 (some .int)) rm_X0_late hp [.ref this] (some (.int rE)) hpE := by
  refine jM.of (lv0 := [some (.ref this)]) (by decide) (Nat.le_of_ble_eq_true rfl) rfl (fun X hDl hRm hE hX0 => ?_)
  rw [f_X0_late] at hf
  refine J.aload_n (i := 0) dX0_late_0 rfl rfl ?_
  replace hf := jbd hf
  obtain ⟨u1, h2, hf⟩ := hf
  replace hf := jbd hf
  obtain ⟨hp4, h3, hf⟩ := hf
  refine J.callV (As := []) (k2 := 0) (n2 := 0) 0 hDl hRm (w_X0_plans h3) (lw_V q679 q681 qs13 q39 q682) hd_X0_plans rfl ⟨_, h2⟩ rfl (Nat.le_of_ble_eq_true rfl) (Nat.le_of_ble_eq_true rfl) (Nat.le_of_ble_eq_true rfl) (Nat.le_of_ble_eq_true rfl) (Nat.le_of_ble_eq_true rfl) (Nat.le_of_ble_eq_true rfl) (Nat.le_of_ble_eq_true rfl) rfl dX0_late_1 ?_
  refine J.aload_n (i := 0) dX0_late_4 rfl rfl ?_
  replace hf := jbd hf
  obtain ⟨v5, h6, hf⟩ := hf
  refine J.getI 0 22 in_X0 rfl (Nat.le_of_ble_eq_true rfl) (Or.inl q167) (Or.inl rfl) h6 dX0_late_5 ?_
  obtain ⟨rfl, rfl⟩ := jso hf
  exact J.iret hE (Nat.le_of_ble_eq_true rfl) (Nat.le_of_ble_eq_true rfl) dX0_late_8
def rm_X0_planned : Room := { frames := 12, cells := 0, slots := 0, locals := 314 }
theorem hd_X0_planned : yX0_planned.cls = RX0 ∧ yX0_planned.cls ≠ "java/lang/invoke/MethodHandle" ∧ yX0_planned.cls ≠ "java/lang/invoke/VarHandle" ∧ (parseMethodDescriptor yX0_planned.desc).map (fun d => d.parameters.length) = some 1 := by decide +kernel
set_option maxHeartbeats 4000000 in
set_option maxRecDepth 100000 in
theorem w_X0_planned {D : va_G} {l : Launch} {hp hpE : jH} {rE : Int32} {this : Nat} {p1 : Int32} (hf : f_X0_planned this p1 hp = some (rE, hpE)) : jM D l yX0_planned (ws_ yX0_planned cX0_planned 2 (some .int)) rm_X0_planned hp [.ref this, .int p1] (some (.int rE)) hpE := by
  refine jM.of (lv0 := [some (.ref this), some (.int p1)]) (by decide) (Nat.le_of_ble_eq_true rfl) rfl (fun X hDl hRm hE hX0 => ?_)
  rw [f_X0_planned] at hf
  refine J.iload_n (i := 1) dX0_planned_0 rfl rfl ?_
  refine J.iconst (v := 0) dX0_planned_1 (by decide) ?_
  refine J.aload_n (i := 0) dX0_planned_2 rfl rfl ?_
  replace hf := jbd hf
  obtain ⟨v1, h2, hf⟩ := hf
  refine J.getI 0 18 in_X0 rfl (Nat.le_of_ble_eq_true rfl) (Or.inl q163) (Or.inl rfl) h2 dX0_planned_3 ?_
  refine J.iconst (v := 1) dX0_planned_6 (by decide) ?_
  refine J.isub dX0_planned_7 ?_
  replace hf := jbs hf
  obtain ⟨v5, hp4, h3, hf⟩ := hf
  refine J.callS (As := [.int p1, .int 0, .int (v1 - 1)]) (k2 := 0) (n2 := 0) hDl hRm (w_X0_in h3) (lw_S q234 q235 q39 q236) hs_X0_in rfl (Nat.le_of_ble_eq_true rfl) (Nat.le_of_ble_eq_true rfl) (Nat.le_of_ble_eq_true rfl) (Nat.le_of_ble_eq_true rfl) (Nat.le_of_ble_eq_true rfl) (Nat.le_of_ble_eq_true rfl) (Nat.le_of_ble_eq_true rfl) rfl dX0_planned_8 ?_
  refine J.if_ne (tgt := 17) dX0_planned_11 (by decide) (fun hc6 => ?_) (fun hc6 => ?_)
  · replace hf := (if_neg hc6).symm.trans hf
    refine J.aload_n (i := 0) dX0_planned_17 rfl rfl ?_
    replace hf := jbd hf
    obtain ⟨u7, h8, hf⟩ := hf
    replace hf := jbd hf
    obtain ⟨hp10, h9, hf⟩ := hf
    refine J.callV (As := []) (k2 := 0) (n2 := 0) 0 hDl hRm (w_X0_plans h9) (lw_V q679 q681 qs13 q39 q682) hd_X0_plans rfl ⟨_, h8⟩ rfl (Nat.le_of_ble_eq_true rfl) (Nat.le_of_ble_eq_true rfl) (Nat.le_of_ble_eq_true rfl) (Nat.le_of_ble_eq_true rfl) (Nat.le_of_ble_eq_true rfl) (Nat.le_of_ble_eq_true rfl) (Nat.le_of_ble_eq_true rfl) rfl dX0_planned_18 ?_
    refine J.aload_n (i := 0) dX0_planned_21 rfl rfl ?_
    replace hf := jbd hf
    obtain ⟨a11, h12, hf⟩ := hf
    refine J.getA 0 21 in_X0 rfl (Nat.le_of_ble_eq_true rfl) (Or.inl q166) (Or.inl rfl) h12 dX0_planned_22 ?_
    refine J.iload_n (i := 1) dX0_planned_25 rfl rfl ?_
    replace hf := jbd hf
    obtain ⟨v13, h14, hf⟩ := hf
    refine J.iald h14 dX0_planned_26 ?_
    obtain ⟨rfl, rfl⟩ := jso hf
    exact J.iret hE (Nat.le_of_ble_eq_true rfl) (Nat.le_of_ble_eq_true rfl) dX0_planned_27
  · replace hf := (if_pos hc6).symm.trans hf
    refine J.bipush (v := (-2)) dX0_planned_14 (by decide) ?_
    obtain ⟨rfl, rfl⟩ := jso hf
    exact J.iret hE (Nat.le_of_ble_eq_true rfl) (Nat.le_of_ble_eq_true rfl) dX0_planned_16
def rm_X0_room : Room := { frames := 1, cells := 0, slots := 0, locals := 22 }
theorem hd_X0_room : yX0_room.cls = RX0 ∧ yX0_room.cls ≠ "java/lang/invoke/MethodHandle" ∧ yX0_room.cls ≠ "java/lang/invoke/VarHandle" ∧ (parseMethodDescriptor yX0_room.desc).map (fun d => d.parameters.length) = some 1 := by decide +kernel
set_option maxHeartbeats 4000000 in
set_option maxRecDepth 100000 in
theorem w_X0_room {D : va_G} {l : Launch} {hp hpE : jH} {rE : Int32} {this : Nat} {p1 : Int32} (hf : f_X0_room this p1 hp = some (rE, hpE)) : jM D l yX0_room (ws_ yX0_room cX0_room 3 (some .int)) rm_X0_room hp [.ref this, .int p1] (some (.int rE)) hpE := by
  refine jM.of (lv0 := [some (.ref this), some (.int p1), none]) (by decide) (Nat.le_of_ble_eq_true rfl) rfl (fun X hDl hRm hE hX0 => ?_)
  rw [f_X0_room] at hf
  refine J.iload_n (i := 1) dX0_room_0 rfl rfl ?_
  refine J.sipush (v := 1000) dX0_room_1 (by decide) ?_
  refine J.ldcw q700 dX0_room_4 ?_
  replace hf := jbs hf
  obtain ⟨v3, hp2, h1, hf⟩ := hf
  refine J.callS (As := [.int p1, .int 1000, .int 1000000]) (k2 := 0) (n2 := 0) hDl hRm (w_X0_in h1) (lw_S q234 q235 q39 q236) hs_X0_in rfl (Nat.le_of_ble_eq_true rfl) (Nat.le_of_ble_eq_true rfl) (Nat.le_of_ble_eq_true rfl) (Nat.le_of_ble_eq_true rfl) (Nat.le_of_ble_eq_true rfl) (Nat.le_of_ble_eq_true rfl) (Nat.le_of_ble_eq_true rfl) rfl dX0_room_7 ?_
  refine J.if_ne (tgt := 16) dX0_room_10 (by decide) (fun hc4 => ?_) (fun hc4 => ?_)
  · replace hf := (if_neg hc4).symm.trans hf
    refine J.aload_n (i := 0) dX0_room_16 rfl rfl ?_
    replace hf := jbd hf
    obtain ⟨v5, h6, hf⟩ := hf
    refine J.getI 0 24 in_X0 rfl (Nat.le_of_ble_eq_true rfl) (Or.inl q169) (Or.inl rfl) h6 dX0_room_17 ?_
    refine J.istore_n (i := 2) (lv' := [some (.ref this), some (.int p1), some (.int v5)]) dX0_room_20 rfl (Nat.le_of_ble_eq_true rfl) rfl ?_
    refine J.aload_n (i := 0) dX0_room_21 rfl rfl ?_
    refine J.iload_n (i := 1) dX0_room_22 rfl rfl ?_
    replace hf := jbd hf
    obtain ⟨hp7, h8, hf⟩ := hf
    refine J.put (ty := .int) 0 24 in_X0 ap0 rfl (Nat.le_of_ble_eq_true rfl) (Or.inl q169) (Or.inl rfl) rfl (by decide +kernel) (fun _ => ⟨rfl, rfl⟩) h8 dX0_room_23 ?_
    refine J.iload_n (i := 2) dX0_room_26 rfl rfl ?_
    obtain ⟨rfl, rfl⟩ := jso hf
    exact J.iret hE (Nat.le_of_ble_eq_true rfl) (Nat.le_of_ble_eq_true rfl) dX0_room_27
  · replace hf := (if_pos hc4).symm.trans hf
    refine J.bipush (v := (-2)) dX0_room_13 (by decide) ?_
    obtain ⟨rfl, rfl⟩ := jso hf
    exact J.iret hE (Nat.le_of_ble_eq_true rfl) (Nat.le_of_ble_eq_true rfl) dX0_room_15
def rm_X0_fills : Room := { frames := 0, cells := 0, slots := 0, locals := 0 }
theorem hd_X0_fills : yX0_fills.cls = RX0 ∧ yX0_fills.cls ≠ "java/lang/invoke/MethodHandle" ∧ yX0_fills.cls ≠ "java/lang/invoke/VarHandle" ∧ (parseMethodDescriptor yX0_fills.desc).map (fun d => d.parameters.length) = some 1 := by decide +kernel
set_option maxHeartbeats 4000000 in
set_option maxRecDepth 100000 in
theorem w_X0_fills_j119 {D : va_G} {l : Launch} {X : jX} {hp0 hpE : jH} {rE : Int32} (hDl : jDl X D l) (hRm : jRoom X rm_X0_fills.frames rm_X0_fills.locals rm_X0_fills.cells rm_X0_fills.slots) (hE : jEnds X (some .int) (some (.int rE)) hpE rm_X0_fills.cells rm_X0_fills.slots) (hX0 : jX0 X hp0) {K10 : Nat → Int32 → Int32 → Int32 → Int32 → Int32 → jH → Option (Int32 × jH)} (hK10 : ∀ (xa_0 : Nat) (xi_1 : Int32) (xi_2 : Int32) (xi_3 : Int32) (xi_4 : Int32) (xi_5 : Int32) (hp : jH), K10 xa_0 xi_1 xi_2 xi_3 xi_4 xi_5 hp = some (rE, hpE) → J X cX0_fills 7 yX0_fills 0 0 10 [some (.ref xa_0), some (.int xi_1), some (.int xi_2), some (.int xi_3), some (.int xi_4), some (.int xi_5), none] [] hp) {xa_0 : Nat} {xi_1 : Int32} {xi_2 : Int32} {xi_3 : Int32} {xi_4 : Int32} {xi_5 : Int32} {hp : jH} (hf : f_X0_fills_j119 K10 xa_0 xi_1 xi_2 xi_3 xi_4 xi_5 hp = some (rE, hpE)) : J X cX0_fills 7 yX0_fills 0 0 119 [some (.ref xa_0), some (.int xi_1), some (.int xi_2), some (.int xi_3), some (.int xi_4), some (.int xi_5), none] [] hp := by
  rw [f_X0_fills_j119] at hf
  refine J.iinc (i := 5) (v := (xi_5 + 1)) (lv' := [some (.ref xa_0), some (.int xi_1), some (.int xi_2), some (.int xi_3), some (.int xi_4), some (.int (xi_5 + 1)), none]) dX0_fills_119 rfl rfl (Nat.le_of_ble_eq_true rfl) rfl ?_
  refine J.goto (tgt := 10) dX0_fills_122 (by decide) ?_
  exact hK10 _ _ _ _ _ _ _ hf
set_option maxHeartbeats 4000000 in
set_option maxRecDepth 100000 in
theorem w_X0_fills_j90 {D : va_G} {l : Launch} {X : jX} {hp0 hpE : jH} {rE : Int32} (hDl : jDl X D l) (hRm : jRoom X rm_X0_fills.frames rm_X0_fills.locals rm_X0_fills.cells rm_X0_fills.slots) (hE : jEnds X (some .int) (some (.int rE)) hpE rm_X0_fills.cells rm_X0_fills.slots) (hX0 : jX0 X hp0) {K10 : Nat → Int32 → Int32 → Int32 → Int32 → Int32 → jH → Option (Int32 × jH)} (hK10 : ∀ (xa_0 : Nat) (xi_1 : Int32) (xi_2 : Int32) (xi_3 : Int32) (xi_4 : Int32) (xi_5 : Int32) (hp : jH), K10 xa_0 xi_1 xi_2 xi_3 xi_4 xi_5 hp = some (rE, hpE) → J X cX0_fills 7 yX0_fills 0 0 10 [some (.ref xa_0), some (.int xi_1), some (.int xi_2), some (.int xi_3), some (.int xi_4), some (.int xi_5), none] [] hp) {xa_0 : Nat} {xi_1 : Int32} {xi_3 : Int32} {xi_4 : Int32} {xi_5 : Int32} {xa_6 : Nat} {hp : jH} (hf : f_X0_fills_j90 K10 xa_0 xi_1 xi_3 xi_4 xi_5 xa_6 hp = some (rE, hpE)) : J X cX0_fills 7 yX0_fills 0 0 90 [some (.ref xa_0), some (.int xi_1), none, some (.int xi_3), some (.int xi_4), some (.int xi_5), some (.ref xa_6)] [] hp := by
  rw [f_X0_fills_j90] at hf
  refine J.aload dX0_fills_90 rfl ?_
  replace hf := jbd hf
  obtain ⟨a16, h17, hf⟩ := hf
  refine J.getA 7 0 in_X8 rfl (Nat.le_of_ble_eq_true rfl) (Or.inr ⟨_, q383⟩) (Or.inl rfl) h17 dX0_fills_92 ?_
  replace hf := jbd hf
  obtain ⟨a18, h19, hf⟩ := hf
  refine J.getA 6 0 in_X7 rfl (Nat.le_of_ble_eq_true rfl) (Or.inr ⟨_, q303⟩) (Or.inl rfl) h19 dX0_fills_95 ?_
  replace hf := jbd hf
  obtain ⟨v20, h21, hf⟩ := hf
  refine J.getI 4 2 in_X6 rfl (Nat.le_of_ble_eq_true rfl) (Or.inr ⟨_, q273⟩) (Or.inl rfl) h21 dX0_fills_98 ?_
  refine J.istore_n (i := 2) (lv' := [some (.ref xa_0), some (.int xi_1), some (.int v20), some (.int xi_3), some (.int xi_4), some (.int xi_5), some (.ref xa_6)]) dX0_fills_101 rfl (Nat.le_of_ble_eq_true rfl) rfl ?_
  refine J.iload_n (i := 3) dX0_fills_102 rfl rfl ?_
  refine J.aload dX0_fills_103 rfl ?_
  replace hf := jbd hf
  obtain ⟨v22, h23, hf⟩ := hf
  refine J.getI 7 3 in_X8 rfl (Nat.le_of_ble_eq_true rfl) (Or.inr ⟨_, q387⟩) (Or.inl rfl) h23 dX0_fills_105 ?_
  refine J.iadd dX0_fills_108 ?_
  refine J.istore_n (i := 3) (lv' := [some (.ref xa_0), some (.int xi_1), some (.int v20), some (.int (xi_3 + v22)), some (.int xi_4), some (.int xi_5), some (.ref xa_6)]) dX0_fills_109 rfl (Nat.le_of_ble_eq_true rfl) rfl ?_
  refine J.aload dX0_fills_110 rfl ?_
  refine J.iload_n (i := 1) dX0_fills_112 rfl rfl ?_
  replace hf := jbd hf
  obtain ⟨hp24, h25, hf⟩ := hf
  refine J.put (ty := .int) 7 6 in_X8 ap7 rfl (Nat.le_of_ble_eq_true rfl) (Or.inr ⟨_, q391⟩) (Or.inl rfl) rfl (by decide +kernel) (fun _ => ⟨rfl, rfl⟩) h25 dX0_fills_113 ?_
  refine J.iinc (i := 4) (v := (xi_4 + 1)) (lv' := [some (.ref xa_0), some (.int xi_1), some (.int v20), some (.int (xi_3 + v22)), some (.int (xi_4 + 1)), some (.int xi_5), some (.ref xa_6)]) dX0_fills_116 rfl rfl (Nat.le_of_ble_eq_true rfl) rfl ?_
  refine J.mask (lv' := [some (.ref xa_0), some (.int xi_1), some (.int v20), some (.int (xi_3 + v22)), some (.int (xi_4 + 1)), some (.int xi_5), none]) [true, true, true, true, true, true, false] rfl ?_
  exact w_X0_fills_j119 hDl hRm hE hX0 hK10 hf
set_option maxHeartbeats 4000000 in
set_option maxRecDepth 100000 in
theorem w_X0_fills_j68 {D : va_G} {l : Launch} {X : jX} {hp0 hpE : jH} {rE : Int32} (hDl : jDl X D l) (hRm : jRoom X rm_X0_fills.frames rm_X0_fills.locals rm_X0_fills.cells rm_X0_fills.slots) (hE : jEnds X (some .int) (some (.int rE)) hpE rm_X0_fills.cells rm_X0_fills.slots) (hX0 : jX0 X hp0) {K10 : Nat → Int32 → Int32 → Int32 → Int32 → Int32 → jH → Option (Int32 × jH)} (hK10 : ∀ (xa_0 : Nat) (xi_1 : Int32) (xi_2 : Int32) (xi_3 : Int32) (xi_4 : Int32) (xi_5 : Int32) (hp : jH), K10 xa_0 xi_1 xi_2 xi_3 xi_4 xi_5 hp = some (rE, hpE) → J X cX0_fills 7 yX0_fills 0 0 10 [some (.ref xa_0), some (.int xi_1), some (.int xi_2), some (.int xi_3), some (.int xi_4), some (.int xi_5), none] [] hp) {xa_0 : Nat} {xi_1 : Int32} {xi_3 : Int32} {xi_4 : Int32} {xi_5 : Int32} {xa_6 : Nat} {hp : jH} (hf : f_X0_fills_j68 K10 xa_0 xi_1 xi_3 xi_4 xi_5 xa_6 hp = some (rE, hpE)) : J X cX0_fills 7 yX0_fills 0 0 68 [some (.ref xa_0), some (.int xi_1), none, some (.int xi_3), some (.int xi_4), some (.int xi_5), some (.ref xa_6)] [] hp := by
  rw [f_X0_fills_j68] at hf
  refine J.iload dX0_fills_68 rfl ?_
  refine J.if_le (tgt := 90) dX0_fills_70 (by decide) (fun hc15 => ?_) (fun hc15 => ?_)
  · replace hf := (if_pos hc15).symm.trans hf
    exact w_X0_fills_j90 hDl hRm hE hX0 hK10 hf
  · replace hf := (if_neg hc15).symm.trans hf
    refine J.iload_n (i := 3) dX0_fills_73 rfl rfl ?_
    refine J.aload dX0_fills_74 rfl ?_
    replace hf := jbd hf
    obtain ⟨v26, h27, hf⟩ := hf
    refine J.getI 7 3 in_X8 rfl (Nat.le_of_ble_eq_true rfl) (Or.inr ⟨_, q387⟩) (Or.inl rfl) h27 dX0_fills_76 ?_
    refine J.iadd dX0_fills_79 ?_
    refine J.aload_n (i := 0) dX0_fills_80 rfl rfl ?_
    replace hf := jbd hf
    obtain ⟨v28, h29, hf⟩ := hf
    refine J.getI 0 24 in_X0 rfl (Nat.le_of_ble_eq_true rfl) (Or.inl q169) (Or.inl rfl) h29 dX0_fills_81 ?_
    refine J.icmp_le (tgt := 90) dX0_fills_84 (by decide) (fun hc30 => ?_) (fun hc30 => ?_)
    · replace hf := (if_pos hc30).symm.trans hf
      exact w_X0_fills_j90 hDl hRm hE hX0 hK10 hf
    · replace hf := (if_neg hc30).symm.trans hf
      refine J.iload dX0_fills_87 rfl ?_
      obtain ⟨rfl, rfl⟩ := jso hf
      exact J.iret hE (Nat.le_of_ble_eq_true rfl) (Nat.le_of_ble_eq_true rfl) dX0_fills_89
set_option maxHeartbeats 4000000 in
set_option maxRecDepth 100000 in
theorem w_X0_fills_L10 {D : va_G} {l : Launch} {X : jX} {hp0 hpE : jH} {rE : Int32} (hDl : jDl X D l) (hRm : jRoom X rm_X0_fills.frames rm_X0_fills.locals rm_X0_fills.cells rm_X0_fills.slots) (hE : jEnds X (some .int) (some (.int rE)) hpE rm_X0_fills.cells rm_X0_fills.slots) (hX0 : jX0 X hp0) : ∀ (N : Nat) (xa_0 : Nat) (xi_1 : Int32) (xi_2 : Int32) (xi_3 : Int32) (xi_4 : Int32) (xi_5 : Int32) (hp : jH), f_X0_fills_L10 N xa_0 xi_1 xi_2 xi_3 xi_4 xi_5 hp = some (rE, hpE) → J X cX0_fills 7 yX0_fills 0 0 10 [some (.ref xa_0), some (.int xi_1), some (.int xi_2), some (.int xi_3), some (.int xi_4), some (.int xi_5), none] [] hp := by
  intro N
  induction N with
  | zero =>
    intro xa_0 xi_1 xi_2 xi_3 xi_4 xi_5 hp hf
    rw [f_X0_fills_L10] at hf
    cases hf
  | succ N ih10 =>
    intro xa_0 xi_1 xi_2 xi_3 xi_4 xi_5 hp hf
    rw [f_X0_fills_L10] at hf
    refine J.iload dX0_fills_10 rfl ?_
    refine J.aload_n (i := 0) dX0_fills_12 rfl rfl ?_
    replace hf := jbd hf
    obtain ⟨v1, h2, hf⟩ := hf
    refine J.getI 0 10 in_X0 rfl (Nat.le_of_ble_eq_true rfl) (Or.inl q155) (Or.inl rfl) h2 dX0_fills_13 ?_
    refine J.icmp_ge (tgt := 125) dX0_fills_16 (by decide) (fun hc3 => ?_) (fun hc3 => ?_)
    · replace hf := (if_pos hc3).symm.trans hf
      refine J.iload dX0_fills_125 rfl ?_
      obtain ⟨rfl, rfl⟩ := jso hf
      exact J.iret hE (Nat.le_of_ble_eq_true rfl) (Nat.le_of_ble_eq_true rfl) dX0_fills_127
    · replace hf := (if_neg hc3).symm.trans hf
      refine J.aload_n (i := 0) dX0_fills_19 rfl rfl ?_
      replace hf := jbd hf
      obtain ⟨a4, h5, hf⟩ := hf
      refine J.getA 0 9 in_X0 rfl (Nat.le_of_ble_eq_true rfl) (Or.inl q154) (Or.inl rfl) h5 dX0_fills_20 ?_
      refine J.iload dX0_fills_23 rfl ?_
      replace hf := jbd hf
      obtain ⟨a6, h7, hf⟩ := hf
      refine J.aaldA h7 dX0_fills_25 ?_
      refine J.astore (i := 6) (lv' := [some (.ref xa_0), some (.int xi_1), some (.int xi_2), some (.int xi_3), some (.int xi_4), some (.int xi_5), some (.ref a6)]) dX0_fills_26 (Nat.le_of_ble_eq_true rfl) rfl ?_
      refine J.aload dX0_fills_28 rfl ?_
      replace hf := jbd hf
      obtain ⟨v8, h9, hf⟩ := hf
      refine J.getI 7 3 in_X8 rfl (Nat.le_of_ble_eq_true rfl) (Or.inr ⟨_, q387⟩) (Or.inl rfl) h9 dX0_fills_30 ?_
      refine J.if_eq (tgt := 119) dX0_fills_33 (by decide) (fun hc10 => ?_) (fun hc10 => ?_)
      · replace hf := (if_pos hc10).symm.trans hf
        refine J.mask (lv' := [some (.ref xa_0), some (.int xi_1), some (.int xi_2), some (.int xi_3), some (.int xi_4), some (.int xi_5), none]) [true, true, true, true, true, true, false] rfl ?_
        exact w_X0_fills_j119 hDl hRm hE hX0 (fun z0 z1 z2 z3 z4 z5 z6 hz => ih10 z0 z1 z2 z3 z4 z5 z6 hz) hf
      · replace hf := (if_neg hc10).symm.trans hf
        refine J.aload dX0_fills_36 rfl ?_
        replace hf := jbd hf
        obtain ⟨v11, h12, hf⟩ := hf
        refine J.getI 7 6 in_X8 rfl (Nat.le_of_ble_eq_true rfl) (Or.inr ⟨_, q391⟩) (Or.inl rfl) h12 dX0_fills_38 ?_
        refine J.iconst (v := (-1)) dX0_fills_41 (by decide) ?_
        refine J.icmp_ne (tgt := 119) dX0_fills_42 (by decide) (fun hc13 => ?_) (fun hc13 => ?_)
        · replace hf := (if_neg hc13).symm.trans hf
          refine J.mask (lv' := [some (.ref xa_0), some (.int xi_1), some (.int xi_2), some (.int xi_3), some (.int xi_4), some (.int xi_5), none]) [true, true, true, true, true, true, false] rfl ?_
          exact w_X0_fills_j119 hDl hRm hE hX0 (fun z0 z1 z2 z3 z4 z5 z6 hz => ih10 z0 z1 z2 z3 z4 z5 z6 hz) hf
        · replace hf := (if_pos hc13).symm.trans hf
          refine J.iload_n (i := 2) dX0_fills_45 rfl rfl ?_
          refine J.iconst (v := (-1)) dX0_fills_46 (by decide) ?_
          refine J.icmp_eq (tgt := 68) dX0_fills_47 (by decide) (fun hc14 => ?_) (fun hc14 => ?_)
          · replace hf := (if_pos hc14).symm.trans hf
            refine J.mask (lv' := [some (.ref xa_0), some (.int xi_1), none, some (.int xi_3), some (.int xi_4), some (.int xi_5), some (.ref a6)]) [true, true, false, true, true, true, true] rfl ?_
            exact w_X0_fills_j68 hDl hRm hE hX0 (fun z0 z1 z2 z3 z4 z5 z6 hz => ih10 z0 z1 z2 z3 z4 z5 z6 hz) hf
          · replace hf := (if_neg hc14).symm.trans hf
            refine J.aload dX0_fills_50 rfl ?_
            replace hf := jbd hf
            obtain ⟨a31, h32, hf⟩ := hf
            refine J.getA 7 0 in_X8 rfl (Nat.le_of_ble_eq_true rfl) (Or.inr ⟨_, q383⟩) (Or.inl rfl) h32 dX0_fills_52 ?_
            replace hf := jbd hf
            obtain ⟨a33, h34, hf⟩ := hf
            refine J.getA 6 0 in_X7 rfl (Nat.le_of_ble_eq_true rfl) (Or.inr ⟨_, q303⟩) (Or.inl rfl) h34 dX0_fills_55 ?_
            replace hf := jbd hf
            obtain ⟨v35, h36, hf⟩ := hf
            refine J.getI 4 2 in_X6 rfl (Nat.le_of_ble_eq_true rfl) (Or.inr ⟨_, q273⟩) (Or.inl rfl) h36 dX0_fills_58 ?_
            refine J.iload_n (i := 2) dX0_fills_61 rfl rfl ?_
            refine J.icmp_eq (tgt := 68) dX0_fills_62 (by decide) (fun hc37 => ?_) (fun hc37 => ?_)
            · replace hf := (if_pos hc37).symm.trans hf
              refine J.mask (lv' := [some (.ref xa_0), some (.int xi_1), none, some (.int xi_3), some (.int xi_4), some (.int xi_5), some (.ref a6)]) [true, true, false, true, true, true, true] rfl ?_
              exact w_X0_fills_j68 hDl hRm hE hX0 (fun z0 z1 z2 z3 z4 z5 z6 hz => ih10 z0 z1 z2 z3 z4 z5 z6 hz) hf
            · replace hf := (if_neg hc37).symm.trans hf
              refine J.goto (tgt := 119) dX0_fills_65 (by decide) ?_
              refine J.mask (lv' := [some (.ref xa_0), some (.int xi_1), some (.int xi_2), some (.int xi_3), some (.int xi_4), some (.int xi_5), none]) [true, true, true, true, true, true, false] rfl ?_
              exact w_X0_fills_j119 hDl hRm hE hX0 (fun z0 z1 z2 z3 z4 z5 z6 hz => ih10 z0 z1 z2 z3 z4 z5 z6 hz) hf
set_option maxHeartbeats 4000000 in
set_option maxRecDepth 100000 in
theorem w_X0_fills {D : va_G} {l : Launch} {hp hpE : jH} {rE : Int32} {this : Nat} {p1 : Int32} (hf : f_X0_fills this p1 hp = some (rE, hpE)) : jM D l yX0_fills (ws_ yX0_fills cX0_fills 7 (some .int)) rm_X0_fills hp [.ref this, .int p1] (some (.int rE)) hpE := by
  refine jM.of (lv0 := [some (.ref this), some (.int p1), none, none, none, none, none]) (by decide) (Nat.le_of_ble_eq_true rfl) rfl (fun X hDl hRm hE hX0 => ?_)
  rw [f_X0_fills] at hf
  refine J.iconst (v := (-1)) dX0_fills_0 (by decide) ?_
  refine J.istore_n (i := 2) (lv' := [some (.ref this), some (.int p1), some (.int (-1)), none, none, none, none]) dX0_fills_1 rfl (Nat.le_of_ble_eq_true rfl) rfl ?_
  refine J.iconst (v := 0) dX0_fills_2 (by decide) ?_
  refine J.istore_n (i := 3) (lv' := [some (.ref this), some (.int p1), some (.int (-1)), some (.int 0), none, none, none]) dX0_fills_3 rfl (Nat.le_of_ble_eq_true rfl) rfl ?_
  refine J.iconst (v := 0) dX0_fills_4 (by decide) ?_
  refine J.istore (i := 4) (lv' := [some (.ref this), some (.int p1), some (.int (-1)), some (.int 0), some (.int 0), none, none]) dX0_fills_5 (Nat.le_of_ble_eq_true rfl) rfl ?_
  refine J.iconst (v := 0) dX0_fills_7 (by decide) ?_
  refine J.istore (i := 5) (lv' := [some (.ref this), some (.int p1), some (.int (-1)), some (.int 0), some (.int 0), some (.int 0), none]) dX0_fills_8 (Nat.le_of_ble_eq_true rfl) rfl ?_
  exact w_X0_fills_L10 hDl hRm hE hX0 _ _ _ _ _ _ _ _ hf
def rm_X0_age : Room := { frames := 1, cells := 0, slots := 0, locals := 26 }
theorem hd_X0_age : yX0_age.cls = RX0 ∧ yX0_age.cls ≠ "java/lang/invoke/MethodHandle" ∧ yX0_age.cls ≠ "java/lang/invoke/VarHandle" ∧ (parseMethodDescriptor yX0_age.desc).map (fun d => d.parameters.length) = some 0 := by decide +kernel
set_option maxHeartbeats 4000000 in
set_option maxRecDepth 100000 in
theorem w_X0_age {D : va_G} {l : Launch} {hp hpE : jH} {rE : Int32} {this : Nat} (hf : f_X0_age this hp = some (rE, hpE)) : jM D l yX0_age (ws_ yX0_age cX0_age 2 (some .int)) rm_X0_age hp [.ref this] (some (.int rE)) hpE := by
  refine jM.of (lv0 := [some (.ref this), none]) (by decide) (Nat.le_of_ble_eq_true rfl) rfl (fun X hDl hRm hE hX0 => ?_)
  rw [f_X0_age] at hf
  refine J.aload_n (i := 0) dX0_age_0 rfl rfl ?_
  refine J.aload_n (i := 0) dX0_age_1 rfl rfl ?_
  replace hf := jbd hf
  obtain ⟨v1, h2, hf⟩ := hf
  refine J.getI 0 25 in_X0 rfl (Nat.le_of_ble_eq_true rfl) (Or.inl q170) (Or.inl rfl) h2 dX0_age_2 ?_
  replace hf := jbd hf
  obtain ⟨u3, h4, hf⟩ := hf
  replace hf := jbs hf
  obtain ⟨v7, hp6, h5, hf⟩ := hf
  refine J.callV (As := [.int v1]) (k2 := 0) (n2 := 0) 0 hDl hRm (w_X0_fills h5) (lw_V q705 q707 qs16 q39 q708) hd_X0_fills rfl ⟨_, h4⟩ rfl (Nat.le_of_ble_eq_true rfl) (Nat.le_of_ble_eq_true rfl) (Nat.le_of_ble_eq_true rfl) (Nat.le_of_ble_eq_true rfl) (Nat.le_of_ble_eq_true rfl) (Nat.le_of_ble_eq_true rfl) (Nat.le_of_ble_eq_true rfl) rfl dX0_age_5 ?_
  refine J.istore_n (i := 1) (lv' := [some (.ref this), some (.int v7)]) dX0_age_8 rfl (Nat.le_of_ble_eq_true rfl) rfl ?_
  refine J.iload_n (i := 1) dX0_age_9 rfl rfl ?_
  refine J.if_ne (tgt := 16) dX0_age_10 (by decide) (fun hc8 => ?_) (fun hc8 => ?_)
  · replace hf := (if_neg hc8).symm.trans hf
    refine J.aload_n (i := 0) dX0_age_16 rfl rfl ?_
    refine J.dup dX0_age_17 rfl ?_
    replace hf := jbd hf
    obtain ⟨v9, h10, hf⟩ := hf
    refine J.getI 0 25 in_X0 rfl (Nat.le_of_ble_eq_true rfl) (Or.inl q170) (Or.inl rfl) h10 dX0_age_18 ?_
    refine J.iconst (v := 1) dX0_age_21 (by decide) ?_
    refine J.iadd dX0_age_22 ?_
    replace hf := jbd hf
    obtain ⟨hp11, h12, hf⟩ := hf
    refine J.put (ty := .int) 0 25 in_X0 ap0 rfl (Nat.le_of_ble_eq_true rfl) (Or.inl q170) (Or.inl rfl) rfl (by decide +kernel) (fun _ => ⟨rfl, rfl⟩) h12 dX0_age_23 ?_
    refine J.iload_n (i := 1) dX0_age_26 rfl rfl ?_
    obtain ⟨rfl, rfl⟩ := jso hf
    exact J.iret hE (Nat.le_of_ble_eq_true rfl) (Nat.le_of_ble_eq_true rfl) dX0_age_27
  · replace hf := (if_pos hc8).symm.trans hf
    refine J.bipush (v := (-3)) dX0_age_13 (by decide) ?_
    obtain ⟨rfl, rfl⟩ := jso hf
    exact J.iret hE (Nat.le_of_ble_eq_true rfl) (Nat.le_of_ble_eq_true rfl) dX0_age_15
def rm_X0_batches : Room := { frames := 1, cells := 0, slots := 0, locals := 26 }
theorem hd_X0_batches : yX0_batches.cls = RX0 ∧ yX0_batches.cls ≠ "java/lang/invoke/MethodHandle" ∧ yX0_batches.cls ≠ "java/lang/invoke/VarHandle" ∧ (parseMethodDescriptor yX0_batches.desc).map (fun d => d.parameters.length) = some 0 := by decide +kernel
set_option maxHeartbeats 4000000 in
set_option maxRecDepth 100000 in
theorem w_X0_batches_j66 {D : va_G} {l : Launch} {X : jX} {hp0 hpE : jH} {rE : Int32} (hDl : jDl X D l) (hRm : jRoom X rm_X0_batches.frames rm_X0_batches.locals rm_X0_batches.cells rm_X0_batches.slots) (hE : jEnds X (some .int) (some (.int rE)) hpE rm_X0_batches.cells rm_X0_batches.slots) (hX0 : jX0 X hp0) {K23 : Nat → Int32 → Int32 → jH → Option (Int32 × jH)} (hK23 : ∀ (xa_0 : Nat) (xi_1 : Int32) (xi_2 : Int32) (hp : jH), K23 xa_0 xi_1 xi_2 hp = some (rE, hpE) → J X cX0_batches 3 yX0_batches 0 0 23 [some (.ref xa_0), some (.int xi_1), some (.int xi_2)] [] hp) {xa_0 : Nat} {xi_1 : Int32} {xi_2 : Int32} {xa_s0 : Nat} {xi_s1 : Int32} {hp : jH} (hf : f_X0_batches_j66 K23 xa_0 xi_1 xi_2 xa_s0 xi_s1 hp = some (rE, hpE)) : J X cX0_batches 3 yX0_batches 0 0 66 [some (.ref xa_0), some (.int xi_1), some (.int xi_2)] [.int xi_s1, .ref xa_s0] hp := by
  rw [f_X0_batches_j66] at hf
  replace hf := jbd hf
  obtain ⟨hp31, h32, hf⟩ := hf
  refine J.put (ty := .int) 7 6 in_X8 ap7 rfl (Nat.le_of_ble_eq_true rfl) (Or.inr ⟨_, q391⟩) (Or.inl rfl) rfl (by decide +kernel) (fun _ => ⟨rfl, rfl⟩) h32 dX0_batches_66 ?_
  refine J.iinc (i := 2) (v := (xi_2 + 1)) (lv' := [some (.ref xa_0), some (.int xi_1), some (.int (xi_2 + 1))]) dX0_batches_69 rfl rfl (Nat.le_of_ble_eq_true rfl) rfl ?_
  refine J.goto (tgt := 23) dX0_batches_72 (by decide) ?_
  exact hK23 _ _ _ _ hf
set_option maxHeartbeats 4000000 in
set_option maxRecDepth 100000 in
theorem w_X0_batches_L23 {D : va_G} {l : Launch} {X : jX} {hp0 hpE : jH} {rE : Int32} (hDl : jDl X D l) (hRm : jRoom X rm_X0_batches.frames rm_X0_batches.locals rm_X0_batches.cells rm_X0_batches.slots) (hE : jEnds X (some .int) (some (.int rE)) hpE rm_X0_batches.cells rm_X0_batches.slots) (hX0 : jX0 X hp0) : ∀ (N : Nat) (xa_0 : Nat) (xi_1 : Int32) (xi_2 : Int32) (hp : jH), f_X0_batches_L23 N xa_0 xi_1 xi_2 hp = some (rE, hpE) → J X cX0_batches 3 yX0_batches 0 0 23 [some (.ref xa_0), some (.int xi_1), some (.int xi_2)] [] hp := by
  intro N
  induction N with
  | zero =>
    intro xa_0 xi_1 xi_2 hp hf
    rw [f_X0_batches_L23] at hf
    cases hf
  | succ N ih23 =>
    intro xa_0 xi_1 xi_2 hp hf
    rw [f_X0_batches_L23] at hf
    refine J.iload_n (i := 2) dX0_batches_23 rfl rfl ?_
    refine J.aload_n (i := 0) dX0_batches_24 rfl rfl ?_
    replace hf := jbd hf
    obtain ⟨v9, h10, hf⟩ := hf
    refine J.getI 0 10 in_X0 rfl (Nat.le_of_ble_eq_true rfl) (Or.inl q155) (Or.inl rfl) h10 dX0_batches_25 ?_
    refine J.icmp_ge (tgt := 75) dX0_batches_28 (by decide) (fun hc11 => ?_) (fun hc11 => ?_)
    · replace hf := (if_pos hc11).symm.trans hf
      refine J.iload_n (i := 1) dX0_batches_75 rfl rfl ?_
      obtain ⟨rfl, rfl⟩ := jso hf
      exact J.iret hE (Nat.le_of_ble_eq_true rfl) (Nat.le_of_ble_eq_true rfl) dX0_batches_76
    · replace hf := (if_neg hc11).symm.trans hf
      refine J.aload_n (i := 0) dX0_batches_31 rfl rfl ?_
      replace hf := jbd hf
      obtain ⟨a12, h13, hf⟩ := hf
      refine J.getA 0 9 in_X0 rfl (Nat.le_of_ble_eq_true rfl) (Or.inl q154) (Or.inl rfl) h13 dX0_batches_32 ?_
      refine J.iload_n (i := 2) dX0_batches_35 rfl rfl ?_
      replace hf := jbd hf
      obtain ⟨a14, h15, hf⟩ := hf
      refine J.aaldA h15 dX0_batches_36 ?_
      refine J.aload_n (i := 0) dX0_batches_37 rfl rfl ?_
      replace hf := jbd hf
      obtain ⟨a16, h17, hf⟩ := hf
      refine J.getA 0 9 in_X0 rfl (Nat.le_of_ble_eq_true rfl) (Or.inl q154) (Or.inl rfl) h17 dX0_batches_38 ?_
      refine J.iload_n (i := 2) dX0_batches_41 rfl rfl ?_
      replace hf := jbd hf
      obtain ⟨a18, h19, hf⟩ := hf
      refine J.aaldA h19 dX0_batches_42 ?_
      replace hf := jbd hf
      obtain ⟨v20, h21, hf⟩ := hf
      refine J.getI 7 6 in_X8 rfl (Nat.le_of_ble_eq_true rfl) (Or.inr ⟨_, q391⟩) (Or.inl rfl) h21 dX0_batches_43 ?_
      refine J.aload_n (i := 0) dX0_batches_46 rfl rfl ?_
      replace hf := jbd hf
      obtain ⟨v22, h23, hf⟩ := hf
      refine J.getI 0 25 in_X0 rfl (Nat.le_of_ble_eq_true rfl) (Or.inl q170) (Or.inl rfl) h23 dX0_batches_47 ?_
      refine J.icmp_lt (tgt := 57) dX0_batches_50 (by decide) (fun hc24 => ?_) (fun hc24 => ?_)
      · replace hf := (if_pos hc24).symm.trans hf
        refine J.aload_n (i := 0) dX0_batches_57 rfl rfl ?_
        replace hf := jbd hf
        obtain ⟨a25, h26, hf⟩ := hf
        refine J.getA 0 9 in_X0 rfl (Nat.le_of_ble_eq_true rfl) (Or.inl q154) (Or.inl rfl) h26 dX0_batches_58 ?_
        refine J.iload_n (i := 2) dX0_batches_61 rfl rfl ?_
        replace hf := jbd hf
        obtain ⟨a27, h28, hf⟩ := hf
        refine J.aaldA h28 dX0_batches_62 ?_
        replace hf := jbd hf
        obtain ⟨v29, h30, hf⟩ := hf
        refine J.getI 7 6 in_X8 rfl (Nat.le_of_ble_eq_true rfl) (Or.inr ⟨_, q391⟩) (Or.inl rfl) h30 dX0_batches_63 ?_
        exact w_X0_batches_j66 hDl hRm hE hX0 (fun z0 z1 z2 z3 hz => ih23 z0 z1 z2 z3 hz) hf
      · replace hf := (if_neg hc24).symm.trans hf
        refine J.iconst (v := (-1)) dX0_batches_53 (by decide) ?_
        refine J.goto (tgt := 66) dX0_batches_54 (by decide) ?_
        exact w_X0_batches_j66 hDl hRm hE hX0 (fun z0 z1 z2 z3 hz => ih23 z0 z1 z2 z3 hz) hf
set_option maxHeartbeats 4000000 in
set_option maxRecDepth 100000 in
theorem w_X0_batches_L2 {D : va_G} {l : Launch} {X : jX} {hp0 hpE : jH} {rE : Int32} (hDl : jDl X D l) (hRm : jRoom X rm_X0_batches.frames rm_X0_batches.locals rm_X0_batches.cells rm_X0_batches.slots) (hE : jEnds X (some .int) (some (.int rE)) hpE rm_X0_batches.cells rm_X0_batches.slots) (hX0 : jX0 X hp0) : ∀ (N : Nat) (xa_0 : Nat) (xi_1 : Int32) (hp : jH), f_X0_batches_L2 N xa_0 xi_1 hp = some (rE, hpE) → J X cX0_batches 3 yX0_batches 0 0 2 [some (.ref xa_0), some (.int xi_1), none] [] hp := by
  intro N
  induction N with
  | zero =>
    intro xa_0 xi_1 hp hf
    rw [f_X0_batches_L2] at hf
    cases hf
  | succ N ih2 =>
    intro xa_0 xi_1 hp hf
    rw [f_X0_batches_L2] at hf
    refine J.aload_n (i := 0) dX0_batches_2 rfl rfl ?_
    refine J.aload_n (i := 0) dX0_batches_3 rfl rfl ?_
    replace hf := jbd hf
    obtain ⟨v1, h2, hf⟩ := hf
    refine J.getI 0 25 in_X0 rfl (Nat.le_of_ble_eq_true rfl) (Or.inl q170) (Or.inl rfl) h2 dX0_batches_4 ?_
    refine J.iload_n (i := 1) dX0_batches_7 rfl rfl ?_
    refine J.iadd dX0_batches_8 ?_
    replace hf := jbd hf
    obtain ⟨u3, h4, hf⟩ := hf
    replace hf := jbs hf
    obtain ⟨v7, hp6, h5, hf⟩ := hf
    refine J.callV (As := [.int (v1 + xi_1)]) (k2 := 0) (n2 := 0) 0 hDl hRm (w_X0_fills h5) (lw_V q705 q707 qs16 q39 q708) hd_X0_fills rfl ⟨_, h4⟩ rfl (Nat.le_of_ble_eq_true rfl) (Nat.le_of_ble_eq_true rfl) (Nat.le_of_ble_eq_true rfl) (Nat.le_of_ble_eq_true rfl) (Nat.le_of_ble_eq_true rfl) (Nat.le_of_ble_eq_true rfl) (Nat.le_of_ble_eq_true rfl) rfl dX0_batches_9 ?_
    refine J.if_le (tgt := 21) dX0_batches_12 (by decide) (fun hc8 => ?_) (fun hc8 => ?_)
    · replace hf := (if_pos hc8).symm.trans hf
      refine J.iconst (v := 0) dX0_batches_21 (by decide) ?_
      refine J.istore_n (i := 2) (lv' := [some (.ref xa_0), some (.int xi_1), some (.int 0)]) dX0_batches_22 rfl (Nat.le_of_ble_eq_true rfl) rfl ?_
      exact w_X0_batches_L23 hDl hRm hE hX0 _ _ _ _ _ hf
    · replace hf := (if_neg hc8).symm.trans hf
      refine J.iinc (i := 1) (v := (xi_1 + 1)) (lv' := [some (.ref xa_0), some (.int (xi_1 + 1)), none]) dX0_batches_15 rfl rfl (Nat.le_of_ble_eq_true rfl) rfl ?_
      refine J.goto (tgt := 2) dX0_batches_18 (by decide) ?_
      exact ih2 _ _ _ hf
set_option maxHeartbeats 4000000 in
set_option maxRecDepth 100000 in
theorem w_X0_batches {D : va_G} {l : Launch} {hp hpE : jH} {rE : Int32} {this : Nat} (hf : f_X0_batches this hp = some (rE, hpE)) : jM D l yX0_batches (ws_ yX0_batches cX0_batches 3 (some .int)) rm_X0_batches hp [.ref this] (some (.int rE)) hpE := by
  refine jM.of (lv0 := [some (.ref this), none, none]) (by decide) (Nat.le_of_ble_eq_true rfl) rfl (fun X hDl hRm hE hX0 => ?_)
  rw [f_X0_batches] at hf
  refine J.iconst (v := 0) dX0_batches_0 (by decide) ?_
  refine J.istore_n (i := 1) (lv' := [some (.ref this), some (.int 0), none]) dX0_batches_1 rfl (Nat.le_of_ble_eq_true rfl) rfl ?_
  exact w_X0_batches_L2 hDl hRm hE hX0 _ _ _ _ hf
def rm_X0_sample : Room := { frames := 2, cells := 0, slots := 0, locals := 43 }
theorem hd_X0_sample : yX0_sample.cls = RX0 ∧ yX0_sample.cls ≠ "java/lang/invoke/MethodHandle" ∧ yX0_sample.cls ≠ "java/lang/invoke/VarHandle" ∧ (parseMethodDescriptor yX0_sample.desc).map (fun d => d.parameters.length) = some 2 := by decide +kernel
set_option maxHeartbeats 4000000 in
set_option maxRecDepth 100000 in
theorem w_X0_sample {D : va_G} {l : Launch} {hp hpE : jH} {rE : Int32} {this : Nat} {p1 : Int32} {p2 : Int32} (hf : f_X0_sample this p1 p2 hp = some (rE, hpE)) : jM D l yX0_sample (ws_ yX0_sample cX0_sample 3 (some .int)) rm_X0_sample hp [.ref this, .int p1, .int p2] (some (.int rE)) hpE := by
  refine jM.of (lv0 := [some (.ref this), some (.int p1), some (.int p2)]) (by decide) (Nat.le_of_ble_eq_true rfl) rfl (fun X hDl hRm hE hX0 => ?_)
  rw [f_X0_sample] at hf
  refine J.aload_n (i := 0) dX0_sample_0 rfl rfl ?_
  refine J.iload_n (i := 1) dX0_sample_1 rfl rfl ?_
  replace hf := jbd hf
  obtain ⟨u1, h2, hf⟩ := hf
  replace hf := jbs hf
  obtain ⟨v5, hp4, h3, hf⟩ := hf
  refine J.callV (As := [.int p1]) (k2 := 0) (n2 := 0) 0 hDl hRm (w_X0_isBar h3) (lw_V q477 q479 qs7 q39 q480) hd_X0_isBar rfl ⟨_, h2⟩ rfl (Nat.le_of_ble_eq_true rfl) (Nat.le_of_ble_eq_true rfl) (Nat.le_of_ble_eq_true rfl) (Nat.le_of_ble_eq_true rfl) (Nat.le_of_ble_eq_true rfl) (Nat.le_of_ble_eq_true rfl) (Nat.le_of_ble_eq_true rfl) rfl dX0_sample_2 ?_
  refine J.if_ne (tgt := 11) dX0_sample_5 (by decide) (fun hc6 => ?_) (fun hc6 => ?_)
  · replace hf := (if_neg hc6).symm.trans hf
    refine J.aload_n (i := 0) dX0_sample_11 rfl rfl ?_
    replace hf := jbd hf
    obtain ⟨a7, h8, hf⟩ := hf
    refine J.getA 0 9 in_X0 rfl (Nat.le_of_ble_eq_true rfl) (Or.inl q154) (Or.inl rfl) h8 dX0_sample_12 ?_
    refine J.iload_n (i := 1) dX0_sample_15 rfl rfl ?_
    replace hf := jbd hf
    obtain ⟨a9, h10, hf⟩ := hf
    refine J.aaldA h10 dX0_sample_16 ?_
    refine J.iload_n (i := 2) dX0_sample_17 rfl rfl ?_
    refine J.if_eq (tgt := 25) dX0_sample_18 (by decide) (fun hc11 => ?_) (fun hc11 => ?_)
    · replace hf := (if_pos hc11).symm.trans hf
      refine J.iconst (v := 2) dX0_sample_25 (by decide) ?_
      replace hf := jbd hf
      obtain ⟨hp12, h13, hf⟩ := hf
      refine J.put (ty := .int) 7 7 in_X8 ap7 rfl (Nat.le_of_ble_eq_true rfl) (Or.inr ⟨_, q392⟩) (Or.inl rfl) rfl (by decide +kernel) (fun _ => ⟨rfl, rfl⟩) h13 dX0_sample_26 ?_
      refine J.iconst (v := 1) dX0_sample_29 (by decide) ?_
      obtain ⟨rfl, rfl⟩ := jso hf
      exact J.iret hE (Nat.le_of_ble_eq_true rfl) (Nat.le_of_ble_eq_true rfl) dX0_sample_30
    · replace hf := (if_neg hc11).symm.trans hf
      refine J.iconst (v := 1) dX0_sample_21 (by decide) ?_
      refine J.goto (tgt := 26) dX0_sample_22 (by decide) ?_
      replace hf := jbd hf
      obtain ⟨hp14, h15, hf⟩ := hf
      refine J.put (ty := .int) 7 7 in_X8 ap7 rfl (Nat.le_of_ble_eq_true rfl) (Or.inr ⟨_, q392⟩) (Or.inl rfl) rfl (by decide +kernel) (fun _ => ⟨rfl, rfl⟩) h15 dX0_sample_26 ?_
      refine J.iconst (v := 1) dX0_sample_29 (by decide) ?_
      obtain ⟨rfl, rfl⟩ := jso hf
      exact J.iret hE (Nat.le_of_ble_eq_true rfl) (Nat.le_of_ble_eq_true rfl) dX0_sample_30
  · replace hf := (if_pos hc6).symm.trans hf
    refine J.bipush (v := (-2)) dX0_sample_8 (by decide) ?_
    obtain ⟨rfl, rfl⟩ := jso hf
    exact J.iret hE (Nat.le_of_ble_eq_true rfl) (Nat.le_of_ble_eq_true rfl) dX0_sample_10
def rm_X0_isNear : Room := { frames := 2, cells := 0, slots := 0, locals := 43 }
theorem hd_X0_isNear : yX0_isNear.cls = RX0 ∧ yX0_isNear.cls ≠ "java/lang/invoke/MethodHandle" ∧ yX0_isNear.cls ≠ "java/lang/invoke/VarHandle" ∧ (parseMethodDescriptor yX0_isNear.desc).map (fun d => d.parameters.length) = some 2 := by decide +kernel
set_option maxHeartbeats 4000000 in
set_option maxRecDepth 100000 in
theorem w_X0_isNear_j64 {D : va_G} {l : Launch} {X : jX} {hp0 hpE : jH} {rE : Int32} (hDl : jDl X D l) (hRm : jRoom X rm_X0_isNear.frames rm_X0_isNear.locals rm_X0_isNear.cells rm_X0_isNear.slots) (hE : jEnds X (some .boolean) (some (.int rE)) hpE rm_X0_isNear.cells rm_X0_isNear.slots) (hX0 : jX0 X hp0) {K4 : Nat → Int32 → Int32 → Int32 → jH → Option (Int32 × jH)} (hK4 : ∀ (xa_0 : Nat) (xi_1 : Int32) (xi_2 : Int32) (xi_3 : Int32) (hp : jH), K4 xa_0 xi_1 xi_2 xi_3 hp = some (rE, hpE) → J X cX0_isNear 4 yX0_isNear 0 0 4 [some (.ref xa_0), some (.int xi_1), some (.int xi_2), some (.int xi_3)] [] hp) {xa_0 : Nat} {xi_1 : Int32} {xi_2 : Int32} {xi_3 : Int32} {hp : jH} (hf : f_X0_isNear_j64 K4 xa_0 xi_1 xi_2 xi_3 hp = some (rE, hpE)) : J X cX0_isNear 4 yX0_isNear 0 0 64 [some (.ref xa_0), some (.int xi_1), some (.int xi_2), some (.int xi_3)] [] hp := by
  rw [f_X0_isNear_j64] at hf
  refine J.iload_n (i := 3) dX0_isNear_64 rfl rfl ?_
  refine J.iload_n (i := 2) dX0_isNear_65 rfl rfl ?_
  refine J.iadd dX0_isNear_66 ?_
  refine J.istore_n (i := 3) (lv' := [some (.ref xa_0), some (.int xi_1), some (.int xi_2), some (.int (xi_3 + xi_2))]) dX0_isNear_67 rfl (Nat.le_of_ble_eq_true rfl) rfl ?_
  refine J.goto (tgt := 4) dX0_isNear_68 (by decide) ?_
  exact hK4 _ _ _ _ _ hf
set_option maxHeartbeats 4000000 in
set_option maxRecDepth 100000 in
theorem w_X0_isNear_L4 {D : va_G} {l : Launch} {X : jX} {hp0 hpE : jH} {rE : Int32} (hDl : jDl X D l) (hRm : jRoom X rm_X0_isNear.frames rm_X0_isNear.locals rm_X0_isNear.cells rm_X0_isNear.slots) (hE : jEnds X (some .boolean) (some (.int rE)) hpE rm_X0_isNear.cells rm_X0_isNear.slots) (hX0 : jX0 X hp0) : ∀ (N : Nat) (xa_0 : Nat) (xi_1 : Int32) (xi_2 : Int32) (xi_3 : Int32) (hp : jH), f_X0_isNear_L4 N xa_0 xi_1 xi_2 xi_3 hp = some (rE, hpE) → J X cX0_isNear 4 yX0_isNear 0 0 4 [some (.ref xa_0), some (.int xi_1), some (.int xi_2), some (.int xi_3)] [] hp := by
  intro N
  induction N with
  | zero =>
    intro xa_0 xi_1 xi_2 xi_3 hp hf
    rw [f_X0_isNear_L4] at hf
    cases hf
  | succ N ih4 =>
    intro xa_0 xi_1 xi_2 xi_3 hp hf
    rw [f_X0_isNear_L4] at hf
    refine J.aload_n (i := 0) dX0_isNear_4 rfl rfl ?_
    refine J.iload_n (i := 3) dX0_isNear_5 rfl rfl ?_
    replace hf := jbd hf
    obtain ⟨u1, h2, hf⟩ := hf
    replace hf := jbs hf
    obtain ⟨v5, hp4, h3, hf⟩ := hf
    refine J.callV (As := [.int xi_3]) (k2 := 0) (n2 := 0) 0 hDl hRm (w_X0_isBar h3) (lw_V q477 q479 qs7 q39 q480) hd_X0_isBar rfl ⟨_, h2⟩ rfl (Nat.le_of_ble_eq_true rfl) (Nat.le_of_ble_eq_true rfl) (Nat.le_of_ble_eq_true rfl) (Nat.le_of_ble_eq_true rfl) (Nat.le_of_ble_eq_true rfl) (Nat.le_of_ble_eq_true rfl) (Nat.le_of_ble_eq_true rfl) rfl dX0_isNear_6 ?_
    refine J.if_eq (tgt := 71) dX0_isNear_9 (by decide) (fun hc6 => ?_) (fun hc6 => ?_)
    · replace hf := (if_pos hc6).symm.trans hf
      refine J.iconst (v := 0) dX0_isNear_71 (by decide) ?_
      obtain ⟨rfl, rfl⟩ := jso hf
      exact J.zret hE narrow_b0 (Nat.le_of_ble_eq_true rfl) (Nat.le_of_ble_eq_true rfl) dX0_isNear_72
    · replace hf := (if_neg hc6).symm.trans hf
      refine J.aload_n (i := 0) dX0_isNear_12 rfl rfl ?_
      replace hf := jbd hf
      obtain ⟨a7, h8, hf⟩ := hf
      refine J.getA 0 9 in_X0 rfl (Nat.le_of_ble_eq_true rfl) (Or.inl q154) (Or.inl rfl) h8 dX0_isNear_13 ?_
      refine J.iload_n (i := 3) dX0_isNear_16 rfl rfl ?_
      replace hf := jbd hf
      obtain ⟨a9, h10, hf⟩ := hf
      refine J.aaldA h10 dX0_isNear_17 ?_
      replace hf := jbd hf
      obtain ⟨a11, h12, hf⟩ := hf
      refine J.getA 7 0 in_X8 rfl (Nat.le_of_ble_eq_true rfl) (Or.inr ⟨_, q383⟩) (Or.inl rfl) h12 dX0_isNear_18 ?_
      refine J.aload_n (i := 0) dX0_isNear_21 rfl rfl ?_
      replace hf := jbd hf
      obtain ⟨a13, h14, hf⟩ := hf
      refine J.getA 0 9 in_X0 rfl (Nat.le_of_ble_eq_true rfl) (Or.inl q154) (Or.inl rfl) h14 dX0_isNear_22 ?_
      refine J.iload_n (i := 1) dX0_isNear_25 rfl rfl ?_
      replace hf := jbd hf
      obtain ⟨a15, h16, hf⟩ := hf
      refine J.aaldA h16 dX0_isNear_26 ?_
      replace hf := jbd hf
      obtain ⟨a17, h18, hf⟩ := hf
      refine J.getA 7 0 in_X8 rfl (Nat.le_of_ble_eq_true rfl) (Or.inr ⟨_, q383⟩) (Or.inl rfl) h18 dX0_isNear_27 ?_
      refine J.acmp_ne (tgt := 64) dX0_isNear_30 (by decide) (fun hc19 => ?_) (fun hc19 => ?_)
      · replace hf := (if_neg hc19).symm.trans hf
        exact w_X0_isNear_j64 hDl hRm hE hX0 (fun z0 z1 z2 z3 z4 hz => ih4 z0 z1 z2 z3 z4 hz) hf
      · replace hf := (if_pos hc19).symm.trans hf
        refine J.aload_n (i := 0) dX0_isNear_33 rfl rfl ?_
        replace hf := jbd hf
        obtain ⟨a20, h21, hf⟩ := hf
        refine J.getA 0 9 in_X0 rfl (Nat.le_of_ble_eq_true rfl) (Or.inl q154) (Or.inl rfl) h21 dX0_isNear_34 ?_
        refine J.iload_n (i := 3) dX0_isNear_37 rfl rfl ?_
        replace hf := jbd hf
        obtain ⟨a22, h23, hf⟩ := hf
        refine J.aaldA h23 dX0_isNear_38 ?_
        replace hf := jbd hf
        obtain ⟨v24, h25, hf⟩ := hf
        refine J.getI 7 7 in_X8 rfl (Nat.le_of_ble_eq_true rfl) (Or.inr ⟨_, q392⟩) (Or.inl rfl) h25 dX0_isNear_39 ?_
        refine J.if_le (tgt := 64) dX0_isNear_42 (by decide) (fun hc26 => ?_) (fun hc26 => ?_)
        · replace hf := (if_pos hc26).symm.trans hf
          exact w_X0_isNear_j64 hDl hRm hE hX0 (fun z0 z1 z2 z3 z4 hz => ih4 z0 z1 z2 z3 z4 hz) hf
        · replace hf := (if_neg hc26).symm.trans hf
          refine J.aload_n (i := 0) dX0_isNear_45 rfl rfl ?_
          replace hf := jbd hf
          obtain ⟨a27, h28, hf⟩ := hf
          refine J.getA 0 9 in_X0 rfl (Nat.le_of_ble_eq_true rfl) (Or.inl q154) (Or.inl rfl) h28 dX0_isNear_46 ?_
          refine J.iload_n (i := 3) dX0_isNear_49 rfl rfl ?_
          replace hf := jbd hf
          obtain ⟨a29, h30, hf⟩ := hf
          refine J.aaldA h30 dX0_isNear_50 ?_
          replace hf := jbd hf
          obtain ⟨v31, h32, hf⟩ := hf
          refine J.getI 7 7 in_X8 rfl (Nat.le_of_ble_eq_true rfl) (Or.inr ⟨_, q392⟩) (Or.inl rfl) h32 dX0_isNear_51 ?_
          refine J.iconst (v := 2) dX0_isNear_54 (by decide) ?_
          refine J.icmp_ne (tgt := 62) dX0_isNear_55 (by decide) (fun hc33 => ?_) (fun hc33 => ?_)
          · replace hf := (if_neg hc33).symm.trans hf
            refine J.iconst (v := 0) dX0_isNear_62 (by decide) ?_
            obtain ⟨rfl, rfl⟩ := jso hf
            exact J.zret hE narrow_b0 (Nat.le_of_ble_eq_true rfl) (Nat.le_of_ble_eq_true rfl) dX0_isNear_63
          · replace hf := (if_pos hc33).symm.trans hf
            refine J.iconst (v := 1) dX0_isNear_58 (by decide) ?_
            refine J.goto (tgt := 63) dX0_isNear_59 (by decide) ?_
            obtain ⟨rfl, rfl⟩ := jso hf
            exact J.zret hE narrow_b1 (Nat.le_of_ble_eq_true rfl) (Nat.le_of_ble_eq_true rfl) dX0_isNear_63
set_option maxHeartbeats 4000000 in
set_option maxRecDepth 100000 in
theorem w_X0_isNear {D : va_G} {l : Launch} {hp hpE : jH} {rE : Int32} {this : Nat} {p1 : Int32} {p2 : Int32} (hf : f_X0_isNear this p1 p2 hp = some (rE, hpE)) : jM D l yX0_isNear (ws_ yX0_isNear cX0_isNear 4 (some .boolean)) rm_X0_isNear hp [.ref this, .int p1, .int p2] (some (.int rE)) hpE := by
  refine jM.of (lv0 := [some (.ref this), some (.int p1), some (.int p2), none]) (by decide) (Nat.le_of_ble_eq_true rfl) rfl (fun X hDl hRm hE hX0 => ?_)
  rw [f_X0_isNear] at hf
  refine J.iload_n (i := 1) dX0_isNear_0 rfl rfl ?_
  refine J.iload_n (i := 2) dX0_isNear_1 rfl rfl ?_
  refine J.iadd dX0_isNear_2 ?_
  refine J.istore_n (i := 3) (lv' := [some (.ref this), some (.int p1), some (.int p2), some (.int (p1 + p2))]) dX0_isNear_3 rfl (Nat.le_of_ble_eq_true rfl) rfl ?_
  exact w_X0_isNear_L4 hDl hRm hE hX0 _ _ _ _ _ _ hf
def rm_X0_isSuspect : Room := { frames := 3, cells := 0, slots := 0, locals := 66 }
theorem hd_X0_isSuspect : yX0_isSuspect.cls = RX0 ∧ yX0_isSuspect.cls ≠ "java/lang/invoke/MethodHandle" ∧ yX0_isSuspect.cls ≠ "java/lang/invoke/VarHandle" ∧ (parseMethodDescriptor yX0_isSuspect.desc).map (fun d => d.parameters.length) = some 1 := by decide +kernel
set_option maxHeartbeats 4000000 in
set_option maxRecDepth 100000 in
theorem w_X0_isSuspect {D : va_G} {l : Launch} {hp hpE : jH} {rE : Int32} {this : Nat} {p1 : Int32} (hf : f_X0_isSuspect this p1 hp = some (rE, hpE)) : jM D l yX0_isSuspect (ws_ yX0_isSuspect cX0_isSuspect 3 (some .boolean)) rm_X0_isSuspect hp [.ref this, .int p1] (some (.int rE)) hpE := by
  refine jM.of (lv0 := [some (.ref this), some (.int p1), none]) (by decide) (Nat.le_of_ble_eq_true rfl) rfl (fun X hDl hRm hE hX0 => ?_)
  rw [f_X0_isSuspect] at hf
  refine J.aload_n (i := 0) dX0_isSuspect_0 rfl rfl ?_
  replace hf := jbd hf
  obtain ⟨a1, h2, hf⟩ := hf
  refine J.getA 0 9 in_X0 rfl (Nat.le_of_ble_eq_true rfl) (Or.inl q154) (Or.inl rfl) h2 dX0_isSuspect_1 ?_
  refine J.iload_n (i := 1) dX0_isSuspect_4 rfl rfl ?_
  replace hf := jbd hf
  obtain ⟨a3, h4, hf⟩ := hf
  refine J.aaldA h4 dX0_isSuspect_5 ?_
  replace hf := jbd hf
  obtain ⟨v5, h6, hf⟩ := hf
  refine J.getI 7 7 in_X8 rfl (Nat.le_of_ble_eq_true rfl) (Or.inr ⟨_, q392⟩) (Or.inl rfl) h6 dX0_isSuspect_6 ?_
  refine J.istore_n (i := 2) (lv' := [some (.ref this), some (.int p1), some (.int v5)]) dX0_isSuspect_9 rfl (Nat.le_of_ble_eq_true rfl) rfl ?_
  refine J.iload_n (i := 2) dX0_isSuspect_10 rfl rfl ?_
  refine J.iconst (v := 2) dX0_isSuspect_11 (by decide) ?_
  refine J.icmp_eq (tgt := 37) dX0_isSuspect_12 (by decide) (fun hc7 => ?_) (fun hc7 => ?_)
  · replace hf := (if_pos hc7).symm.trans hf
    refine J.iconst (v := 1) dX0_isSuspect_37 (by decide) ?_
    refine J.goto (tgt := 42) dX0_isSuspect_38 (by decide) ?_
    obtain ⟨rfl, rfl⟩ := jso hf
    exact J.zret hE narrow_b1 (Nat.le_of_ble_eq_true rfl) (Nat.le_of_ble_eq_true rfl) dX0_isSuspect_42
  · replace hf := (if_neg hc7).symm.trans hf
    refine J.iload_n (i := 2) dX0_isSuspect_15 rfl rfl ?_
    refine J.if_ne (tgt := 41) dX0_isSuspect_16 (by decide) (fun hc8 => ?_) (fun hc8 => ?_)
    · replace hf := (if_neg hc8).symm.trans hf
      refine J.iconst (v := 0) dX0_isSuspect_41 (by decide) ?_
      obtain ⟨rfl, rfl⟩ := jso hf
      exact J.zret hE narrow_b0 (Nat.le_of_ble_eq_true rfl) (Nat.le_of_ble_eq_true rfl) dX0_isSuspect_42
    · replace hf := (if_pos hc8).symm.trans hf
      refine J.aload_n (i := 0) dX0_isSuspect_19 rfl rfl ?_
      refine J.iload_n (i := 1) dX0_isSuspect_20 rfl rfl ?_
      refine J.iconst (v := 1) dX0_isSuspect_21 (by decide) ?_
      replace hf := jbd hf
      obtain ⟨u9, h10, hf⟩ := hf
      replace hf := jbs hf
      obtain ⟨v13, hp12, h11, hf⟩ := hf
      refine J.callV (As := [.int p1, .int 1]) (k2 := 0) (n2 := 0) 0 hDl hRm (w_X0_isNear h11) (lw_V q725 q727 qs18 q39 q728) hd_X0_isNear rfl ⟨_, h10⟩ rfl (Nat.le_of_ble_eq_true rfl) (Nat.le_of_ble_eq_true rfl) (Nat.le_of_ble_eq_true rfl) (Nat.le_of_ble_eq_true rfl) (Nat.le_of_ble_eq_true rfl) (Nat.le_of_ble_eq_true rfl) (Nat.le_of_ble_eq_true rfl) rfl dX0_isSuspect_22 ?_
      refine J.if_ne (tgt := 37) dX0_isSuspect_25 (by decide) (fun hc14 => ?_) (fun hc14 => ?_)
      · replace hf := (if_neg hc14).symm.trans hf
        refine J.iconst (v := 1) dX0_isSuspect_37 (by decide) ?_
        refine J.goto (tgt := 42) dX0_isSuspect_38 (by decide) ?_
        obtain ⟨rfl, rfl⟩ := jso hf
        exact J.zret hE narrow_b1 (Nat.le_of_ble_eq_true rfl) (Nat.le_of_ble_eq_true rfl) dX0_isSuspect_42
      · replace hf := (if_pos hc14).symm.trans hf
        refine J.aload_n (i := 0) dX0_isSuspect_28 rfl rfl ?_
        refine J.iload_n (i := 1) dX0_isSuspect_29 rfl rfl ?_
        refine J.iconst (v := (-1)) dX0_isSuspect_30 (by decide) ?_
        replace hf := jbd hf
        obtain ⟨u15, h16, hf⟩ := hf
        replace hf := jbs hf
        obtain ⟨v19, hp18, h17, hf⟩ := hf
        refine J.callV (As := [.int p1, .int (-1)]) (k2 := 0) (n2 := 0) 0 hDl hRm (w_X0_isNear h17) (lw_V q725 q727 qs18 q39 q728) hd_X0_isNear rfl ⟨_, h16⟩ rfl (Nat.le_of_ble_eq_true rfl) (Nat.le_of_ble_eq_true rfl) (Nat.le_of_ble_eq_true rfl) (Nat.le_of_ble_eq_true rfl) (Nat.le_of_ble_eq_true rfl) (Nat.le_of_ble_eq_true rfl) (Nat.le_of_ble_eq_true rfl) rfl dX0_isSuspect_31 ?_
        refine J.if_eq (tgt := 41) dX0_isSuspect_34 (by decide) (fun hc20 => ?_) (fun hc20 => ?_)
        · replace hf := (if_pos hc20).symm.trans hf
          refine J.iconst (v := 0) dX0_isSuspect_41 (by decide) ?_
          obtain ⟨rfl, rfl⟩ := jso hf
          exact J.zret hE narrow_b0 (Nat.le_of_ble_eq_true rfl) (Nat.le_of_ble_eq_true rfl) dX0_isSuspect_42
        · replace hf := (if_neg hc20).symm.trans hf
          refine J.iconst (v := 1) dX0_isSuspect_37 (by decide) ?_
          refine J.goto (tgt := 42) dX0_isSuspect_38 (by decide) ?_
          obtain ⟨rfl, rfl⟩ := jso hf
          exact J.zret hE narrow_b1 (Nat.le_of_ble_eq_true rfl) (Nat.le_of_ble_eq_true rfl) dX0_isSuspect_42
def rm_X0_suspect : Room := { frames := 4, cells := 0, slots := 0, locals := 88 }
theorem hd_X0_suspect : yX0_suspect.cls = RX0 ∧ yX0_suspect.cls ≠ "java/lang/invoke/MethodHandle" ∧ yX0_suspect.cls ≠ "java/lang/invoke/VarHandle" ∧ (parseMethodDescriptor yX0_suspect.desc).map (fun d => d.parameters.length) = some 1 := by decide +kernel
set_option maxHeartbeats 4000000 in
set_option maxRecDepth 100000 in
theorem w_X0_suspect {D : va_G} {l : Launch} {hp hpE : jH} {rE : Int32} {this : Nat} {p1 : Int32} (hf : f_X0_suspect this p1 hp = some (rE, hpE)) : jM D l yX0_suspect (ws_ yX0_suspect cX0_suspect 2 (some .int)) rm_X0_suspect hp [.ref this, .int p1] (some (.int rE)) hpE := by
  refine jM.of (lv0 := [some (.ref this), some (.int p1)]) (by decide) (Nat.le_of_ble_eq_true rfl) rfl (fun X hDl hRm hE hX0 => ?_)
  rw [f_X0_suspect] at hf
  refine J.aload_n (i := 0) dX0_suspect_0 rfl rfl ?_
  refine J.iload_n (i := 1) dX0_suspect_1 rfl rfl ?_
  replace hf := jbd hf
  obtain ⟨u1, h2, hf⟩ := hf
  replace hf := jbs hf
  obtain ⟨v5, hp4, h3, hf⟩ := hf
  refine J.callV (As := [.int p1]) (k2 := 0) (n2 := 0) 0 hDl hRm (w_X0_isBar h3) (lw_V q477 q479 qs7 q39 q480) hd_X0_isBar rfl ⟨_, h2⟩ rfl (Nat.le_of_ble_eq_true rfl) (Nat.le_of_ble_eq_true rfl) (Nat.le_of_ble_eq_true rfl) (Nat.le_of_ble_eq_true rfl) (Nat.le_of_ble_eq_true rfl) (Nat.le_of_ble_eq_true rfl) (Nat.le_of_ble_eq_true rfl) rfl dX0_suspect_2 ?_
  refine J.if_eq (tgt := 24) dX0_suspect_5 (by decide) (fun hc6 => ?_) (fun hc6 => ?_)
  · replace hf := (if_pos hc6).symm.trans hf
    refine J.bipush (v := (-2)) dX0_suspect_24 (by decide) ?_
    obtain ⟨rfl, rfl⟩ := jso hf
    exact J.iret hE (Nat.le_of_ble_eq_true rfl) (Nat.le_of_ble_eq_true rfl) dX0_suspect_26
  · replace hf := (if_neg hc6).symm.trans hf
    refine J.aload_n (i := 0) dX0_suspect_8 rfl rfl ?_
    refine J.iload_n (i := 1) dX0_suspect_9 rfl rfl ?_
    replace hf := jbd hf
    obtain ⟨u7, h8, hf⟩ := hf
    replace hf := jbs hf
    obtain ⟨v11, hp10, h9, hf⟩ := hf
    refine J.callV (As := [.int p1]) (k2 := 0) (n2 := 0) 0 hDl hRm (w_X0_isSuspect h9) (lw_V q721 q723 qs17 q39 q724) hd_X0_isSuspect rfl ⟨_, h8⟩ rfl (Nat.le_of_ble_eq_true rfl) (Nat.le_of_ble_eq_true rfl) (Nat.le_of_ble_eq_true rfl) (Nat.le_of_ble_eq_true rfl) (Nat.le_of_ble_eq_true rfl) (Nat.le_of_ble_eq_true rfl) (Nat.le_of_ble_eq_true rfl) rfl dX0_suspect_10 ?_
    refine J.if_eq (tgt := 20) dX0_suspect_13 (by decide) (fun hc12 => ?_) (fun hc12 => ?_)
    · replace hf := (if_pos hc12).symm.trans hf
      refine J.iconst (v := 0) dX0_suspect_20 (by decide) ?_
      refine J.goto (tgt := 26) dX0_suspect_21 (by decide) ?_
      obtain ⟨rfl, rfl⟩ := jso hf
      exact J.iret hE (Nat.le_of_ble_eq_true rfl) (Nat.le_of_ble_eq_true rfl) dX0_suspect_26
    · replace hf := (if_neg hc12).symm.trans hf
      refine J.iconst (v := 1) dX0_suspect_16 (by decide) ?_
      refine J.goto (tgt := 26) dX0_suspect_17 (by decide) ?_
      obtain ⟨rfl, rfl⟩ := jso hf
      exact J.iret hE (Nat.le_of_ble_eq_true rfl) (Nat.le_of_ble_eq_true rfl) dX0_suspect_26
def rm_X0_held : Room := { frames := 4, cells := 0, slots := 0, locals := 88 }
theorem hd_X0_held : yX0_held.cls = RX0 ∧ yX0_held.cls ≠ "java/lang/invoke/MethodHandle" ∧ yX0_held.cls ≠ "java/lang/invoke/VarHandle" ∧ (parseMethodDescriptor yX0_held.desc).map (fun d => d.parameters.length) = some 0 := by decide +kernel
set_option maxHeartbeats 4000000 in
set_option maxRecDepth 100000 in
theorem w_X0_held_j34 {D : va_G} {l : Launch} {X : jX} {hp0 hpE : jH} {rE : Int32} (hDl : jDl X D l) (hRm : jRoom X rm_X0_held.frames rm_X0_held.locals rm_X0_held.cells rm_X0_held.slots) (hE : jEnds X (some .int) (some (.int rE)) hpE rm_X0_held.cells rm_X0_held.slots) (hX0 : jX0 X hp0) {K4 : Nat → Int32 → Int32 → jH → Option (Int32 × jH)} (hK4 : ∀ (xa_0 : Nat) (xi_1 : Int32) (xi_2 : Int32) (hp : jH), K4 xa_0 xi_1 xi_2 hp = some (rE, hpE) → J X cX0_held 3 yX0_held 0 0 4 [some (.ref xa_0), some (.int xi_1), some (.int xi_2)] [] hp) {xa_0 : Nat} {xi_2 : Int32} {xi_s0 : Int32} {xi_s1 : Int32} {hp : jH} (hf : f_X0_held_j34 K4 xa_0 xi_2 xi_s0 xi_s1 hp = some (rE, hpE)) : J X cX0_held 3 yX0_held 0 0 34 [some (.ref xa_0), none, some (.int xi_2)] [.int xi_s1, .int xi_s0] hp := by
  rw [f_X0_held_j34] at hf
  refine J.iadd dX0_held_34 ?_
  refine J.istore_n (i := 1) (lv' := [some (.ref xa_0), some (.int (xi_s0 + xi_s1)), some (.int xi_2)]) dX0_held_35 rfl (Nat.le_of_ble_eq_true rfl) rfl ?_
  refine J.iinc (i := 2) (v := (xi_2 + 1)) (lv' := [some (.ref xa_0), some (.int (xi_s0 + xi_s1)), some (.int (xi_2 + 1))]) dX0_held_36 rfl rfl (Nat.le_of_ble_eq_true rfl) rfl ?_
  refine J.goto (tgt := 4) dX0_held_39 (by decide) ?_
  exact hK4 _ _ _ _ hf
set_option maxHeartbeats 4000000 in
set_option maxRecDepth 100000 in
theorem w_X0_held_L4 {D : va_G} {l : Launch} {X : jX} {hp0 hpE : jH} {rE : Int32} (hDl : jDl X D l) (hRm : jRoom X rm_X0_held.frames rm_X0_held.locals rm_X0_held.cells rm_X0_held.slots) (hE : jEnds X (some .int) (some (.int rE)) hpE rm_X0_held.cells rm_X0_held.slots) (hX0 : jX0 X hp0) : ∀ (N : Nat) (xa_0 : Nat) (xi_1 : Int32) (xi_2 : Int32) (hp : jH), f_X0_held_L4 N xa_0 xi_1 xi_2 hp = some (rE, hpE) → J X cX0_held 3 yX0_held 0 0 4 [some (.ref xa_0), some (.int xi_1), some (.int xi_2)] [] hp := by
  intro N
  induction N with
  | zero =>
    intro xa_0 xi_1 xi_2 hp hf
    rw [f_X0_held_L4] at hf
    cases hf
  | succ N ih4 =>
    intro xa_0 xi_1 xi_2 hp hf
    rw [f_X0_held_L4] at hf
    refine J.iload_n (i := 2) dX0_held_4 rfl rfl ?_
    refine J.aload_n (i := 0) dX0_held_5 rfl rfl ?_
    replace hf := jbd hf
    obtain ⟨v1, h2, hf⟩ := hf
    refine J.getI 0 10 in_X0 rfl (Nat.le_of_ble_eq_true rfl) (Or.inl q155) (Or.inl rfl) h2 dX0_held_6 ?_
    refine J.icmp_ge (tgt := 42) dX0_held_9 (by decide) (fun hc3 => ?_) (fun hc3 => ?_)
    · replace hf := (if_pos hc3).symm.trans hf
      refine J.iload_n (i := 1) dX0_held_42 rfl rfl ?_
      obtain ⟨rfl, rfl⟩ := jso hf
      exact J.iret hE (Nat.le_of_ble_eq_true rfl) (Nat.le_of_ble_eq_true rfl) dX0_held_43
    · replace hf := (if_neg hc3).symm.trans hf
      refine J.iload_n (i := 1) dX0_held_12 rfl rfl ?_
      refine J.aload_n (i := 0) dX0_held_13 rfl rfl ?_
      refine J.iload_n (i := 2) dX0_held_14 rfl rfl ?_
      replace hf := jbd hf
      obtain ⟨u4, h5, hf⟩ := hf
      replace hf := jbs hf
      obtain ⟨v8, hp7, h6, hf⟩ := hf
      refine J.callV (As := [.int xi_2]) (k2 := 0) (n2 := 0) 0 hDl hRm (w_X0_isSuspect h6) (lw_V q721 q723 qs17 q39 q724) hd_X0_isSuspect rfl ⟨_, h5⟩ rfl (Nat.le_of_ble_eq_true rfl) (Nat.le_of_ble_eq_true rfl) (Nat.le_of_ble_eq_true rfl) (Nat.le_of_ble_eq_true rfl) (Nat.le_of_ble_eq_true rfl) (Nat.le_of_ble_eq_true rfl) (Nat.le_of_ble_eq_true rfl) rfl dX0_held_15 ?_
      refine J.if_eq (tgt := 33) dX0_held_18 (by decide) (fun hc9 => ?_) (fun hc9 => ?_)
      · replace hf := (if_pos hc9).symm.trans hf
        refine J.iconst (v := 0) dX0_held_33 (by decide) ?_
        refine J.mask (lv' := [some (.ref xa_0), none, some (.int xi_2)]) [true, false, true] rfl ?_
        exact w_X0_held_j34 hDl hRm hE hX0 (fun z0 z1 z2 z3 hz => ih4 z0 z1 z2 z3 hz) hf
      · replace hf := (if_neg hc9).symm.trans hf
        refine J.aload_n (i := 0) dX0_held_21 rfl rfl ?_
        replace hf := jbd hf
        obtain ⟨a10, h11, hf⟩ := hf
        refine J.getA 0 9 in_X0 rfl (Nat.le_of_ble_eq_true rfl) (Or.inl q154) (Or.inl rfl) h11 dX0_held_22 ?_
        refine J.iload_n (i := 2) dX0_held_25 rfl rfl ?_
        replace hf := jbd hf
        obtain ⟨a12, h13, hf⟩ := hf
        refine J.aaldA h13 dX0_held_26 ?_
        replace hf := jbd hf
        obtain ⟨v14, h15, hf⟩ := hf
        refine J.getI 7 3 in_X8 rfl (Nat.le_of_ble_eq_true rfl) (Or.inr ⟨_, q387⟩) (Or.inl rfl) h15 dX0_held_27 ?_
        refine J.goto (tgt := 34) dX0_held_30 (by decide) ?_
        refine J.mask (lv' := [some (.ref xa_0), none, some (.int xi_2)]) [true, false, true] rfl ?_
        exact w_X0_held_j34 hDl hRm hE hX0 (fun z0 z1 z2 z3 hz => ih4 z0 z1 z2 z3 hz) hf
set_option maxHeartbeats 4000000 in
set_option maxRecDepth 100000 in
theorem w_X0_held {D : va_G} {l : Launch} {hp hpE : jH} {rE : Int32} {this : Nat} (hf : f_X0_held this hp = some (rE, hpE)) : jM D l yX0_held (ws_ yX0_held cX0_held 3 (some .int)) rm_X0_held hp [.ref this] (some (.int rE)) hpE := by
  refine jM.of (lv0 := [some (.ref this), none, none]) (by decide) (Nat.le_of_ble_eq_true rfl) rfl (fun X hDl hRm hE hX0 => ?_)
  rw [f_X0_held] at hf
  refine J.iconst (v := 0) dX0_held_0 (by decide) ?_
  refine J.istore_n (i := 1) (lv' := [some (.ref this), some (.int 0), none]) dX0_held_1 rfl (Nat.le_of_ble_eq_true rfl) rfl ?_
  refine J.iconst (v := 0) dX0_held_2 (by decide) ?_
  refine J.istore_n (i := 2) (lv' := [some (.ref this), some (.int 0), some (.int 0)]) dX0_held_3 rfl (Nat.le_of_ble_eq_true rfl) rfl ?_
  exact w_X0_held_L4 hDl hRm hE hX0 _ _ _ _ _ hf
def rm_X0_meets : Room := { frames := 0, cells := 0, slots := 0, locals := 0 }
theorem hd_X0_meets : yX0_meets.cls = RX0 ∧ yX0_meets.cls ≠ "java/lang/invoke/MethodHandle" ∧ yX0_meets.cls ≠ "java/lang/invoke/VarHandle" ∧ (parseMethodDescriptor yX0_meets.desc).map (fun d => d.parameters.length) = some 1 := by decide +kernel
set_option maxHeartbeats 4000000 in
set_option maxRecDepth 100000 in
theorem w_X0_meets {D : va_G} {l : Launch} {hp hpE : jH} {rE : Int32} {this : Nat} {p1 : Int32} (hf : f_X0_meets this p1 hp = some (rE, hpE)) : jM D l yX0_meets (ws_ yX0_meets cX0_meets 2 (some .int)) rm_X0_meets hp [.ref this, .int p1] (some (.int rE)) hpE := by
  refine jM.of (lv0 := [some (.ref this), some (.int p1)]) (by decide) (Nat.le_of_ble_eq_true rfl) rfl (fun X hDl hRm hE hX0 => ?_)
  rw [f_X0_meets] at hf
  refine J.aload_n (i := 0) dX0_meets_0 rfl rfl ?_
  refine J.iload_n (i := 1) dX0_meets_1 rfl rfl ?_
  replace hf := jbd hf
  obtain ⟨hp1, h2, hf⟩ := hf
  refine J.put (ty := .int) 0 27 in_X0 ap0 rfl (Nat.le_of_ble_eq_true rfl) (Or.inl q172) (Or.inl rfl) rfl (by decide +kernel) (fun _ => ⟨rfl, rfl⟩) h2 dX0_meets_2 ?_
  refine J.bipush (v := (-10)) dX0_meets_5 (by decide) ?_
  refine J.iload_n (i := 1) dX0_meets_7 rfl rfl ?_
  refine J.isub dX0_meets_8 ?_
  obtain ⟨rfl, rfl⟩ := jso hf
  exact J.iret hE (Nat.le_of_ble_eq_true rfl) (Nat.le_of_ble_eq_true rfl) dX0_meets_9
def rm_X0_isSheet : Room := { frames := 1, cells := 0, slots := 0, locals := 22 }
theorem hs_X0_isSheet : yX0_isSheet.cls ≠ "java/lang/invoke/MethodHandle" ∧ yX0_isSheet.cls ≠ "java/lang/invoke/VarHandle" ∧ (parseMethodDescriptor yX0_isSheet.desc).map (fun d => d.parameters.length) = some 1 := by decide +kernel
set_option maxHeartbeats 4000000 in
set_option maxRecDepth 100000 in
theorem w_X0_isSheet {D : va_G} {l : Launch} {hp hpE : jH} {rE : Int32} {p1 : Int32} (hf : f_X0_isSheet p1 hp = some (rE, hpE)) : jM D l yX0_isSheet (ws_ yX0_isSheet cX0_isSheet 1 (some .boolean)) rm_X0_isSheet hp [.int p1] (some (.int rE)) hpE := by
  refine jM.of (lv0 := [some (.int p1)]) (by decide) (Nat.le_of_ble_eq_true rfl) rfl (fun X hDl hRm hE hX0 => ?_)
  rw [f_X0_isSheet] at hf
  refine J.iload_n (i := 0) dX0_isSheet_0 rfl rfl ?_
  refine J.iconst (v := 0) dX0_isSheet_1 (by decide) ?_
  refine J.iconst (v := 3) dX0_isSheet_2 (by decide) ?_
  replace hf := jbs hf
  obtain ⟨v3, hp2, h1, hf⟩ := hf
  refine J.callS (As := [.int p1, .int 0, .int 3]) (k2 := 0) (n2 := 0) hDl hRm (w_X0_in h1) (lw_S q234 q235 q39 q236) hs_X0_in rfl (Nat.le_of_ble_eq_true rfl) (Nat.le_of_ble_eq_true rfl) (Nat.le_of_ble_eq_true rfl) (Nat.le_of_ble_eq_true rfl) (Nat.le_of_ble_eq_true rfl) (Nat.le_of_ble_eq_true rfl) (Nat.le_of_ble_eq_true rfl) rfl dX0_isSheet_3 ?_
  by_cases hz4 : ¬ (v3 = (0 : Int32) ∨ v3 = (1 : Int32))
  · replace hf := (if_pos hz4).symm.trans hf
    cases hf
  replace hf := (if_neg hz4).symm.trans hf
  obtain ⟨rfl, rfl⟩ := jso hf
  exact J.zret hE (jz01n (Decidable.not_not.mp hz4)) (Nat.le_of_ble_eq_true rfl) (Nat.le_of_ble_eq_true rfl) dX0_isSheet_6
def rm_X0_item : Room := { frames := 0, cells := 0, slots := 0, locals := 0 }
theorem hs_X0_item : yX0_item.cls ≠ "java/lang/invoke/MethodHandle" ∧ yX0_item.cls ≠ "java/lang/invoke/VarHandle" ∧ (parseMethodDescriptor yX0_item.desc).map (fun d => d.parameters.length) = some 3 := by decide +kernel
set_option maxHeartbeats 4000000 in
set_option maxRecDepth 100000 in
theorem w_X0_item {D : va_G} {l : Launch} {hp hpE : jH} {rE : Int32} {p1 : Nat} {p2 : Int32} {p3 : Int32} (hf : f_X0_item p1 p2 p3 hp = some (rE, hpE)) : jM D l yX0_item (ws_ yX0_item cX0_item 3 (some .int)) rm_X0_item hp [.ref p1, .int p2, .int p3] (some (.int rE)) hpE := by
  refine jM.of (lv0 := [some (.ref p1), some (.int p2), some (.int p3)]) (by decide) (Nat.le_of_ble_eq_true rfl) rfl (fun X hDl hRm hE hX0 => ?_)
  rw [f_X0_item] at hf
  refine J.iload_n (i := 1) dX0_item_0 rfl rfl ?_
  by_cases hc1 : p2 = (0 : Int32)
  · replace hf := (if_pos hc1).symm.trans hf
    refine J.lookup (tgt := 28) (off := 27) dX0_item_1 (by decide) (by rw [hc1]; rfl) (by decide) ?_
    refine J.aload_n (i := 0) dX0_item_28 rfl rfl ?_
    replace hf := jbd hf
    obtain ⟨u3, h2, hf⟩ := hf
    refine J.castA (ty := .byte) rfl (fun C h => by cases h) q748 ⟨_, h2⟩ dX0_item_29 ?_
    refine J.iload_n (i := 2) dX0_item_32 rfl rfl ?_
    replace hf := jbd hf
    obtain ⟨v4, h5, hf⟩ := hf
    refine J.bald h5 dX0_item_33 ?_
    obtain ⟨rfl, rfl⟩ := jso hf
    exact J.iret hE (Nat.le_of_ble_eq_true rfl) (Nat.le_of_ble_eq_true rfl) dX0_item_34
  replace hf := (if_neg hc1).symm.trans hf
  by_cases hc6 : p2 = (1 : Int32)
  · replace hf := (if_pos hc6).symm.trans hf
    refine J.lookup (tgt := 35) (off := 34) dX0_item_1 (by decide) (by rw [hc6]; rfl) (by decide) ?_
    refine J.aload_n (i := 0) dX0_item_35 rfl rfl ?_
    replace hf := jbd hf
    obtain ⟨u8, h7, hf⟩ := hf
    refine J.castA (ty := .short) rfl (fun C h => by cases h) q749 ⟨_, h7⟩ dX0_item_36 ?_
    refine J.iload_n (i := 2) dX0_item_39 rfl rfl ?_
    replace hf := jbd hf
    obtain ⟨v9, h10, hf⟩ := hf
    refine J.sald h10 dX0_item_40 ?_
    obtain ⟨rfl, rfl⟩ := jso hf
    exact J.iret hE (Nat.le_of_ble_eq_true rfl) (Nat.le_of_ble_eq_true rfl) dX0_item_41
  replace hf := (if_neg hc6).symm.trans hf
  refine J.lookup (tgt := 42) (off := 41) dX0_item_1 (by decide) ((lv_osw hc1 (show (0 : Int32).toInt = 0 from rfl)).trans ((lv_osw hc6 (show (1 : Int32).toInt = 1 from rfl)).trans rfl)) (by decide) ?_
  refine J.aload_n (i := 0) dX0_item_42 rfl rfl ?_
  replace hf := jbd hf
  obtain ⟨u12, h11, hf⟩ := hf
  refine J.castA (ty := .int) rfl (fun C h => by cases h) q750 ⟨_, h11⟩ dX0_item_43 ?_
  refine J.iload_n (i := 2) dX0_item_46 rfl rfl ?_
  replace hf := jbd hf
  obtain ⟨v13, h14, hf⟩ := hf
  refine J.iald h14 dX0_item_47 ?_
  obtain ⟨rfl, rfl⟩ := jso hf
  exact J.iret hE (Nat.le_of_ble_eq_true rfl) (Nat.le_of_ble_eq_true rfl) dX0_item_48
def rm_X0_drift : Room := { frames := 2, cells := 0, slots := 0, locals := 43 }
theorem hd_X0_drift : yX0_drift.cls = RX0 ∧ yX0_drift.cls ≠ "java/lang/invoke/MethodHandle" ∧ yX0_drift.cls ≠ "java/lang/invoke/VarHandle" ∧ (parseMethodDescriptor yX0_drift.desc).map (fun d => d.parameters.length) = some 2 := by decide +kernel
set_option maxHeartbeats 4000000 in
set_option maxRecDepth 100000 in
theorem w_X0_drift_j123 {D : va_G} {l : Launch} {X : jX} {hp0 hpE : jH} {rE : Int32} (hDl : jDl X D l) (hRm : jRoom X rm_X0_drift.frames rm_X0_drift.locals rm_X0_drift.cells rm_X0_drift.slots) (hE : jEnds X (some .int) (some (.int rE)) hpE rm_X0_drift.cells rm_X0_drift.slots) (hX0 : jX0 X hp0) {xi_4 : Int32} {xi_5 : Int32} {hp : jH} (hf : f_X0_drift_j123 xi_4 xi_5 hp = some (rE, hpE)) : J X cX0_drift 8 yX0_drift 0 0 123 [none, none, none, none, some (.int xi_4), some (.int xi_5), none, none] [] hp := by
  rw [f_X0_drift_j123] at hf
  refine J.iload dX0_drift_123 rfl ?_
  refine J.if_ne (tgt := 134) dX0_drift_125 (by decide) (fun hc19 => ?_) (fun hc19 => ?_)
  · replace hf := (if_neg hc19).symm.trans hf
    refine J.iload dX0_drift_134 rfl ?_
    refine J.iload dX0_drift_136 rfl ?_
    by_cases hz20 : xi_5 = (0 : Int32)
    · replace hf := (if_pos hz20).symm.trans hf
      cases hf
    replace hf := (if_neg hz20).symm.trans hf
    refine J.idiv dX0_drift_138 hz20 ?_
    refine J.iload dX0_drift_139 rfl ?_
    refine J.iload dX0_drift_141 rfl ?_
    by_cases hz21 : xi_5 = (0 : Int32)
    · replace hf := (if_pos hz21).symm.trans hf
      cases hf
    replace hf := (if_neg hz21).symm.trans hf
    refine J.irem dX0_drift_143 hz21 ?_
    refine J.if_ge (tgt := 151) dX0_drift_144 (by decide) (fun hc22 => ?_) (fun hc22 => ?_)
    · replace hf := (if_pos hc22).symm.trans hf
      refine J.iconst (v := 0) dX0_drift_151 (by decide) ?_
      refine J.isub dX0_drift_152 ?_
      obtain ⟨rfl, rfl⟩ := jso hf
      exact J.iret hE (Nat.le_of_ble_eq_true rfl) (Nat.le_of_ble_eq_true rfl) dX0_drift_153
    · replace hf := (if_neg hc22).symm.trans hf
      refine J.iconst (v := 1) dX0_drift_147 (by decide) ?_
      refine J.goto (tgt := 152) dX0_drift_148 (by decide) ?_
      refine J.isub dX0_drift_152 ?_
      obtain ⟨rfl, rfl⟩ := jso hf
      exact J.iret hE (Nat.le_of_ble_eq_true rfl) (Nat.le_of_ble_eq_true rfl) dX0_drift_153
  · replace hf := (if_pos hc19).symm.trans hf
    refine J.ldcw q751 dX0_drift_128 ?_
    refine J.goto (tgt := 153) dX0_drift_131 (by decide) ?_
    obtain ⟨rfl, rfl⟩ := jso hf
    exact J.iret hE (Nat.le_of_ble_eq_true rfl) (Nat.le_of_ble_eq_true rfl) dX0_drift_153
set_option maxHeartbeats 4000000 in
set_option maxRecDepth 100000 in
theorem w_X0_drift_j117 {D : va_G} {l : Launch} {X : jX} {hp0 hpE : jH} {rE : Int32} (hDl : jDl X D l) (hRm : jRoom X rm_X0_drift.frames rm_X0_drift.locals rm_X0_drift.cells rm_X0_drift.slots) (hE : jEnds X (some .int) (some (.int rE)) hpE rm_X0_drift.cells rm_X0_drift.slots) (hX0 : jX0 X hp0) {K41 : Nat → Int32 → Nat → Int32 → Int32 → Int32 → jH → Option (Int32 × jH)} (hK41 : ∀ (xa_0 : Nat) (xi_2 : Int32) (xa_3 : Nat) (xi_4 : Int32) (xi_5 : Int32) (xi_6 : Int32) (hp : jH), K41 xa_0 xi_2 xa_3 xi_4 xi_5 xi_6 hp = some (rE, hpE) → J X cX0_drift 8 yX0_drift 0 0 41 [some (.ref xa_0), none, some (.int xi_2), some (.ref xa_3), some (.int xi_4), some (.int xi_5), some (.int xi_6), none] [] hp) {xa_0 : Nat} {xi_2 : Int32} {xa_3 : Nat} {xi_4 : Int32} {xi_5 : Int32} {xi_6 : Int32} {hp : jH} (hf : f_X0_drift_j117 K41 xa_0 xi_2 xa_3 xi_4 xi_5 xi_6 hp = some (rE, hpE)) : J X cX0_drift 8 yX0_drift 0 0 117 [some (.ref xa_0), none, some (.int xi_2), some (.ref xa_3), some (.int xi_4), some (.int xi_5), some (.int xi_6), none] [] hp := by
  rw [f_X0_drift_j117] at hf
  refine J.iinc (i := 6) (v := (xi_6 + 1)) (lv' := [some (.ref xa_0), none, some (.int xi_2), some (.ref xa_3), some (.int xi_4), some (.int xi_5), some (.int (xi_6 + 1)), none]) dX0_drift_117 rfl rfl (Nat.le_of_ble_eq_true rfl) rfl ?_
  refine J.goto (tgt := 41) dX0_drift_120 (by decide) ?_
  exact hK41 _ _ _ _ _ _ _ hf
set_option maxHeartbeats 4000000 in
set_option maxRecDepth 100000 in
theorem w_X0_drift_L41 {D : va_G} {l : Launch} {X : jX} {hp0 hpE : jH} {rE : Int32} (hDl : jDl X D l) (hRm : jRoom X rm_X0_drift.frames rm_X0_drift.locals rm_X0_drift.cells rm_X0_drift.slots) (hE : jEnds X (some .int) (some (.int rE)) hpE rm_X0_drift.cells rm_X0_drift.slots) (hX0 : jX0 X hp0) : ∀ (N : Nat) (xa_0 : Nat) (xi_2 : Int32) (xa_3 : Nat) (xi_4 : Int32) (xi_5 : Int32) (xi_6 : Int32) (hp : jH), f_X0_drift_L41 N xa_0 xi_2 xa_3 xi_4 xi_5 xi_6 hp = some (rE, hpE) → J X cX0_drift 8 yX0_drift 0 0 41 [some (.ref xa_0), none, some (.int xi_2), some (.ref xa_3), some (.int xi_4), some (.int xi_5), some (.int xi_6), none] [] hp := by
  intro N
  induction N with
  | zero =>
    intro xa_0 xi_2 xa_3 xi_4 xi_5 xi_6 hp hf
    rw [f_X0_drift_L41] at hf
    cases hf
  | succ N ih41 =>
    intro xa_0 xi_2 xa_3 xi_4 xi_5 xi_6 hp hf
    rw [f_X0_drift_L41] at hf
    refine J.iload dX0_drift_41 rfl ?_
    refine J.iload_n (i := 2) dX0_drift_43 rfl rfl ?_
    refine J.icmp_gt (tgt := 123) dX0_drift_44 (by decide) (fun hc18 => ?_) (fun hc18 => ?_)
    · replace hf := (if_pos hc18).symm.trans hf
      refine J.mask (lv' := [none, none, none, none, some (.int xi_4), some (.int xi_5), none, none]) [false, false, false, false, true, true, false, false] rfl ?_
      exact w_X0_drift_j123 hDl hRm hE hX0 hf
    · replace hf := (if_neg hc18).symm.trans hf
      refine J.aload_n (i := 3) dX0_drift_47 rfl rfl ?_
      replace hf := jbd hf
      obtain ⟨r25, h24, hf⟩ := hf
      cases r25 with
      | none =>
        refine J.getRn 3 1 in_X4 rfl (Nat.le_of_ble_eq_true rfl) (Or.inr ⟨_, q137⟩) (Or.inl rfl) h24 dX0_drift_48 ?_
        refine J.ifnullN (tgt := 123) dX0_drift_51 (by decide) ?_
        refine J.mask (lv' := [none, none, none, none, some (.int xi_4), some (.int xi_5), none, none]) [false, false, false, false, true, true, false, false] rfl ?_
        exact w_X0_drift_j123 hDl hRm hE hX0 hf
      | some a23 =>
        refine J.getRs 3 1 in_X4 rfl (Nat.le_of_ble_eq_true rfl) (Or.inr ⟨_, q137⟩) (Or.inl rfl) h24 dX0_drift_48 ?_
        refine J.ifnullR dX0_drift_51 ?_
        refine J.iload dX0_drift_54 rfl ?_
        refine J.aload_n (i := 3) dX0_drift_56 rfl rfl ?_
        replace hf := jbd hf
        obtain ⟨u26, h27, hf⟩ := hf
        replace hf := jbs hf
        obtain ⟨v30, hp29, h28, hf⟩ := hf
        refine J.callV (As := []) (k2 := 0) (n2 := 0) 3 hDl hRm (w_X4_size h28) (lw_V q738 q739 q740 q43 q741) hd_X4_size rfl ⟨_, h27⟩ rfl (Nat.le_of_ble_eq_true rfl) (Nat.le_of_ble_eq_true rfl) (Nat.le_of_ble_eq_true rfl) (Nat.le_of_ble_eq_true rfl) (Nat.le_of_ble_eq_true rfl) (Nat.le_of_ble_eq_true rfl) (Nat.le_of_ble_eq_true rfl) rfl dX0_drift_57 ?_
        refine J.icmp_ge (tgt := 123) dX0_drift_60 (by decide) (fun hc31 => ?_) (fun hc31 => ?_)
        · replace hf := (if_pos hc31).symm.trans hf
          refine J.mask (lv' := [none, none, none, none, some (.int xi_4), some (.int xi_5), none, none]) [false, false, false, false, true, true, false, false] rfl ?_
          exact w_X0_drift_j123 hDl hRm hE hX0 hf
        · replace hf := (if_neg hc31).symm.trans hf
          refine J.aload_n (i := 3) dX0_drift_63 rfl rfl ?_
          replace hf := jbd hf
          obtain ⟨a32, h33, hf⟩ := hf
          refine J.getA 3 1 in_X4 rfl (Nat.le_of_ble_eq_true rfl) (Or.inr ⟨_, q137⟩) (Or.inl rfl) h33 dX0_drift_64 ?_
          refine J.aload_n (i := 3) dX0_drift_67 rfl rfl ?_
          replace hf := jbd hf
          obtain ⟨v34, h35, hf⟩ := hf
          refine J.getI 3 0 in_X4 rfl (Nat.le_of_ble_eq_true rfl) (Or.inr ⟨_, q135⟩) (Or.inl rfl) h35 dX0_drift_68 ?_
          refine J.iload dX0_drift_71 rfl ?_
          replace hf := jbs hf
          obtain ⟨v38, hp37, h36, hf⟩ := hf
          refine J.callS (As := [.ref a32, .int v34, .int xi_6]) (k2 := 0) (n2 := 0) hDl hRm (w_X0_item h36) (lw_S q745 q746 q39 q747) hs_X0_item rfl (Nat.le_of_ble_eq_true rfl) (Nat.le_of_ble_eq_true rfl) (Nat.le_of_ble_eq_true rfl) (Nat.le_of_ble_eq_true rfl) (Nat.le_of_ble_eq_true rfl) (Nat.le_of_ble_eq_true rfl) (Nat.le_of_ble_eq_true rfl) rfl dX0_drift_73 ?_
          refine J.istore (i := 7) (lv' := [some (.ref xa_0), none, some (.int xi_2), some (.ref xa_3), some (.int xi_4), some (.int xi_5), some (.int xi_6), some (.int v38)]) dX0_drift_76 (Nat.le_of_ble_eq_true rfl) rfl ?_
          refine J.iload dX0_drift_78 rfl ?_
          refine J.iconst (v := 1) dX0_drift_80 (by decide) ?_
          refine J.sipush (v := 20000) dX0_drift_81 (by decide) ?_
          replace hf := jbs hf
          obtain ⟨v41, hp40, h39, hf⟩ := hf
          refine J.callS (As := [.int v38, .int 1, .int 20000]) (k2 := 0) (n2 := 0) hDl hRm (w_X0_in h39) (lw_S q234 q235 q39 q236) hs_X0_in rfl (Nat.le_of_ble_eq_true rfl) (Nat.le_of_ble_eq_true rfl) (Nat.le_of_ble_eq_true rfl) (Nat.le_of_ble_eq_true rfl) (Nat.le_of_ble_eq_true rfl) (Nat.le_of_ble_eq_true rfl) (Nat.le_of_ble_eq_true rfl) rfl dX0_drift_84 ?_
          refine J.if_eq (tgt := 117) dX0_drift_87 (by decide) (fun hc42 => ?_) (fun hc42 => ?_)
          · replace hf := (if_pos hc42).symm.trans hf
            refine J.mask (lv' := [some (.ref xa_0), none, some (.int xi_2), some (.ref xa_3), some (.int xi_4), some (.int xi_5), some (.int xi_6), none]) [true, false, true, true, true, true, true, false] rfl ?_
            exact w_X0_drift_j117 hDl hRm hE hX0 (fun z0 z1 z2 z3 z4 z5 z6 hz => ih41 z0 z1 z2 z3 z4 z5 z6 hz) hf
          · replace hf := (if_neg hc42).symm.trans hf
            refine J.iload dX0_drift_90 rfl ?_
            refine J.iload dX0_drift_92 rfl ?_
            refine J.aload_n (i := 0) dX0_drift_94 rfl rfl ?_
            replace hf := jbd hf
            obtain ⟨a43, h44, hf⟩ := hf
            refine J.getA 0 9 in_X0 rfl (Nat.le_of_ble_eq_true rfl) (Or.inl q154) (Or.inl rfl) h44 dX0_drift_95 ?_
            refine J.iload dX0_drift_98 rfl ?_
            replace hf := jbd hf
            obtain ⟨a45, h46, hf⟩ := hf
            refine J.aaldA h46 dX0_drift_100 ?_
            replace hf := jbd hf
            obtain ⟨a47, h48, hf⟩ := hf
            refine J.getA 7 0 in_X8 rfl (Nat.le_of_ble_eq_true rfl) (Or.inr ⟨_, q383⟩) (Or.inl rfl) h48 dX0_drift_101 ?_
            replace hf := jbd hf
            obtain ⟨a49, h50, hf⟩ := hf
            refine J.getA 6 0 in_X7 rfl (Nat.le_of_ble_eq_true rfl) (Or.inr ⟨_, q303⟩) (Or.inl rfl) h50 dX0_drift_104 ?_
            replace hf := jbd hf
            obtain ⟨v51, h52, hf⟩ := hf
            refine J.getI 4 3 in_X6 rfl (Nat.le_of_ble_eq_true rfl) (Or.inr ⟨_, q275⟩) (Or.inl rfl) h52 dX0_drift_107 ?_
            refine J.isub dX0_drift_110 ?_
            refine J.iadd dX0_drift_111 ?_
            refine J.istore (i := 4) (lv' := [some (.ref xa_0), none, some (.int xi_2), some (.ref xa_3), some (.int (xi_4 + (v38 - v51))), some (.int xi_5), some (.int xi_6), some (.int v38)]) dX0_drift_112 (Nat.le_of_ble_eq_true rfl) rfl ?_
            refine J.iinc (i := 5) (v := (xi_5 + 1)) (lv' := [some (.ref xa_0), none, some (.int xi_2), some (.ref xa_3), some (.int (xi_4 + (v38 - v51))), some (.int (xi_5 + 1)), some (.int xi_6), some (.int v38)]) dX0_drift_114 rfl rfl (Nat.le_of_ble_eq_true rfl) rfl ?_
            refine J.mask (lv' := [some (.ref xa_0), none, some (.int xi_2), some (.ref xa_3), some (.int (xi_4 + (v38 - v51))), some (.int (xi_5 + 1)), some (.int xi_6), none]) [true, false, true, true, true, true, true, false] rfl ?_
            exact w_X0_drift_j117 hDl hRm hE hX0 (fun z0 z1 z2 z3 z4 z5 z6 hz => ih41 z0 z1 z2 z3 z4 z5 z6 hz) hf
set_option maxHeartbeats 4000000 in
set_option maxRecDepth 100000 in
theorem w_X0_drift {D : va_G} {l : Launch} {hp hpE : jH} {rE : Int32} {this : Nat} {p1 : Int32} {p2 : Int32} (hf : f_X0_drift this p1 p2 hp = some (rE, hpE)) : jM D l yX0_drift (ws_ yX0_drift cX0_drift 8 (some .int)) rm_X0_drift hp [.ref this, .int p1, .int p2] (some (.int rE)) hpE := by
  refine jM.of (lv0 := [some (.ref this), some (.int p1), some (.int p2), none, none, none, none, none]) (by decide) (Nat.le_of_ble_eq_true rfl) rfl (fun X hDl hRm hE hX0 => ?_)
  rw [f_X0_drift] at hf
  refine J.aload_n (i := 0) dX0_drift_0 rfl rfl ?_
  refine J.iload_n (i := 1) dX0_drift_1 rfl rfl ?_
  replace hf := jbd hf
  obtain ⟨u1, h2, hf⟩ := hf
  replace hf := jbs hf
  obtain ⟨v5, hp4, h3, hf⟩ := hf
  refine J.callV (As := [.int p1]) (k2 := 0) (n2 := 0) 0 hDl hRm (w_X0_isBar h3) (lw_V q477 q479 qs7 q39 q480) hd_X0_isBar rfl ⟨_, h2⟩ rfl (Nat.le_of_ble_eq_true rfl) (Nat.le_of_ble_eq_true rfl) (Nat.le_of_ble_eq_true rfl) (Nat.le_of_ble_eq_true rfl) (Nat.le_of_ble_eq_true rfl) (Nat.le_of_ble_eq_true rfl) (Nat.le_of_ble_eq_true rfl) rfl dX0_drift_2 ?_
  refine J.if_eq (tgt := 21) dX0_drift_5 (by decide) (fun hc6 => ?_) (fun hc6 => ?_)
  · replace hf := (if_pos hc6).symm.trans hf
    refine J.ldcw q737 dX0_drift_21 ?_
    obtain ⟨rfl, rfl⟩ := jso hf
    exact J.iret hE (Nat.le_of_ble_eq_true rfl) (Nat.le_of_ble_eq_true rfl) dX0_drift_24
  · replace hf := (if_neg hc6).symm.trans hf
    refine J.aload_n (i := 0) dX0_drift_8 rfl rfl ?_
    refine J.iload_n (i := 2) dX0_drift_9 rfl rfl ?_
    replace hf := jbd hf
    obtain ⟨u7, h8, hf⟩ := hf
    replace hf := jbs hf
    obtain ⟨v11, hp10, h9, hf⟩ := hf
    refine J.callV (As := [.int p2]) (k2 := 0) (n2 := 0) 0 hDl hRm (w_X0_isBar h9) (lw_V q477 q479 qs7 q39 q480) hd_X0_isBar rfl ⟨_, h8⟩ rfl (Nat.le_of_ble_eq_true rfl) (Nat.le_of_ble_eq_true rfl) (Nat.le_of_ble_eq_true rfl) (Nat.le_of_ble_eq_true rfl) (Nat.le_of_ble_eq_true rfl) (Nat.le_of_ble_eq_true rfl) (Nat.le_of_ble_eq_true rfl) rfl dX0_drift_10 ?_
    refine J.if_eq (tgt := 21) dX0_drift_13 (by decide) (fun hc12 => ?_) (fun hc12 => ?_)
    · replace hf := (if_pos hc12).symm.trans hf
      refine J.ldcw q737 dX0_drift_21 ?_
      obtain ⟨rfl, rfl⟩ := jso hf
      exact J.iret hE (Nat.le_of_ble_eq_true rfl) (Nat.le_of_ble_eq_true rfl) dX0_drift_24
    · replace hf := (if_neg hc12).symm.trans hf
      refine J.iload_n (i := 1) dX0_drift_16 rfl rfl ?_
      refine J.iload_n (i := 2) dX0_drift_17 rfl rfl ?_
      refine J.icmp_le (tgt := 25) dX0_drift_18 (by decide) (fun hc13 => ?_) (fun hc13 => ?_)
      · replace hf := (if_pos hc13).symm.trans hf
        refine J.aload_n (i := 0) dX0_drift_25 rfl rfl ?_
        replace hf := jbd hf
        obtain ⟨a14, h15, hf⟩ := hf
        refine J.getA 0 26 in_X0 rfl (Nat.le_of_ble_eq_true rfl) (Or.inl q171) (Or.inl rfl) h15 dX0_drift_26 ?_
        refine J.iconst (v := 0) dX0_drift_29 (by decide) ?_
        replace hf := jbd hf
        obtain ⟨a16, h17, hf⟩ := hf
        refine J.aaldA h17 dX0_drift_30 ?_
        refine J.astore_n (i := 3) (lv' := [some (.ref this), some (.int p1), some (.int p2), some (.ref a16), none, none, none, none]) dX0_drift_31 rfl (Nat.le_of_ble_eq_true rfl) rfl ?_
        refine J.iconst (v := 0) dX0_drift_32 (by decide) ?_
        refine J.istore (i := 4) (lv' := [some (.ref this), some (.int p1), some (.int p2), some (.ref a16), some (.int 0), none, none, none]) dX0_drift_33 (Nat.le_of_ble_eq_true rfl) rfl ?_
        refine J.iconst (v := 0) dX0_drift_35 (by decide) ?_
        refine J.istore (i := 5) (lv' := [some (.ref this), some (.int p1), some (.int p2), some (.ref a16), some (.int 0), some (.int 0), none, none]) dX0_drift_36 (Nat.le_of_ble_eq_true rfl) rfl ?_
        refine J.iload_n (i := 1) dX0_drift_38 rfl rfl ?_
        refine J.istore (i := 6) (lv' := [some (.ref this), some (.int p1), some (.int p2), some (.ref a16), some (.int 0), some (.int 0), some (.int p1), none]) dX0_drift_39 (Nat.le_of_ble_eq_true rfl) rfl ?_
        refine J.mask (lv' := [some (.ref this), none, some (.int p2), some (.ref a16), some (.int 0), some (.int 0), some (.int p1), none]) [true, false, true, true, true, true, true, false] rfl ?_
        exact w_X0_drift_L41 hDl hRm hE hX0 _ _ _ _ _ _ _ _ hf
      · replace hf := (if_neg hc13).symm.trans hf
        refine J.ldcw q737 dX0_drift_21 ?_
        obtain ⟨rfl, rfl⟩ := jso hf
        exact J.iret hE (Nat.le_of_ble_eq_true rfl) (Nat.le_of_ble_eq_true rfl) dX0_drift_24
def rm_X0_lose : Room := { frames := 2, cells := 0, slots := 0, locals := 42 }
theorem hd_X0_lose : yX0_lose.cls = RX0 ∧ yX0_lose.cls ≠ "java/lang/invoke/MethodHandle" ∧ yX0_lose.cls ≠ "java/lang/invoke/VarHandle" ∧ (parseMethodDescriptor yX0_lose.desc).map (fun d => d.parameters.length) = some 1 := by decide +kernel
set_option maxHeartbeats 4000000 in
set_option maxRecDepth 100000 in
theorem w_X0_lose {D : va_G} {l : Launch} {hp hpE : jH} {rE : Int32} {this : Nat} {p1 : Int32} (hf : f_X0_lose this p1 hp = some (rE, hpE)) : jM D l yX0_lose (ws_ yX0_lose cX0_lose 3 (some .int)) rm_X0_lose hp [.ref this, .int p1] (some (.int rE)) hpE := by
  refine jM.of (lv0 := [some (.ref this), some (.int p1), none]) (by decide) (Nat.le_of_ble_eq_true rfl) rfl (fun X hDl hRm hE hX0 => ?_)
  rw [f_X0_lose] at hf
  refine J.iload_n (i := 1) dX0_lose_0 rfl rfl ?_
  replace hf := jbs hf
  obtain ⟨v3, hp2, h1, hf⟩ := hf
  refine J.callS (As := [.int p1]) (k2 := 0) (n2 := 0) hDl hRm (w_X0_isSheet h1) (lw_S q770 q771 q39 q772) hs_X0_isSheet rfl (Nat.le_of_ble_eq_true rfl) (Nat.le_of_ble_eq_true rfl) (Nat.le_of_ble_eq_true rfl) (Nat.le_of_ble_eq_true rfl) (Nat.le_of_ble_eq_true rfl) (Nat.le_of_ble_eq_true rfl) (Nat.le_of_ble_eq_true rfl) rfl dX0_lose_1 ?_
  refine J.if_ne (tgt := 10) dX0_lose_4 (by decide) (fun hc4 => ?_) (fun hc4 => ?_)
  · replace hf := (if_neg hc4).symm.trans hf
    refine J.aload_n (i := 0) dX0_lose_10 rfl rfl ?_
    replace hf := jbd hf
    obtain ⟨a5, h6, hf⟩ := hf
    refine J.getA 0 26 in_X0 rfl (Nat.le_of_ble_eq_true rfl) (Or.inl q171) (Or.inl rfl) h6 dX0_lose_11 ?_
    refine J.iload_n (i := 1) dX0_lose_14 rfl rfl ?_
    replace hf := jbd hf
    obtain ⟨a7, h8, hf⟩ := hf
    refine J.aaldA h8 dX0_lose_15 ?_
    replace hf := jbd hf
    obtain ⟨r11, h10, hf⟩ := hf
    cases r11 with
    | none =>
      refine J.getRn 3 1 in_X4 rfl (Nat.le_of_ble_eq_true rfl) (Or.inr ⟨_, q137⟩) (Or.inl rfl) h10 dX0_lose_16 ?_
      refine J.ifnonnullN dX0_lose_19 ?_
      refine J.aload_n (i := 0) dX0_lose_22 rfl rfl ?_
      refine J.iconst (v := 1) dX0_lose_23 (by decide) ?_
      replace hf := jbd hf
      obtain ⟨u12, h13, hf⟩ := hf
      replace hf := jbs hf
      obtain ⟨v16, hp15, h14, hf⟩ := hf
      refine J.callV (As := [.int 1]) (k2 := 0) (n2 := 0) 0 hDl hRm (w_X0_meets h14) (lw_V q776 q778 qs19 q39 q779) hd_X0_meets rfl ⟨_, h13⟩ rfl (Nat.le_of_ble_eq_true rfl) (Nat.le_of_ble_eq_true rfl) (Nat.le_of_ble_eq_true rfl) (Nat.le_of_ble_eq_true rfl) (Nat.le_of_ble_eq_true rfl) (Nat.le_of_ble_eq_true rfl) (Nat.le_of_ble_eq_true rfl) rfl dX0_lose_24 ?_
      obtain ⟨rfl, rfl⟩ := jso hf
      exact J.iret hE (Nat.le_of_ble_eq_true rfl) (Nat.le_of_ble_eq_true rfl) dX0_lose_27
    | some a9 =>
      refine J.getRs 3 1 in_X4 rfl (Nat.le_of_ble_eq_true rfl) (Or.inr ⟨_, q137⟩) (Or.inl rfl) h10 dX0_lose_16 ?_
      refine J.ifnonnullR (tgt := 28) dX0_lose_19 (by decide) ?_
      refine J.aload_n (i := 0) dX0_lose_28 rfl rfl ?_
      replace hf := jbd hf
      obtain ⟨a17, h18, hf⟩ := hf
      refine J.getA 0 26 in_X0 rfl (Nat.le_of_ble_eq_true rfl) (Or.inl q171) (Or.inl rfl) h18 dX0_lose_29 ?_
      refine J.iload_n (i := 1) dX0_lose_32 rfl rfl ?_
      replace hf := jbd hf
      obtain ⟨a19, h20, hf⟩ := hf
      refine J.aaldA h20 dX0_lose_33 ?_
      replace hf := jbd hf
      obtain ⟨u21, h22, hf⟩ := hf
      replace hf := jbs hf
      obtain ⟨v25, hp24, h23, hf⟩ := hf
      refine J.callV (As := []) (k2 := 0) (n2 := 0) 3 hDl hRm (w_X4_size h23) (lw_V q738 q739 q740 q43 q741) hd_X4_size rfl ⟨_, h22⟩ rfl (Nat.le_of_ble_eq_true rfl) (Nat.le_of_ble_eq_true rfl) (Nat.le_of_ble_eq_true rfl) (Nat.le_of_ble_eq_true rfl) (Nat.le_of_ble_eq_true rfl) (Nat.le_of_ble_eq_true rfl) (Nat.le_of_ble_eq_true rfl) rfl dX0_lose_34 ?_
      refine J.istore_n (i := 2) (lv' := [some (.ref this), some (.int p1), some (.int v25)]) dX0_lose_37 rfl (Nat.le_of_ble_eq_true rfl) rfl ?_
      refine J.aload_n (i := 0) dX0_lose_38 rfl rfl ?_
      replace hf := jbd hf
      obtain ⟨a26, h27, hf⟩ := hf
      refine J.getA 0 26 in_X0 rfl (Nat.le_of_ble_eq_true rfl) (Or.inl q171) (Or.inl rfl) h27 dX0_lose_39 ?_
      refine J.iload_n (i := 1) dX0_lose_42 rfl rfl ?_
      replace hf := jbd hf
      obtain ⟨a28, h29, hf⟩ := hf
      refine J.aaldA h29 dX0_lose_43 ?_
      refine J.null dX0_lose_44 ?_
      replace hf := jbd hf
      obtain ⟨hp30, h31, hf⟩ := hf
      refine J.put (ty := (.object "java/lang/Object")) 3 1 in_X4 ap3 rfl (Nat.le_of_ble_eq_true rfl) (Or.inr ⟨_, q137⟩) (Or.inl rfl) rfl (by decide +kernel) (fun _ => ⟨rfl, rfl⟩) h31 dX0_lose_45 ?_
      refine J.iload_n (i := 2) dX0_lose_48 rfl rfl ?_
      obtain ⟨rfl, rfl⟩ := jso hf
      exact J.iret hE (Nat.le_of_ble_eq_true rfl) (Nat.le_of_ble_eq_true rfl) dX0_lose_49
  · replace hf := (if_pos hc4).symm.trans hf
    refine J.bipush (v := (-2)) dX0_lose_7 (by decide) ?_
    obtain ⟨rfl, rfl⟩ := jso hf
    exact J.iret hE (Nat.le_of_ble_eq_true rfl) (Nat.le_of_ble_eq_true rfl) dX0_lose_9
def rm_X0_waiting : Room := { frames := 0, cells := 0, slots := 0, locals := 0 }
theorem hd_X0_waiting : yX0_waiting.cls = RX0 ∧ yX0_waiting.cls ≠ "java/lang/invoke/MethodHandle" ∧ yX0_waiting.cls ≠ "java/lang/invoke/VarHandle" ∧ (parseMethodDescriptor yX0_waiting.desc).map (fun d => d.parameters.length) = some 0 := by decide +kernel
set_option maxHeartbeats 4000000 in
set_option maxRecDepth 100000 in
theorem w_X0_waiting_j43 {D : va_G} {l : Launch} {X : jX} {hp0 hpE : jH} {rE : Int32} (hDl : jDl X D l) (hRm : jRoom X rm_X0_waiting.frames rm_X0_waiting.locals rm_X0_waiting.cells rm_X0_waiting.slots) (hE : jEnds X (some .int) (some (.int rE)) hpE rm_X0_waiting.cells rm_X0_waiting.slots) (hX0 : jX0 X hp0) {K4 : Nat → Int32 → Int32 → jH → Option (Int32 × jH)} (hK4 : ∀ (xa_0 : Nat) (xi_1 : Int32) (xi_2 : Int32) (hp : jH), K4 xa_0 xi_1 xi_2 hp = some (rE, hpE) → J X cX0_waiting 3 yX0_waiting 0 0 4 [some (.ref xa_0), some (.int xi_1), some (.int xi_2)] [] hp) {xa_0 : Nat} {xi_2 : Int32} {xi_s0 : Int32} {xi_s1 : Int32} {hp : jH} (hf : f_X0_waiting_j43 K4 xa_0 xi_2 xi_s0 xi_s1 hp = some (rE, hpE)) : J X cX0_waiting 3 yX0_waiting 0 0 43 [some (.ref xa_0), none, some (.int xi_2)] [.int xi_s1, .int xi_s0] hp := by
  rw [f_X0_waiting_j43] at hf
  refine J.iadd dX0_waiting_43 ?_
  refine J.istore_n (i := 1) (lv' := [some (.ref xa_0), some (.int (xi_s0 + xi_s1)), some (.int xi_2)]) dX0_waiting_44 rfl (Nat.le_of_ble_eq_true rfl) rfl ?_
  refine J.iinc (i := 2) (v := (xi_2 + 1)) (lv' := [some (.ref xa_0), some (.int (xi_s0 + xi_s1)), some (.int (xi_2 + 1))]) dX0_waiting_45 rfl rfl (Nat.le_of_ble_eq_true rfl) rfl ?_
  refine J.goto (tgt := 4) dX0_waiting_48 (by decide) ?_
  exact hK4 _ _ _ _ hf
set_option maxHeartbeats 4000000 in
set_option maxRecDepth 100000 in
theorem w_X0_waiting_j42 {D : va_G} {l : Launch} {X : jX} {hp0 hpE : jH} {rE : Int32} (hDl : jDl X D l) (hRm : jRoom X rm_X0_waiting.frames rm_X0_waiting.locals rm_X0_waiting.cells rm_X0_waiting.slots) (hE : jEnds X (some .int) (some (.int rE)) hpE rm_X0_waiting.cells rm_X0_waiting.slots) (hX0 : jX0 X hp0) {K4 : Nat → Int32 → Int32 → jH → Option (Int32 × jH)} (hK4 : ∀ (xa_0 : Nat) (xi_1 : Int32) (xi_2 : Int32) (hp : jH), K4 xa_0 xi_1 xi_2 hp = some (rE, hpE) → J X cX0_waiting 3 yX0_waiting 0 0 4 [some (.ref xa_0), some (.int xi_1), some (.int xi_2)] [] hp) {xa_0 : Nat} {xi_2 : Int32} {xi_s0 : Int32} {hp : jH} (hf : f_X0_waiting_j42 K4 xa_0 xi_2 xi_s0 hp = some (rE, hpE)) : J X cX0_waiting 3 yX0_waiting 0 0 42 [some (.ref xa_0), none, some (.int xi_2)] [.int xi_s0] hp := by
  rw [f_X0_waiting_j42] at hf
  refine J.iconst (v := 0) dX0_waiting_42 (by decide) ?_
  exact w_X0_waiting_j43 hDl hRm hE hX0 hK4 hf
set_option maxHeartbeats 4000000 in
set_option maxRecDepth 100000 in
theorem w_X0_waiting_L4 {D : va_G} {l : Launch} {X : jX} {hp0 hpE : jH} {rE : Int32} (hDl : jDl X D l) (hRm : jRoom X rm_X0_waiting.frames rm_X0_waiting.locals rm_X0_waiting.cells rm_X0_waiting.slots) (hE : jEnds X (some .int) (some (.int rE)) hpE rm_X0_waiting.cells rm_X0_waiting.slots) (hX0 : jX0 X hp0) : ∀ (N : Nat) (xa_0 : Nat) (xi_1 : Int32) (xi_2 : Int32) (hp : jH), f_X0_waiting_L4 N xa_0 xi_1 xi_2 hp = some (rE, hpE) → J X cX0_waiting 3 yX0_waiting 0 0 4 [some (.ref xa_0), some (.int xi_1), some (.int xi_2)] [] hp := by
  intro N
  induction N with
  | zero =>
    intro xa_0 xi_1 xi_2 hp hf
    rw [f_X0_waiting_L4] at hf
    cases hf
  | succ N ih4 =>
    intro xa_0 xi_1 xi_2 hp hf
    rw [f_X0_waiting_L4] at hf
    refine J.iload_n (i := 2) dX0_waiting_4 rfl rfl ?_
    refine J.aload_n (i := 0) dX0_waiting_5 rfl rfl ?_
    replace hf := jbd hf
    obtain ⟨v1, h2, hf⟩ := hf
    refine J.getI 0 10 in_X0 rfl (Nat.le_of_ble_eq_true rfl) (Or.inl q155) (Or.inl rfl) h2 dX0_waiting_6 ?_
    refine J.icmp_ge (tgt := 51) dX0_waiting_9 (by decide) (fun hc3 => ?_) (fun hc3 => ?_)
    · replace hf := (if_pos hc3).symm.trans hf
      refine J.iload_n (i := 1) dX0_waiting_51 rfl rfl ?_
      obtain ⟨rfl, rfl⟩ := jso hf
      exact J.iret hE (Nat.le_of_ble_eq_true rfl) (Nat.le_of_ble_eq_true rfl) dX0_waiting_52
    · replace hf := (if_neg hc3).symm.trans hf
      refine J.iload_n (i := 1) dX0_waiting_12 rfl rfl ?_
      refine J.aload_n (i := 0) dX0_waiting_13 rfl rfl ?_
      replace hf := jbd hf
      obtain ⟨a4, h5, hf⟩ := hf
      refine J.getA 0 9 in_X0 rfl (Nat.le_of_ble_eq_true rfl) (Or.inl q154) (Or.inl rfl) h5 dX0_waiting_14 ?_
      refine J.iload_n (i := 2) dX0_waiting_17 rfl rfl ?_
      replace hf := jbd hf
      obtain ⟨a6, h7, hf⟩ := hf
      refine J.aaldA h7 dX0_waiting_18 ?_
      replace hf := jbd hf
      obtain ⟨v8, h9, hf⟩ := hf
      refine J.getI 7 3 in_X8 rfl (Nat.le_of_ble_eq_true rfl) (Or.inr ⟨_, q387⟩) (Or.inl rfl) h9 dX0_waiting_19 ?_
      refine J.if_le (tgt := 42) dX0_waiting_22 (by decide) (fun hc10 => ?_) (fun hc10 => ?_)
      · replace hf := (if_pos hc10).symm.trans hf
        refine J.mask (lv' := [some (.ref xa_0), none, some (.int xi_2)]) [true, false, true] rfl ?_
        exact w_X0_waiting_j42 hDl hRm hE hX0 (fun z0 z1 z2 z3 hz => ih4 z0 z1 z2 z3 hz) hf
      · replace hf := (if_neg hc10).symm.trans hf
        refine J.aload_n (i := 0) dX0_waiting_25 rfl rfl ?_
        replace hf := jbd hf
        obtain ⟨a11, h12, hf⟩ := hf
        refine J.getA 0 9 in_X0 rfl (Nat.le_of_ble_eq_true rfl) (Or.inl q154) (Or.inl rfl) h12 dX0_waiting_26 ?_
        refine J.iload_n (i := 2) dX0_waiting_29 rfl rfl ?_
        replace hf := jbd hf
        obtain ⟨a13, h14, hf⟩ := hf
        refine J.aaldA h14 dX0_waiting_30 ?_
        replace hf := jbd hf
        obtain ⟨v15, h16, hf⟩ := hf
        refine J.getI 7 6 in_X8 rfl (Nat.le_of_ble_eq_true rfl) (Or.inr ⟨_, q391⟩) (Or.inl rfl) h16 dX0_waiting_31 ?_
        refine J.iconst (v := (-1)) dX0_waiting_34 (by decide) ?_
        refine J.icmp_ne (tgt := 42) dX0_waiting_35 (by decide) (fun hc17 => ?_) (fun hc17 => ?_)
        · replace hf := (if_neg hc17).symm.trans hf
          refine J.mask (lv' := [some (.ref xa_0), none, some (.int xi_2)]) [true, false, true] rfl ?_
          exact w_X0_waiting_j42 hDl hRm hE hX0 (fun z0 z1 z2 z3 hz => ih4 z0 z1 z2 z3 hz) hf
        · replace hf := (if_pos hc17).symm.trans hf
          refine J.iconst (v := 1) dX0_waiting_38 (by decide) ?_
          refine J.goto (tgt := 43) dX0_waiting_39 (by decide) ?_
          refine J.mask (lv' := [some (.ref xa_0), none, some (.int xi_2)]) [true, false, true] rfl ?_
          exact w_X0_waiting_j43 hDl hRm hE hX0 (fun z0 z1 z2 z3 hz => ih4 z0 z1 z2 z3 hz) hf
set_option maxHeartbeats 4000000 in
set_option maxRecDepth 100000 in
theorem w_X0_waiting {D : va_G} {l : Launch} {hp hpE : jH} {rE : Int32} {this : Nat} (hf : f_X0_waiting this hp = some (rE, hpE)) : jM D l yX0_waiting (ws_ yX0_waiting cX0_waiting 3 (some .int)) rm_X0_waiting hp [.ref this] (some (.int rE)) hpE := by
  refine jM.of (lv0 := [some (.ref this), none, none]) (by decide) (Nat.le_of_ble_eq_true rfl) rfl (fun X hDl hRm hE hX0 => ?_)
  rw [f_X0_waiting] at hf
  refine J.iconst (v := 0) dX0_waiting_0 (by decide) ?_
  refine J.istore_n (i := 1) (lv' := [some (.ref this), some (.int 0), none]) dX0_waiting_1 rfl (Nat.le_of_ble_eq_true rfl) rfl ?_
  refine J.iconst (v := 0) dX0_waiting_2 (by decide) ?_
  refine J.istore_n (i := 2) (lv' := [some (.ref this), some (.int 0), some (.int 0)]) dX0_waiting_3 rfl (Nat.le_of_ble_eq_true rfl) rfl ?_
  exact w_X0_waiting_L4 hDl hRm hE hX0 _ _ _ _ _ hf
def rm_X0_count : Room := { frames := 1, cells := 0, slots := 0, locals := 22 }
theorem hd_X0_count : yX0_count.cls = RX0 ∧ yX0_count.cls ≠ "java/lang/invoke/MethodHandle" ∧ yX0_count.cls ≠ "java/lang/invoke/VarHandle" ∧ (parseMethodDescriptor yX0_count.desc).map (fun d => d.parameters.length) = some 1 := by decide +kernel
set_option maxHeartbeats 4000000 in
set_option maxRecDepth 100000 in
theorem w_X0_count {D : va_G} {l : Launch} {hp hpE : jH} {rE : Int32} {this : Nat} {p1 : Int32} (hf : f_X0_count this p1 hp = some (rE, hpE)) : jM D l yX0_count (ws_ yX0_count cX0_count 2 (some .int)) rm_X0_count hp [.ref this, .int p1] (some (.int rE)) hpE := by
  refine jM.of (lv0 := [some (.ref this), some (.int p1)]) (by decide) (Nat.le_of_ble_eq_true rfl) rfl (fun X hDl hRm hE hX0 => ?_)
  rw [f_X0_count] at hf
  refine J.iload_n (i := 1) dX0_count_0 rfl rfl ?_
  by_cases hc1 : p1 = (0 : Int32)
  · replace hf := (if_pos hc1).symm.trans hf
    refine J.tableIn (tgt := 48) dX0_count_1 (by rw [hc1]; decide) (by rw [hc1]; decide) (by rw [hc1]; rfl) (by decide) ?_
    refine J.aload_n (i := 0) dX0_count_48 rfl rfl ?_
    replace hf := jbd hf
    obtain ⟨v2, h3, hf⟩ := hf
    refine J.getI 0 1 in_X0 rfl (Nat.le_of_ble_eq_true rfl) (Or.inl q144) (Or.inl rfl) h3 dX0_count_49 ?_
    obtain ⟨rfl, rfl⟩ := jso hf
    exact J.iret hE (Nat.le_of_ble_eq_true rfl) (Nat.le_of_ble_eq_true rfl) dX0_count_52
  replace hf := (if_neg hc1).symm.trans hf
  by_cases hc4 : p1 = (1 : Int32)
  · replace hf := (if_pos hc4).symm.trans hf
    refine J.tableIn (tgt := 53) dX0_count_1 (by rw [hc4]; decide) (by rw [hc4]; decide) (by rw [hc4]; rfl) (by decide) ?_
    refine J.aload_n (i := 0) dX0_count_53 rfl rfl ?_
    replace hf := jbd hf
    obtain ⟨v5, h6, hf⟩ := hf
    refine J.getI 0 3 in_X0 rfl (Nat.le_of_ble_eq_true rfl) (Or.inl q146) (Or.inl rfl) h6 dX0_count_54 ?_
    obtain ⟨rfl, rfl⟩ := jso hf
    exact J.iret hE (Nat.le_of_ble_eq_true rfl) (Nat.le_of_ble_eq_true rfl) dX0_count_57
  replace hf := (if_neg hc4).symm.trans hf
  by_cases hc7 : p1 = (2 : Int32)
  · replace hf := (if_pos hc7).symm.trans hf
    refine J.tableIn (tgt := 58) dX0_count_1 (by rw [hc7]; decide) (by rw [hc7]; decide) (by rw [hc7]; rfl) (by decide) ?_
    refine J.aload_n (i := 0) dX0_count_58 rfl rfl ?_
    replace hf := jbd hf
    obtain ⟨v8, h9, hf⟩ := hf
    refine J.getI 0 4 in_X0 rfl (Nat.le_of_ble_eq_true rfl) (Or.inl q147) (Or.inl rfl) h9 dX0_count_59 ?_
    obtain ⟨rfl, rfl⟩ := jso hf
    exact J.iret hE (Nat.le_of_ble_eq_true rfl) (Nat.le_of_ble_eq_true rfl) dX0_count_62
  replace hf := (if_neg hc7).symm.trans hf
  by_cases hc10 : p1 = (3 : Int32)
  · replace hf := (if_pos hc10).symm.trans hf
    refine J.tableIn (tgt := 63) dX0_count_1 (by rw [hc10]; decide) (by rw [hc10]; decide) (by rw [hc10]; rfl) (by decide) ?_
    refine J.aload_n (i := 0) dX0_count_63 rfl rfl ?_
    replace hf := jbd hf
    obtain ⟨v11, h12, hf⟩ := hf
    refine J.getI 0 10 in_X0 rfl (Nat.le_of_ble_eq_true rfl) (Or.inl q155) (Or.inl rfl) h12 dX0_count_64 ?_
    obtain ⟨rfl, rfl⟩ := jso hf
    exact J.iret hE (Nat.le_of_ble_eq_true rfl) (Nat.le_of_ble_eq_true rfl) dX0_count_67
  replace hf := (if_neg hc10).symm.trans hf
  by_cases hc13 : p1 = (4 : Int32)
  · replace hf := (if_pos hc13).symm.trans hf
    refine J.tableIn (tgt := 68) dX0_count_1 (by rw [hc13]; decide) (by rw [hc13]; decide) (by rw [hc13]; rfl) (by decide) ?_
    refine J.aload_n (i := 0) dX0_count_68 rfl rfl ?_
    replace hf := jbd hf
    obtain ⟨v14, h15, hf⟩ := hf
    refine J.getI 0 18 in_X0 rfl (Nat.le_of_ble_eq_true rfl) (Or.inl q163) (Or.inl rfl) h15 dX0_count_69 ?_
    obtain ⟨rfl, rfl⟩ := jso hf
    exact J.iret hE (Nat.le_of_ble_eq_true rfl) (Nat.le_of_ble_eq_true rfl) dX0_count_72
  replace hf := (if_neg hc13).symm.trans hf
  by_cases hc16 : p1 = (5 : Int32)
  · replace hf := (if_pos hc16).symm.trans hf
    refine J.tableIn (tgt := 73) dX0_count_1 (by rw [hc16]; decide) (by rw [hc16]; decide) (by rw [hc16]; rfl) (by decide) ?_
    refine J.aload_n (i := 0) dX0_count_73 rfl rfl ?_
    replace hf := jbd hf
    obtain ⟨v17, h18, hf⟩ := hf
    refine J.getI 0 25 in_X0 rfl (Nat.le_of_ble_eq_true rfl) (Or.inl q170) (Or.inl rfl) h18 dX0_count_74 ?_
    obtain ⟨rfl, rfl⟩ := jso hf
    exact J.iret hE (Nat.le_of_ble_eq_true rfl) (Nat.le_of_ble_eq_true rfl) dX0_count_77
  replace hf := (if_neg hc16).symm.trans hf
  by_cases hc19 : p1 = (6 : Int32)
  · replace hf := (if_pos hc19).symm.trans hf
    refine J.tableIn (tgt := 78) dX0_count_1 (by rw [hc19]; decide) (by rw [hc19]; decide) (by rw [hc19]; rfl) (by decide) ?_
    refine J.aload_n (i := 0) dX0_count_78 rfl rfl ?_
    replace hf := jbd hf
    obtain ⟨v20, h21, hf⟩ := hf
    refine J.getI 0 27 in_X0 rfl (Nat.le_of_ble_eq_true rfl) (Or.inl q172) (Or.inl rfl) h21 dX0_count_79 ?_
    obtain ⟨rfl, rfl⟩ := jso hf
    exact J.iret hE (Nat.le_of_ble_eq_true rfl) (Nat.le_of_ble_eq_true rfl) dX0_count_82
  replace hf := (if_neg hc19).symm.trans hf
  by_cases hc22 : p1 = (7 : Int32)
  · replace hf := (if_pos hc22).symm.trans hf
    refine J.tableIn (tgt := 83) dX0_count_1 (by rw [hc22]; decide) (by rw [hc22]; decide) (by rw [hc22]; rfl) (by decide) ?_
    refine J.aload_n (i := 0) dX0_count_83 rfl rfl ?_
    replace hf := jbd hf
    obtain ⟨u23, h24, hf⟩ := hf
    replace hf := jbs hf
    obtain ⟨v27, hp26, h25, hf⟩ := hf
    refine J.callV (As := []) (k2 := 0) (n2 := 0) 0 hDl hRm (w_X0_waiting h25) (lw_V q846 q848 qs20 q39 q849) hd_X0_waiting rfl ⟨_, h24⟩ rfl (Nat.le_of_ble_eq_true rfl) (Nat.le_of_ble_eq_true rfl) (Nat.le_of_ble_eq_true rfl) (Nat.le_of_ble_eq_true rfl) (Nat.le_of_ble_eq_true rfl) (Nat.le_of_ble_eq_true rfl) (Nat.le_of_ble_eq_true rfl) rfl dX0_count_84 ?_
    obtain ⟨rfl, rfl⟩ := jso hf
    exact J.iret hE (Nat.le_of_ble_eq_true rfl) (Nat.le_of_ble_eq_true rfl) dX0_count_87
  replace hf := (if_neg hc22).symm.trans hf
  refine J.tableOut (tgt := 88) dX0_count_1 (by have ehc1 := lv_neT hc1 (show (0 : Int32).toInt = 0 from rfl); have ehc4 := lv_neT hc4 (show (1 : Int32).toInt = 1 from rfl); have ehc7 := lv_neT hc7 (show (2 : Int32).toInt = 2 from rfl); have ehc10 := lv_neT hc10 (show (3 : Int32).toInt = 3 from rfl); have ehc13 := lv_neT hc13 (show (4 : Int32).toInt = 4 from rfl); have ehc16 := lv_neT hc16 (show (5 : Int32).toInt = 5 from rfl); have ehc19 := lv_neT hc19 (show (6 : Int32).toInt = 6 from rfl); have ehc22 := lv_neT hc22 (show (7 : Int32).toInt = 7 from rfl); omega) (by decide) ?_
  refine J.bipush (v := (-2)) dX0_count_88 (by decide) ?_
  obtain ⟨rfl, rfl⟩ := jso hf
  exact J.iret hE (Nat.le_of_ble_eq_true rfl) (Nat.le_of_ble_eq_true rfl) dX0_count_90
def rm_X0_init : Room := { frames := 3, cells := 25, slots := 303, locals := 67 }
theorem hi_X0_init : yX0_init.name = "<init>" ∧ yX0_init.cls ≠ "java/lang/invoke/MethodHandle" ∧ yX0_init.cls ≠ "java/lang/invoke/VarHandle" ∧ (parseMethodDescriptor yX0_init.desc).map (fun d => d.parameters.length) = some 0 := by decide +kernel
set_option maxHeartbeats 4000000 in
set_option maxRecDepth 100000 in
theorem w_X0_init_L172 {D : va_G} {l : Launch} {X : jX} {hp0 hpE : jH} (hDl : jDl X D l) (hRm : jRoom X rm_X0_init.frames rm_X0_init.locals rm_X0_init.cells rm_X0_init.slots) (hE : jEnds X none none hpE rm_X0_init.cells rm_X0_init.slots) (hX0 : jX0 X hp0) : ∀ (N : Nat), N ≤ 5 → ∀ (xa_0 : Nat) (xi_1 : Int32) (hp : jH), f_X0_init_L172 N xa_0 xi_1 hp = some hpE → J X cX0_init 2 yX0_init (20 + 1 * (5 - N)) (293 + 2 * (5 - N)) 172 [some (.ref xa_0), some (.int xi_1)] [] hp := by
  intro N
  induction N with
  | zero =>
    intro hN xa_0 xi_1 hp hf
    rw [f_X0_init_L172] at hf
    cases hf
  | succ N ih172 =>
    intro hN xa_0 xi_1 hp hf
    rw [f_X0_init_L172] at hf
    refine J.iload_n (i := 1) dX0_init_172 rfl rfl ?_
    refine J.iconst (v := 4) dX0_init_173 (by decide) ?_
    refine J.icmp_ge (tgt := 196) dX0_init_174 (by decide) (fun hc75 => ?_) (fun hc75 => ?_)
    · replace hf := (if_pos hc75).symm.trans hf
      refine J.widen (k2 := 25) (n2 := 303) (by omega) (by omega) ?_
      obtain rfl := Option.some.inj hf
      exact J.vret hE (Nat.le_of_ble_eq_true rfl) (Nat.le_of_ble_eq_true rfl) dX0_init_196
    · replace hf := (if_neg hc75).symm.trans hf
      refine J.aload_n (i := 0) dX0_init_177 rfl rfl ?_
      replace hf := jbd hf
      obtain ⟨a76, h77, hf⟩ := hf
      refine J.getA 0 26 in_X0 rfl (Nat.le_of_ble_eq_true rfl) (Or.inl q171) (Or.inl rfl) h77 dX0_init_178 ?_
      refine J.iload_n (i := 1) dX0_init_181 rfl rfl ?_
      replace hf := jbd hf
      obtain ⟨hp78, h79, hf⟩ := hf
      refine J.new (fs := [.int 0, .null]) (k2 := (20 + 1 * (5 - N))) (n2 := (293 + 2 * (5 - N))) 3 hRm in_X4 tyX4 tyX4_ok rfl q127 q129 q43 (by decide +kernel) (fun _ => rfl) rfl (by first | omega | (simp only [rm_X0_init]; omega)) (by first | omega | (simp only [rm_X0_init]; omega)) (by first | omega | (simp only [rm_X0_init]; omega)) (by first | omega | (simp only [rm_X0_init]; omega)) h79 dX0_init_182 ?_
      refine J.dup dX0_init_185 rfl ?_
      replace hf := jbd hf
      obtain ⟨hp81, h80, hf⟩ := hf
      refine J.callIN (As := []) (k2 := (20 + 1 * (5 - N))) (n2 := (293 + 2 * (5 - N))) hDl hRm (w_X4_init h80) (lw_meth q132) q43 q130 q131 hi_X4_init rfl (Nat.le_of_ble_eq_true rfl) (Nat.le_of_ble_eq_true rfl) (by first | omega | (simp only [rm_X4_init, rm_X0_init]; omega)) (by first | omega | (simp only [rm_X4_init, rm_X0_init]; omega)) (by first | omega | (simp only [rm_X4_init, rm_X0_init]; omega)) (by first | omega | (simp only [rm_X4_init, rm_X0_init]; omega)) (Nat.le_of_ble_eq_true rfl) rfl dX0_init_186 ?_
      replace hf := jbd hf
      obtain ⟨hp82, h83, hf⟩ := hf
      refine J.aast (ci := 3) rfl (Or.inl rfl) h83 dX0_init_189 ?_
      refine J.iinc (i := 1) (v := (xi_1 + 1)) (lv' := [some (.ref xa_0), some (.int (xi_1 + 1))]) dX0_init_190 rfl rfl (Nat.le_of_ble_eq_true rfl) rfl ?_
      refine J.goto (tgt := 172) dX0_init_193 (by decide) ?_
      exact ih172 (by omega) _ _ _ hf
set_option maxHeartbeats 4000000 in
set_option maxRecDepth 100000 in
theorem w_X0_init {D : va_G} {l : Launch} {hp hpE : jH} {this : Nat} (hf : f_X0_init this hp = some hpE) : jM D l yX0_init (ws_ yX0_init cX0_init 2 none) rm_X0_init hp [.ref this] none hpE := by
  refine jM.of (lv0 := [some (.ref this), none]) (by decide) (Nat.le_of_ble_eq_true rfl) rfl (fun X hDl hRm hE hX0 => ?_)
  rw [f_X0_init] at hf
  refine J.aload_n (i := 0) dX0_init_0 rfl rfl ?_
  refine J.objInit hRm q72 q73 q74 (Nat.le_of_ble_eq_true rfl) (Nat.le_of_ble_eq_true rfl) dX0_init_1 ?_
  refine J.aload_n (i := 0) dX0_init_4 rfl rfl ?_
  refine J.bipush (v := 8) dX0_init_5 (by decide) ?_
  replace hf := jbd hf
  obtain ⟨hp1, h2, hf⟩ := hf
  refine J.newq (N := 8) (k2 := 1) (n2 := 8) hRm q75 q76 (by decide) (by decide) (Nat.le_of_ble_eq_true rfl) (Nat.le_of_ble_eq_true rfl) (Nat.le_of_ble_eq_true rfl) (Nat.le_of_ble_eq_true rfl) (Nat.le_of_ble_eq_true rfl) h2 dX0_init_7 ?_
  replace hf := jbd hf
  obtain ⟨hp3, h4, hf⟩ := hf
  refine J.putF (ty := (.array (.object "BilletBars$Profile"))) 0 0 in_X0 ap0 rfl (Nat.le_of_ble_eq_true rfl) q143 rfl rfl rfl rfl (by decide +kernel) (fun _ => ⟨rfl, rfl⟩) h4 dX0_init_10 ?_
  refine J.aload_n (i := 0) dX0_init_13 rfl rfl ?_
  refine J.bipush (v := 12) dX0_init_14 (by decide) ?_
  replace hf := jbd hf
  obtain ⟨hp5, h6, hf⟩ := hf
  refine J.newq (N := 12) (k2 := 2) (n2 := 20) hRm q77 q78 (by decide) (by decide) (Nat.le_of_ble_eq_true rfl) (Nat.le_of_ble_eq_true rfl) (Nat.le_of_ble_eq_true rfl) (Nat.le_of_ble_eq_true rfl) (Nat.le_of_ble_eq_true rfl) h6 dX0_init_16 ?_
  replace hf := jbd hf
  obtain ⟨hp7, h8, hf⟩ := hf
  refine J.putF (ty := (.array (.object "BilletBars$Die"))) 0 2 in_X0 ap0 rfl (Nat.le_of_ble_eq_true rfl) q145 rfl rfl rfl rfl (by decide +kernel) (fun _ => ⟨rfl, rfl⟩) h8 dX0_init_19 ?_
  refine J.aload_n (i := 0) dX0_init_22 rfl rfl ?_
  refine J.bipush (v := 6) dX0_init_23 (by decide) ?_
  replace hf := jbd hf
  obtain ⟨hp9, h10, hf⟩ := hf
  refine J.newaI (B := 6) (k2 := 3) (n2 := 26) hRm q105 rfl rfl rfl (by decide) (by decide) (Nat.le_refl _) (Nat.le_of_ble_eq_true rfl) (Nat.le_of_ble_eq_true rfl) (Nat.le_of_ble_eq_true rfl) (Nat.le_of_ble_eq_true rfl) (Nat.le_of_ble_eq_true rfl) h10 dX0_init_25 ?_
  refine J.dup dX0_init_27 rfl ?_
  refine J.iconst (v := 0) dX0_init_28 (by decide) ?_
  refine J.bipush (v := 20) dX0_init_29 (by decide) ?_
  replace hf := jbd hf
  obtain ⟨hp11, h12, hf⟩ := hf
  refine J.iast h12 dX0_init_31 ?_
  refine J.dup dX0_init_32 rfl ?_
  refine J.iconst (v := 1) dX0_init_33 (by decide) ?_
  refine J.sipush (v := 500) dX0_init_34 (by decide) ?_
  replace hf := jbd hf
  obtain ⟨hp13, h14, hf⟩ := hf
  refine J.iast h14 dX0_init_37 ?_
  refine J.dup dX0_init_38 rfl ?_
  refine J.iconst (v := 2) dX0_init_39 (by decide) ?_
  refine J.sipush (v := 300) dX0_init_40 (by decide) ?_
  replace hf := jbd hf
  obtain ⟨hp15, h16, hf⟩ := hf
  refine J.iast h16 dX0_init_43 ?_
  refine J.dup dX0_init_44 rfl ?_
  refine J.iconst (v := 3) dX0_init_45 (by decide) ?_
  refine J.sipush (v := 400) dX0_init_46 (by decide) ?_
  replace hf := jbd hf
  obtain ⟨hp17, h18, hf⟩ := hf
  refine J.iast h18 dX0_init_49 ?_
  refine J.dup dX0_init_50 rfl ?_
  refine J.iconst (v := 4) dX0_init_51 (by decide) ?_
  refine J.iconst (v := 5) dX0_init_52 (by decide) ?_
  replace hf := jbd hf
  obtain ⟨hp19, h20, hf⟩ := hf
  refine J.iast h20 dX0_init_53 ?_
  refine J.dup dX0_init_54 rfl ?_
  refine J.iconst (v := 5) dX0_init_55 (by decide) ?_
  refine J.iconst (v := 5) dX0_init_56 (by decide) ?_
  replace hf := jbd hf
  obtain ⟨hp21, h22, hf⟩ := hf
  refine J.iast h22 dX0_init_57 ?_
  replace hf := jbd hf
  obtain ⟨hp23, h24, hf⟩ := hf
  refine J.putF (ty := (.array .int)) 0 5 in_X0 ap0 rfl (Nat.le_of_ble_eq_true rfl) q150 rfl rfl rfl rfl (by decide +kernel) (fun _ => ⟨rfl, rfl⟩) h24 dX0_init_58 ?_
  refine J.aload_n (i := 0) dX0_init_61 rfl rfl ?_
  replace hf := jbd hf
  obtain ⟨hp25, h26, hf⟩ := hf
  refine J.new (fs := [.int 0, .null, .int 0, .null]) (k2 := 4) (n2 := 30) 1 hRm in_X2 tyX2 tyX2_ok rfl q79 q80 q41 (by decide +kernel) (fun _ => rfl) rfl (Nat.le_of_ble_eq_true rfl) (Nat.le_of_ble_eq_true rfl) (Nat.le_of_ble_eq_true rfl) (Nat.le_of_ble_eq_true rfl) h26 dX0_init_62 ?_
  refine J.dup dX0_init_65 rfl ?_
  refine J.aload_n (i := 0) dX0_init_66 rfl rfl ?_
  refine J.iconst (v := 1) dX0_init_67 (by decide) ?_
  replace hf := jbd hf
  obtain ⟨hp28, h27, hf⟩ := hf
  refine J.callI (As := [.ref this, .int 1]) (k2 := 4) (n2 := 30) hDl hRm (w_X2_init h27) (lw_meth q83) q41 q81 q82 hi_X2_init rfl (Nat.le_of_ble_eq_true rfl) (Nat.le_of_ble_eq_true rfl) (Nat.le_of_ble_eq_true rfl) (Nat.le_of_ble_eq_true rfl) (Nat.le_of_ble_eq_true rfl) (Nat.le_of_ble_eq_true rfl) (Nat.le_of_ble_eq_true rfl) rfl dX0_init_68 ?_
  replace hf := jbd hf
  obtain ⟨hp29, h30, hf⟩ := hf
  refine J.putF (ty := (.object "BilletBars$End")) 0 6 in_X0 ap0 rfl (Nat.le_of_ble_eq_true rfl) q151 rfl rfl rfl rfl (by decide +kernel) (fun _ => ⟨rfl, rfl⟩) h30 dX0_init_71 ?_
  refine J.aload_n (i := 0) dX0_init_74 rfl rfl ?_
  replace hf := jbd hf
  obtain ⟨hp31, h32, hf⟩ := hf
  refine J.new (fs := [.int 0, .null, .int 0, .null]) (k2 := 5) (n2 := 34) 1 hRm in_X2 tyX2 tyX2_ok rfl q79 q80 q41 (by decide +kernel) (fun _ => rfl) rfl (Nat.le_of_ble_eq_true rfl) (Nat.le_of_ble_eq_true rfl) (Nat.le_of_ble_eq_true rfl) (Nat.le_of_ble_eq_true rfl) h32 dX0_init_75 ?_
  refine J.dup dX0_init_78 rfl ?_
  refine J.aload_n (i := 0) dX0_init_79 rfl rfl ?_
  refine J.iconst (v := 2) dX0_init_80 (by decide) ?_
  replace hf := jbd hf
  obtain ⟨hp34, h33, hf⟩ := hf
  refine J.callI (As := [.ref this, .int 2]) (k2 := 5) (n2 := 34) hDl hRm (w_X2_init h33) (lw_meth q83) q41 q81 q82 hi_X2_init rfl (Nat.le_of_ble_eq_true rfl) (Nat.le_of_ble_eq_true rfl) (Nat.le_of_ble_eq_true rfl) (Nat.le_of_ble_eq_true rfl) (Nat.le_of_ble_eq_true rfl) (Nat.le_of_ble_eq_true rfl) (Nat.le_of_ble_eq_true rfl) rfl dX0_init_81 ?_
  replace hf := jbd hf
  obtain ⟨hp35, h36, hf⟩ := hf
  refine J.putF (ty := (.object "BilletBars$End")) 0 7 in_X0 ap0 rfl (Nat.le_of_ble_eq_true rfl) q152 rfl rfl rfl rfl (by decide +kernel) (fun _ => ⟨rfl, rfl⟩) h36 dX0_init_84 ?_
  refine J.aload_n (i := 0) dX0_init_87 rfl rfl ?_
  replace hf := jbd hf
  obtain ⟨hp37, h38, hf⟩ := hf
  refine J.new (fs := [.int 0, .null, .int 0, .null]) (k2 := 6) (n2 := 38) 2 hRm in_X3 tyX3 tyX3_ok rfl q106 q107 q42 (by decide +kernel) (fun _ => rfl) rfl (Nat.le_of_ble_eq_true rfl) (Nat.le_of_ble_eq_true rfl) (Nat.le_of_ble_eq_true rfl) (Nat.le_of_ble_eq_true rfl) h38 dX0_init_88 ?_
  refine J.dup dX0_init_91 rfl ?_
  refine J.aload_n (i := 0) dX0_init_92 rfl rfl ?_
  replace hf := jbd hf
  obtain ⟨hp40, h39, hf⟩ := hf
  refine J.callIN (As := [.ref this]) (k2 := 6) (n2 := 38) hDl hRm (w_X3_init h39) (lw_meth q110) q42 q108 q109 hi_X3_init rfl (Nat.le_of_ble_eq_true rfl) (Nat.le_of_ble_eq_true rfl) (Nat.le_of_ble_eq_true rfl) (Nat.le_of_ble_eq_true rfl) (Nat.le_of_ble_eq_true rfl) (Nat.le_of_ble_eq_true rfl) (Nat.le_of_ble_eq_true rfl) rfl dX0_init_93 ?_
  replace hf := jbd hf
  obtain ⟨hp41, h42, hf⟩ := hf
  refine J.putF (ty := (.object "BilletBars$Weld")) 0 8 in_X0 ap0 rfl (Nat.le_of_ble_eq_true rfl) q153 rfl rfl rfl rfl (by decide +kernel) (fun _ => ⟨rfl, rfl⟩) h42 dX0_init_96 ?_
  refine J.aload_n (i := 0) dX0_init_99 rfl rfl ?_
  refine J.sipush (v := 200) dX0_init_100 (by decide) ?_
  replace hf := jbd hf
  obtain ⟨hp43, h44, hf⟩ := hf
  refine J.newq (N := 200) (k2 := 7) (n2 := 238) hRm q122 q123 (by decide) (by decide) (Nat.le_of_ble_eq_true rfl) (Nat.le_of_ble_eq_true rfl) (Nat.le_of_ble_eq_true rfl) (Nat.le_of_ble_eq_true rfl) (Nat.le_of_ble_eq_true rfl) h44 dX0_init_103 ?_
  replace hf := jbd hf
  obtain ⟨hp45, h46, hf⟩ := hf
  refine J.putF (ty := (.array (.object "BilletBars$Bar"))) 0 9 in_X0 ap0 rfl (Nat.le_of_ble_eq_true rfl) q154 rfl rfl rfl rfl (by decide +kernel) (fun _ => ⟨rfl, rfl⟩) h46 dX0_init_106 ?_
  refine J.aload_n (i := 0) dX0_init_109 rfl rfl ?_
  refine J.iconst (v := 3) dX0_init_110 (by decide) ?_
  replace hf := jbd hf
  obtain ⟨hp47, h48, hf⟩ := hf
  refine J.newaI (B := 3) (k2 := 8) (n2 := 241) hRm q105 rfl rfl rfl (by decide) (by decide) (Nat.le_refl _) (Nat.le_of_ble_eq_true rfl) (Nat.le_of_ble_eq_true rfl) (Nat.le_of_ble_eq_true rfl) (Nat.le_of_ble_eq_true rfl) (Nat.le_of_ble_eq_true rfl) h48 dX0_init_111 ?_
  replace hf := jbd hf
  obtain ⟨hp49, h50, hf⟩ := hf
  refine J.putF (ty := (.array .int)) 0 13 in_X0 ap0 rfl (Nat.le_of_ble_eq_true rfl) q158 rfl rfl rfl rfl (by decide +kernel) (fun _ => ⟨rfl, rfl⟩) h50 dX0_init_113 ?_
  refine J.aload_n (i := 0) dX0_init_116 rfl rfl ?_
  refine J.bipush (v := 6) dX0_init_117 (by decide) ?_
  replace hf := jbd hf
  obtain ⟨hp51, h52, hf⟩ := hf
  refine J.newaI (B := 6) (k2 := 9) (n2 := 247) hRm q105 rfl rfl rfl (by decide) (by decide) (Nat.le_refl _) (Nat.le_of_ble_eq_true rfl) (Nat.le_of_ble_eq_true rfl) (Nat.le_of_ble_eq_true rfl) (Nat.le_of_ble_eq_true rfl) (Nat.le_of_ble_eq_true rfl) h52 dX0_init_119 ?_
  replace hf := jbd hf
  obtain ⟨hp53, h54, hf⟩ := hf
  refine J.putF (ty := (.array .int)) 0 15 in_X0 ap0 rfl (Nat.le_of_ble_eq_true rfl) q160 rfl rfl rfl rfl (by decide +kernel) (fun _ => ⟨rfl, rfl⟩) h54 dX0_init_121 ?_
  refine J.aload_n (i := 0) dX0_init_124 rfl rfl ?_
  refine J.bipush (v := 7) dX0_init_125 (by decide) ?_
  refine J.iconst (v := 3) dX0_init_127 (by decide) ?_
  replace hf := jbd hf
  obtain ⟨hp55, h56, hf⟩ := hf
  refine J.multi (k2 := 17) (n2 := 275) hRm q124 (Nat.le_of_ble_eq_true rfl) (Nat.le_of_ble_eq_true rfl) (Nat.le_of_ble_eq_true rfl) (Nat.le_of_ble_eq_true rfl) h56 dX0_init_128 ?_
  replace hf := jbd hf
  obtain ⟨hp57, h58, hf⟩ := hf
  refine J.putF (ty := (.array (.array .int))) 0 17 in_X0 ap0 rfl (Nat.le_of_ble_eq_true rfl) q162 rfl rfl rfl rfl (by decide +kernel) (fun _ => ⟨rfl, rfl⟩) h58 dX0_init_132 ?_
  refine J.aload_n (i := 0) dX0_init_135 rfl rfl ?_
  refine J.iconst (v := 2) dX0_init_136 (by decide) ?_
  replace hf := jbd hf
  obtain ⟨hp59, h60, hf⟩ := hf
  refine J.put (ty := .int) 0 19 in_X0 ap0 rfl (Nat.le_of_ble_eq_true rfl) (Or.inl q164) (Or.inl rfl) rfl (by decide +kernel) (fun _ => ⟨rfl, rfl⟩) h60 dX0_init_137 ?_
  refine J.aload_n (i := 0) dX0_init_140 rfl rfl ?_
  refine J.bipush (v := 7) dX0_init_141 (by decide) ?_
  replace hf := jbd hf
  obtain ⟨hp61, h62, hf⟩ := hf
  refine J.newaI (B := 7) (k2 := 18) (n2 := 282) hRm q105 rfl rfl rfl (by decide) (by decide) (Nat.le_refl _) (Nat.le_of_ble_eq_true rfl) (Nat.le_of_ble_eq_true rfl) (Nat.le_of_ble_eq_true rfl) (Nat.le_of_ble_eq_true rfl) (Nat.le_of_ble_eq_true rfl) h62 dX0_init_143 ?_
  replace hf := jbd hf
  obtain ⟨hp63, h64, hf⟩ := hf
  refine J.putF (ty := (.array .int)) 0 20 in_X0 ap0 rfl (Nat.le_of_ble_eq_true rfl) q165 rfl rfl rfl rfl (by decide +kernel) (fun _ => ⟨rfl, rfl⟩) h64 dX0_init_145 ?_
  refine J.aload_n (i := 0) dX0_init_148 rfl rfl ?_
  refine J.bipush (v := 7) dX0_init_149 (by decide) ?_
  replace hf := jbd hf
  obtain ⟨hp65, h66, hf⟩ := hf
  refine J.newaI (B := 7) (k2 := 19) (n2 := 289) hRm q105 rfl rfl rfl (by decide) (by decide) (Nat.le_refl _) (Nat.le_of_ble_eq_true rfl) (Nat.le_of_ble_eq_true rfl) (Nat.le_of_ble_eq_true rfl) (Nat.le_of_ble_eq_true rfl) (Nat.le_of_ble_eq_true rfl) h66 dX0_init_151 ?_
  replace hf := jbd hf
  obtain ⟨hp67, h68, hf⟩ := hf
  refine J.putF (ty := (.array .int)) 0 21 in_X0 ap0 rfl (Nat.le_of_ble_eq_true rfl) q166 rfl rfl rfl rfl (by decide +kernel) (fun _ => ⟨rfl, rfl⟩) h68 dX0_init_153 ?_
  refine J.aload_n (i := 0) dX0_init_156 rfl rfl ?_
  refine J.ldc q126 dX0_init_157 ?_
  replace hf := jbd hf
  obtain ⟨hp69, h70, hf⟩ := hf
  refine J.put (ty := .int) 0 24 in_X0 ap0 rfl (Nat.le_of_ble_eq_true rfl) (Or.inl q169) (Or.inl rfl) rfl (by decide +kernel) (fun _ => ⟨rfl, rfl⟩) h70 dX0_init_159 ?_
  refine J.aload_n (i := 0) dX0_init_162 rfl rfl ?_
  refine J.iconst (v := 4) dX0_init_163 (by decide) ?_
  replace hf := jbd hf
  obtain ⟨hp71, h72, hf⟩ := hf
  refine J.newq (N := 4) (k2 := 20) (n2 := 293) hRm q127 q128 (by decide) (by decide) (Nat.le_of_ble_eq_true rfl) (Nat.le_of_ble_eq_true rfl) (Nat.le_of_ble_eq_true rfl) (Nat.le_of_ble_eq_true rfl) (Nat.le_of_ble_eq_true rfl) h72 dX0_init_164 ?_
  replace hf := jbd hf
  obtain ⟨hp73, h74, hf⟩ := hf
  refine J.putF (ty := (.array (.object "BilletBars$Sheet"))) 0 26 in_X0 ap0 rfl (Nat.le_of_ble_eq_true rfl) q171 rfl rfl rfl rfl (by decide +kernel) (fun _ => ⟨rfl, rfl⟩) h74 dX0_init_167 ?_
  refine J.iconst (v := 0) dX0_init_170 (by decide) ?_
  refine J.istore_n (i := 1) (lv' := [some (.ref this), some (.int 0)]) dX0_init_171 rfl (Nat.le_of_ble_eq_true rfl) rfl ?_
  refine J.widen (k2 := 20 + 1 * (5 - 5)) (n2 := 293 + 2 * (5 - 5)) (Nat.le_of_ble_eq_true rfl) (Nat.le_of_ble_eq_true rfl) ?_
  exact w_X0_init_L172 hDl hRm hE hX0 5 (Nat.le_refl _) _ _ _ hf
