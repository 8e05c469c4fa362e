/-! the methods with handlers: walks (printed by gen/exc.py) -/
set_option maxRecDepth 100000
def rm_X0_account : Room := { frames := 8, cells := 4, slots := 229, locals := 10300 }
theorem hd_X0_account : yX0_account.cls = RX0 ∧ yX0_account.cls ≠ "java/lang/invoke/MethodHandle" ∧ yX0_account.cls ≠ "java/lang/invoke/VarHandle" ∧ (parseMethodDescriptor yX0_account.desc).map (fun d => d.parameters.length) = some 1 := by decide +kernel
set_option maxHeartbeats 4000000 in
set_option maxRecDepth 100000 in
theorem w_X0_account_L37 {D : va_G} {l : Launch} {X : jX} {hp0 hpE : jH} {rE : Int32} (hDl : jDl X D l) (hRm : jRoom X rm_X0_account.frames rm_X0_account.locals rm_X0_account.cells rm_X0_account.slots) (hE : jEnds X (some .int) (some (.int rE)) hpE rm_X0_account.cells rm_X0_account.slots) (hX0 : jX0 X hp0) (hTab : jTab X hh_account) (hna : hp0 22 = none) : ∀ (N : Nat) (xa_0 : Nat) (xi_1 : Int32) (xa_2 : Nat) (xi_3 : Int32) (hp : jH), f_X0_account_L37 N xa_0 xi_1 xa_2 xi_3 hp = some (rE, hpE) → J X cX0_account 4 yX0_account 1 7 37 [some (.ref xa_0), some (.int xi_1), some (.ref xa_2), some (.int xi_3)] [] hp := by
  intro N
  induction N with
  | zero =>
    intro xa_0 xi_1 xa_2 xi_3 hp hf
    rw [f_X0_account_L37] at hf
    cases hf
  | succ N ih37 =>
    intro xa_0 xi_1 xa_2 xi_3 hp hf
    rw [f_X0_account_L37] at hf
    refine J.iload_n (i := 3) dX0_account_37 rfl rfl ?_
    refine J.aload_n (i := 0) dX0_account_38 rfl rfl ?_
    replace hf := jbd hf
    obtain ⟨v21, h22, hf⟩ := hf
    refine J.getI 0 10 in_X0 rfl (Nat.le_of_ble_eq_true rfl) (Or.inl q155) (Or.inl rfl) h22 dX0_account_39 ?_
    refine J.icmp_ge (tgt := 112) dX0_account_42 (by decide) (fun hc23 => ?_) (fun hc23 => ?_)
    · replace hf := (if_pos hc23).symm.trans hf
      refine J.aload_n (i := 2) dX0_account_112 rfl rfl ?_
      refine J.iload_n (i := 1) dX0_account_113 rfl rfl ?_
      replace hf := jbd hf
      obtain ⟨n24, h25, hf⟩ := hf
      obtain ⟨f9, ha9, hl9⟩ := jalI_spec h25
      by_cases hc28 : 0 ≤ xi_1.toInt ∧ xi_1.toInt < (n24 : Int)
      · replace hf := (if_pos hc28).symm.trans hf
        replace hf := jbd hf
        obtain ⟨v26, h27, hf⟩ := hf
        refine J.iald h27 dX0_account_114 ?_
        replace hf := jbd hf
        obtain ⟨hp30, h29, hf⟩ := hf
        obtain ⟨rfl, rfl⟩ := jso hf
        exact J.iretG h29 hE hX0 hna (Nat.le_of_ble_eq_true rfl) (Nat.le_of_ble_eq_true rfl) dX0_account_115
      · replace hf := (if_neg hc28).symm.trans hf
        replace hf := jbd hf
        obtain ⟨hp30, h31, hf⟩ := hf
        obtain ⟨rfl, rfl⟩ := jso hf
        refine J.ialdC (k2 := 4) (n2 := 229) hRm hTab ha9 hl9 hc28 ps_account (Nat.le_of_ble_eq_true rfl) (Nat.le_of_ble_eq_true rfl) (Nat.le_of_ble_eq_true rfl) (Nat.le_of_ble_eq_true rfl) (Nat.le_of_ble_eq_true rfl) (Nat.le_of_ble_eq_true rfl) dX0_account_114 dX0_account_116 rfl (Nat.le_of_ble_eq_true rfl) rfl ?_
        refine J.bipush (v := (-2)) dX0_account_117 (by decide) ?_
        exact J.iretG h31 hE hX0 hna (Nat.le_of_ble_eq_true rfl) (Nat.le_of_ble_eq_true rfl) dX0_account_119
    · replace hf := (if_neg hc23).symm.trans hf
      refine J.aload_n (i := 2) dX0_account_45 rfl rfl ?_
      refine J.iconst (v := 3) dX0_account_46 (by decide) ?_
      refine J.dup2 dX0_account_47 rfl rfl ?_
      replace hf := jbd hf
      obtain ⟨v32, h33, hf⟩ := hf
      refine J.iald h33 dX0_account_48 ?_
      refine J.aload_n (i := 0) dX0_account_49 rfl rfl ?_
      replace hf := jbd hf
      obtain ⟨a34, h35, hf⟩ := hf
      refine J.getA 0 9 in_X0 rfl (Nat.le_of_ble_eq_true rfl) (Or.inl q154) (Or.inl rfl) h35 dX0_account_50 ?_
      refine J.iload_n (i := 3) dX0_account_53 rfl rfl ?_
      replace hf := jbd hf
      obtain ⟨a36, h37, hf⟩ := hf
      refine J.aaldA h37 dX0_account_54 ?_
      replace hf := jbd hf
      obtain ⟨v38, h39, hf⟩ := hf
      refine J.getI 7 3 in_X8 rfl (Nat.le_of_ble_eq_true rfl) (Or.inr ⟨_, q387⟩) (Or.inl rfl) h39 dX0_account_55 ?_
      refine J.iadd dX0_account_58 ?_
      replace hf := jbd hf
      obtain ⟨hp40, h41, hf⟩ := hf
      refine J.iast h41 dX0_account_59 ?_
      refine J.aload_n (i := 2) dX0_account_60 rfl rfl ?_
      refine J.iconst (v := 4) dX0_account_61 (by decide) ?_
      refine J.dup2 dX0_account_62 rfl rfl ?_
      replace hf := jbd hf
      obtain ⟨v42, h43, hf⟩ := hf
      refine J.iald h43 dX0_account_63 ?_
      refine J.aload_n (i := 0) dX0_account_64 rfl rfl ?_
      replace hf := jbd hf
      obtain ⟨a44, h45, hf⟩ := hf
      refine J.getA 0 9 in_X0 rfl (Nat.le_of_ble_eq_true rfl) (Or.inl q154) (Or.inl rfl) h45 dX0_account_65 ?_
      refine J.iload_n (i := 3) dX0_account_68 rfl rfl ?_
      replace hf := jbd hf
      obtain ⟨a46, h47, hf⟩ := hf
      refine J.aaldA h47 dX0_account_69 ?_
      replace hf := jbd hf
      obtain ⟨v48, h49, hf⟩ := hf
      refine J.getI 7 4 in_X8 rfl (Nat.le_of_ble_eq_true rfl) (Or.inr ⟨_, q388⟩) (Or.inl rfl) h49 dX0_account_70 ?_
      refine J.iadd dX0_account_73 ?_
      replace hf := jbd hf
      obtain ⟨hp50, h51, hf⟩ := hf
      refine J.iast h51 dX0_account_74 ?_
      refine J.aload_n (i := 2) dX0_account_75 rfl rfl ?_
      refine J.iconst (v := 5) dX0_account_76 (by decide) ?_
      refine J.dup2 dX0_account_77 rfl rfl ?_
      replace hf := jbd hf
      obtain ⟨v52, h53, hf⟩ := hf
      refine J.iald h53 dX0_account_78 ?_
      refine J.aload_n (i := 0) dX0_account_79 rfl rfl ?_
      replace hf := jbd hf
      obtain ⟨a54, h55, hf⟩ := hf
      refine J.getA 0 9 in_X0 rfl (Nat.le_of_ble_eq_true rfl) (Or.inl q154) (Or.inl rfl) h55 dX0_account_80 ?_
      refine J.iload_n (i := 3) dX0_account_83 rfl rfl ?_
      replace hf := jbd hf
      obtain ⟨a56, h57, hf⟩ := hf
      refine J.aaldA h57 dX0_account_84 ?_
      replace hf := jbd hf
      obtain ⟨v58, h59, hf⟩ := hf
      refine J.getI 7 2 in_X8 rfl (Nat.le_of_ble_eq_true rfl) (Or.inr ⟨_, q386⟩) (Or.inl rfl) h59 dX0_account_85 ?_
      refine J.iadd dX0_account_88 ?_
      replace hf := jbd hf
      obtain ⟨hp60, h61, hf⟩ := hf
      refine J.iast h61 dX0_account_89 ?_
      refine J.aload_n (i := 2) dX0_account_90 rfl rfl ?_
      refine J.bipush (v := 6) dX0_account_91 (by decide) ?_
      refine J.dup2 dX0_account_93 rfl rfl ?_
      replace hf := jbd hf
      obtain ⟨v62, h63, hf⟩ := hf
      refine J.iald h63 dX0_account_94 ?_
      refine J.aload_n (i := 0) dX0_account_95 rfl rfl ?_
      replace hf := jbd hf
      obtain ⟨a64, h65, hf⟩ := hf
      refine J.getA 0 9 in_X0 rfl (Nat.le_of_ble_eq_true rfl) (Or.inl q154) (Or.inl rfl) h65 dX0_account_96 ?_
      refine J.iload_n (i := 3) dX0_account_99 rfl rfl ?_
      replace hf := jbd hf
      obtain ⟨a66, h67, hf⟩ := hf
      refine J.aaldA h67 dX0_account_100 ?_
      replace hf := jbd hf
      obtain ⟨v68, h69, hf⟩ := hf
      refine J.getI 7 1 in_X8 rfl (Nat.le_of_ble_eq_true rfl) (Or.inr ⟨_, q385⟩) (Or.inl rfl) h69 dX0_account_101 ?_
      refine J.iadd dX0_account_104 ?_
      replace hf := jbd hf
      obtain ⟨hp70, h71, hf⟩ := hf
      refine J.iast h71 dX0_account_105 ?_
      refine J.iinc (i := 3) (v := (xi_3 + 1)) (lv' := [some (.ref xa_0), some (.int xi_1), some (.ref xa_2), some (.int (xi_3 + 1))]) dX0_account_106 rfl rfl (Nat.le_of_ble_eq_true rfl) rfl ?_
      refine J.goto (tgt := 37) dX0_account_109 (by decide) ?_
      exact ih37 _ _ _ _ _ hf
set_option maxHeartbeats 4000000 in
set_option maxRecDepth 100000 in
theorem w_X0_account {D : va_G} {l : Launch} {hp hpE : jH} {rE : Int32} {this : Nat} {p1 : Int32} (hl : jNT l) (hf : f_X0_account this p1 hp = some (rE, hpE)) : jM D l yX0_account (wsW_ yX0_account cX0_account 4 (some .int) [((112 : Nat), (115 : Nat), (116 : Nat), (252 : Nat))]) rm_X0_account hp [.ref this, .int p1] (some (.int rE)) hpE := by
  refine jM.ofH (lv0 := [some (.ref this), some (.int p1), none, none]) hl (by decide) (Nat.le_of_ble_eq_true rfl) rfl (fun X hDl hRm hE hX0 hTab => ?_)
  rw [f_X0_account] at hf
  have hna : hp 22 = none := by
    cases q : hp 22 with
    | none => rfl
    | some o => exfalso; rw [jnew_some q] at hf; cases hf
  refine J.bipush (v := 7) dX0_account_0 (by decide) ?_
  replace hf := jbd hf
  obtain ⟨hp1, h2, hf⟩ := hf
  refine J.newaI (B := 7) (k2 := 1) (n2 := 7) hRm q105 rfl rfl rfl (by decide) (by decide) (Nat.le_refl _) (Nat.le_of_ble_eq_true rfl) (Nat.le_of_ble_eq_true rfl) (Nat.le_of_ble_eq_true rfl) (Nat.le_of_ble_eq_true rfl) (Nat.le_of_ble_eq_true rfl) h2 dX0_account_2 ?_
  refine J.astore_n (i := 2) (lv' := [some (.ref this), some (.int p1), some (.ref 22), none]) dX0_account_4 rfl (Nat.le_of_ble_eq_true rfl) rfl ?_
  refine J.aload_n (i := 2) dX0_account_5 rfl rfl ?_
  refine J.iconst (v := 0) dX0_account_6 (by decide) ?_
  refine J.aload_n (i := 0) dX0_account_7 rfl rfl ?_
  replace hf := jbd hf
  obtain ⟨a3, h4, hf⟩ := hf
  refine J.getA 0 6 in_X0 rfl (Nat.le_of_ble_eq_true rfl) (Or.inl q151) (Or.inl rfl) h4 dX0_account_8 ?_
  replace hf := jbd hf
  obtain ⟨v5, h6, hf⟩ := hf
  refine J.getI 1 0 in_X2 rfl (Nat.le_of_ble_eq_true rfl) (Or.inl q93) (Or.inr q94) h6 dX0_account_11 ?_
  replace hf := jbd hf
  obtain ⟨hp7, h8, hf⟩ := hf
  refine J.iast h8 dX0_account_14 ?_
  refine J.aload_n (i := 2) dX0_account_15 rfl rfl ?_
  refine J.iconst (v := 1) dX0_account_16 (by decide) ?_
  refine J.aload_n (i := 0) dX0_account_17 rfl rfl ?_
  replace hf := jbd hf
  obtain ⟨a9, h10, hf⟩ := hf
  refine J.getA 0 7 in_X0 rfl (Nat.le_of_ble_eq_true rfl) (Or.inl q152) (Or.inl rfl) h10 dX0_account_18 ?_
  replace hf := jbd hf
  obtain ⟨v11, h12, hf⟩ := hf
  refine J.getI 1 0 in_X2 rfl (Nat.le_of_ble_eq_true rfl) (Or.inl q93) (Or.inr q94) h12 dX0_account_21 ?_
  replace hf := jbd hf
  obtain ⟨hp13, h14, hf⟩ := hf
  refine J.iast h14 dX0_account_24 ?_
  refine J.aload_n (i := 2) dX0_account_25 rfl rfl ?_
  refine J.iconst (v := 2) dX0_account_26 (by decide) ?_
  refine J.aload_n (i := 0) dX0_account_27 rfl rfl ?_
  replace hf := jbd hf
  obtain ⟨a15, h16, hf⟩ := hf
  refine J.getA 0 8 in_X0 rfl (Nat.le_of_ble_eq_true rfl) (Or.inl q153) (Or.inl rfl) h16 dX0_account_28 ?_
  replace hf := jbd hf
  obtain ⟨v17, h18, hf⟩ := hf
  refine J.getI 2 0 in_X3 rfl (Nat.le_of_ble_eq_true rfl) (Or.inl q91) (Or.inr q92) h18 dX0_account_31 ?_
  replace hf := jbd hf
  obtain ⟨hp19, h20, hf⟩ := hf
  refine J.iast h20 dX0_account_34 ?_
  refine J.iconst (v := 0) dX0_account_35 (by decide) ?_
  refine J.istore_n (i := 3) (lv' := [some (.ref this), some (.int p1), some (.ref 22), some (.int 0)]) dX0_account_36 rfl (Nat.le_of_ble_eq_true rfl) rfl ?_
  exact w_X0_account_L37 hDl hRm hE hX0 hTab hna _ _ _ _ _ _ hf
