/-! copy: walks (printed by gen/exc3.py) -/
set_option maxRecDepth 100000
theorem jcq_inv {hp : jH} {a b : Nat} {sp dp len : Int32} {q : Nat} (h : jcq hp a b sp dp len = some q) : ∃ (ty : FieldType) (n1 n2 : Nat) (f1 f2 : Nat → Int32), hp a = some (.inl (ty, n1, .inl f1)) ∧ hp b = some (.inl (ty, n2, .inl f2)) ∧ jt3 ty ∧ n1 < 2 ^ 31 ∧ n2 < 2 ^ 31 ∧ 8 ≤ a ∧ 8 ≤ b ∧ ((q = 3 ∧ (sp < 0 ∨ dp < 0 ∨ len < 0 ∨ sp.toInt + len.toInt > (n1 : Int) ∨ dp.toInt + len.toInt > (n2 : Int))) ∨ (q = 0 ∧ ¬ (sp < 0 ∨ dp < 0 ∨ len < 0 ∨ sp.toInt + len.toInt > (n1 : Int) ∨ dp.toInt + len.toInt > (n2 : Int)) ∧ ∀ i, i < len.toNatClampNeg → fits ty (.int (f1 (sp.toNatClampNeg + i))) = true)) := by
  unfold jcq at h
  split at h
  · rename_i t1 n1 f1 t2 n2 f2 e1 e2
    split at h
    · cases h
    · rename_i h1
      obtain ⟨rfl, h2, h3, h4, h5a, h5⟩ := Classical.not_not.mp h1
      refine ⟨t1, n1, n2, f1, f2, e1, e2, h2, h3, h4, h5a, h5, ?_⟩
      split at h
      · rename_i h6
        cases h
        exact .inl ⟨rfl, h6⟩
      · rename_i h6
        split at h
        · rename_i h7
          cases h
          exact .inr ⟨rfl, h6, h7⟩
        · cases h
  · cases h
theorem jcq_3 {hp : jH} {a b : Nat} {sp dp len : Int32} {q : Nat} (h : jcq hp a b sp dp len = some q) (h0 : ¬ q = 0) : ∃ (ty : FieldType) (n1 n2 : Nat) (f1 f2 : Nat → Int32), hp a = some (.inl (ty, n1, .inl f1)) ∧ hp b = some (.inl (ty, n2, .inl f2)) ∧ jt3 ty ∧ n1 < 2 ^ 31 ∧ n2 < 2 ^ 31 ∧ (sp < 0 ∨ dp < 0 ∨ len < 0 ∨ sp.toInt + len.toInt > (n1 : Int) ∨ dp.toInt + len.toInt > (n2 : Int)) := by
  obtain ⟨ty, n1, n2, f1, f2, e1, e2, h1, h2, h3, h4a, h4, h5⟩ := jcq_inv h
  rcases h5 with h5 | h5
  · exact ⟨ty, n1, n2, f1, f2, e1, e2, h1, h2, h3, h5.2⟩
  · exact absurd h5.1 h0
theorem jcq_0 {hp hp' : jH} {a b : Nat} {sp dp len : Int32} (h : jcq hp a b sp dp len = some 0) (hw : jcw hp a b sp dp len = some hp') : ∃ (ty : FieldType) (n1 n2 : Nat) (f1 f2 : Nat → Int32), hp a = some (.inl (ty, n1, .inl f1)) ∧ hp b = some (.inl (ty, n2, .inl f2)) ∧ 8 ≤ b ∧ 8 ≤ a ∧ jt3 ty ∧ ¬ sp < 0 ∧ ¬ dp < 0 ∧ ¬ len < 0 ∧ sp.toNatClampNeg + len.toNatClampNeg ≤ n1 ∧ dp.toNatClampNeg + len.toNatClampNeg ≤ n2 ∧ (∀ i, i < len.toNatClampNeg → fits ty (.int (f1 (sp.toNatClampNeg + i))) = true) ∧ hp' = jset hp b (.inl (ty, n2, .inl (va_cpy f1 f2 sp.toNatClampNeg dp.toNatClampNeg len.toNatClampNeg))) := by
  obtain ⟨ty, n1, n2, f1, f2, e1, e2, h1, h2, h3, h4a, h4, h5⟩ := jcq_inv h
  rcases h5 with h5 | ⟨-, h5, h6⟩
  · exact absurd h5.1 (by decide)
  · have nn : ∀ z : Int32, ¬ z < 0 → z.toInt = (z.toNatClampNeg : Int) := by
      intro z hz
      have hz0 : (0 : Int) ≤ z.toInt := by
        have := Int32.not_lt.mp hz
        simpa using Int32.le_iff_toInt_le.mp this
      show z.toInt = ((z.toInt.toNat : Nat) : Int)
      omega
    have g1 : ¬ sp < 0 := fun z => h5 (.inl z)
    have g2 : ¬ dp < 0 := fun z => h5 (.inr (.inl z))
    have g3 : ¬ len < 0 := fun z => h5 (.inr (.inr (.inl z)))
    have g4 : ¬ sp.toInt + len.toInt > (n1 : Int) := fun z => h5 (.inr (.inr (.inr (.inl z))))
    have g5 : ¬ dp.toInt + len.toInt > (n2 : Int) := fun z => h5 (.inr (.inr (.inr (.inr z))))
    have x1 := nn sp g1
    have x2 := nn dp g2
    have x3 := nn len g3
    refine ⟨ty, n1, n2, f1, f2, e1, e2, h4, h4a, h1, g1, g2, g3, by omega, by omega, h6, ?_⟩
    unfold jcw at hw
    rw [e1, e2] at hw
    exact (Option.some.inj hw).symm
theorem ps_copy_88 : jPs yX0_copy.cls "java/lang/NullPointerException" 83 [((68 : Nat), (87 : Nat), (88 : Nat), (343 : Nat)), ((68 : Nat), (87 : Nat), (96 : Nat), (354 : Nat))] 88 := .inr ⟨⟨by decide, by decide⟩, by decide, "java/lang/NullPointerException", q789, .inl ⟨q811, rfl⟩⟩
theorem ps_copy_96 : jPs yX0_copy.cls Bundle.idxN 83 [((68 : Nat), (87 : Nat), (88 : Nat), (343 : Nat)), ((68 : Nat), (87 : Nat), (96 : Nat), (354 : Nat))] 96 := .inr ⟨⟨by decide, by decide⟩, by decide, "java/lang/NullPointerException", q789, .inr ⟨by decide, .inr ⟨⟨by decide, by decide⟩, by decide, "java/lang/IndexOutOfBoundsException", q840, .inl ⟨q1269, rfl⟩⟩⟩⟩
def rm_X0_copy : Room := { frames := 9, cells := 3, slots := 610, locals := 10400 }
theorem hd_X0_copy : yX0_copy.cls = RX0 ∧ yX0_copy.cls ≠ "java/lang/invoke/MethodHandle" ∧ yX0_copy.cls ≠ "java/lang/invoke/VarHandle" ∧ (parseMethodDescriptor yX0_copy.desc).map (fun d => d.parameters.length) = some 5 := by decide +kernel
set_option maxHeartbeats 4000000 in
set_option maxRecDepth 100000 in
theorem w_X0_copy_j68 {D : va_G} {l : Launch} {X : jX} {hp0 hpE : jH} {rE : Int32} (hDl : jDl X D l) (hRm : jRoom X rm_X0_copy.frames rm_X0_copy.locals rm_X0_copy.cells rm_X0_copy.slots) (hE : jEnds X (some .int) (some (.int rE)) hpE rm_X0_copy.cells rm_X0_copy.slots) (hX0 : jX0 X hp0) (hTab : jTab X [((68 : Nat), (87 : Nat), (88 : Nat), (343 : Nat)), ((68 : Nat), (87 : Nat), (96 : Nat), (354 : Nat))]) {xa_0 : Nat} {xi_2 : Int32} {xi_4 : Int32} {xi_5 : Int32} {xa_6 : Nat} {xa_7 : Nat} {hp : jH} (hf : f_X0_copy_j68 xa_0 xi_2 xi_4 xi_5 xa_6 xa_7 hp = some (rE, hpE)) : J X cX0_copy 9 yX0_copy 0 0 68 [some (.ref xa_0), none, some (.int xi_2), none, some (.int xi_4), some (.int xi_5), some (.ref xa_6), some (.ref xa_7), none] [] hp := by
  rw [f_X0_copy_j68] at hf
  refine J.aload dX0_copy_68 rfl ?_
  replace hf := jbd hf
  obtain ⟨r22, h21, hf⟩ := hf
  cases r22 with
  | none =>
    refine J.getRn 3 1 in_X4 rfl (Nat.le_of_ble_eq_true rfl) (Or.inr ⟨_, q137⟩) (Or.inl rfl) h21 dX0_copy_70 ?_
    refine J.iload_n (i := 2) dX0_copy_73 rfl rfl ?_
    refine J.aload dX0_copy_74 rfl ?_
    replace hf := jbd hf
    obtain ⟨r25, h24, hf⟩ := hf
    cases r25 with
    | none =>
      refine J.getRn 3 1 in_X4 rfl (Nat.le_of_ble_eq_true rfl) (Or.inr ⟨_, q137⟩) (Or.inl rfl) h24 dX0_copy_76 ?_
      refine J.iload dX0_copy_79 rfl ?_
      refine J.iload dX0_copy_81 rfl ?_
      refine J.copyN (k2 := 1) (m2 := 8) (lv' := [some (.ref xa_0), none, some (.int xi_2), none, some (.int xi_4), some (.int xi_5), some (.ref xa_6), some (.ref xa_7), none]) hRm hTab q841 q553 q552 q57 (.inl rfl) (.inl rfl) (.inl rfl) ps_copy_88 (Nat.le_of_ble_eq_true rfl) (Nat.le_of_ble_eq_true rfl) (Nat.le_of_ble_eq_true rfl) (Nat.le_of_ble_eq_true rfl) (Nat.le_of_ble_eq_true rfl) (Nat.le_of_ble_eq_true rfl) dX0_copy_83 dX0_copy_88 (Nat.le_of_ble_eq_true rfl) rfl ?_
      refine J.aload_n (i := 0) dX0_copy_90 rfl rfl ?_
      refine J.iconst (v := 1) dX0_copy_91 (by decide) ?_
      replace hf := jbd hf
      obtain ⟨u26, h27, hf⟩ := hf
      replace hf := jbs hf
      obtain ⟨v30, hp29, h28, hf⟩ := hf
      refine J.callV (As := [.int 1]) (k2 := 1) (n2 := 8) 0 hDl hRm (w_X0_meets h28) (lw_V q776 q778 qs19 q39 q779) hd_X0_meets rfl ⟨_, h27⟩ rfl (Nat.le_of_ble_eq_true rfl) (Nat.le_of_ble_eq_true rfl) (Nat.le_of_ble_eq_true rfl) (Nat.le_of_ble_eq_true rfl) (Nat.le_of_ble_eq_true rfl) (Nat.le_of_ble_eq_true rfl) (Nat.le_of_ble_eq_true rfl) rfl dX0_copy_92 ?_
      obtain ⟨rfl, rfl⟩ := jso hf
      exact J.iret hE (Nat.le_of_ble_eq_true rfl) (Nat.le_of_ble_eq_true rfl) dX0_copy_95
    | some a23 =>
      refine J.getRs 3 1 in_X4 rfl (Nat.le_of_ble_eq_true rfl) (Or.inr ⟨_, q137⟩) (Or.inl rfl) h24 dX0_copy_76 ?_
      refine J.iload dX0_copy_79 rfl ?_
      refine J.iload dX0_copy_81 rfl ?_
      refine J.copyN (k2 := 1) (m2 := 8) (lv' := [some (.ref xa_0), none, some (.int xi_2), none, some (.int xi_4), some (.int xi_5), some (.ref xa_6), some (.ref xa_7), none]) hRm hTab q841 q553 q552 q57 (.inl rfl) (.inr ⟨_, rfl⟩) (.inl rfl) ps_copy_88 (Nat.le_of_ble_eq_true rfl) (Nat.le_of_ble_eq_true rfl) (Nat.le_of_ble_eq_true rfl) (Nat.le_of_ble_eq_true rfl) (Nat.le_of_ble_eq_true rfl) (Nat.le_of_ble_eq_true rfl) dX0_copy_83 dX0_copy_88 (Nat.le_of_ble_eq_true rfl) rfl ?_
      refine J.aload_n (i := 0) dX0_copy_90 rfl rfl ?_
      refine J.iconst (v := 1) dX0_copy_91 (by decide) ?_
      replace hf := jbd hf
      obtain ⟨u31, h32, hf⟩ := hf
      replace hf := jbs hf
      obtain ⟨v35, hp34, h33, hf⟩ := hf
      refine J.callV (As := [.int 1]) (k2 := 1) (n2 := 8) 0 hDl hRm (w_X0_meets h33) (lw_V q776 q778 qs19 q39 q779) hd_X0_meets rfl ⟨_, h32⟩ rfl (Nat.le_of_ble_eq_true rfl) (Nat.le_of_ble_eq_true rfl) (Nat.le_of_ble_eq_true rfl) (Nat.le_of_ble_eq_true rfl) (Nat.le_of_ble_eq_true rfl) (Nat.le_of_ble_eq_true rfl) (Nat.le_of_ble_eq_true rfl) rfl dX0_copy_92 ?_
      obtain ⟨rfl, rfl⟩ := jso hf
      exact J.iret hE (Nat.le_of_ble_eq_true rfl) (Nat.le_of_ble_eq_true rfl) dX0_copy_95
  | some a20 =>
    refine J.getRs 3 1 in_X4 rfl (Nat.le_of_ble_eq_true rfl) (Or.inr ⟨_, q137⟩) (Or.inl rfl) h21 dX0_copy_70 ?_
    refine J.iload_n (i := 2) dX0_copy_73 rfl rfl ?_
    refine J.aload dX0_copy_74 rfl ?_
    replace hf := jbd hf
    obtain ⟨r38, h37, hf⟩ := hf
    cases r38 with
    | none =>
      refine J.getRn 3 1 in_X4 rfl (Nat.le_of_ble_eq_true rfl) (Or.inr ⟨_, q137⟩) (Or.inl rfl) h37 dX0_copy_76 ?_
      refine J.iload dX0_copy_79 rfl ?_
      refine J.iload dX0_copy_81 rfl ?_
      refine J.copyN (k2 := 1) (m2 := 8) (lv' := [some (.ref xa_0), none, some (.int xi_2), none, some (.int xi_4), some (.int xi_5), some (.ref xa_6), some (.ref xa_7), none]) hRm hTab q841 q553 q552 q57 (.inr ⟨_, rfl⟩) (.inl rfl) (.inr rfl) ps_copy_88 (Nat.le_of_ble_eq_true rfl) (Nat.le_of_ble_eq_true rfl) (Nat.le_of_ble_eq_true rfl) (Nat.le_of_ble_eq_true rfl) (Nat.le_of_ble_eq_true rfl) (Nat.le_of_ble_eq_true rfl) dX0_copy_83 dX0_copy_88 (Nat.le_of_ble_eq_true rfl) rfl ?_
      refine J.aload_n (i := 0) dX0_copy_90 rfl rfl ?_
      refine J.iconst (v := 1) dX0_copy_91 (by decide) ?_
      replace hf := jbd hf
      obtain ⟨u39, h40, hf⟩ := hf
      replace hf := jbs hf
      obtain ⟨v43, hp42, h41, hf⟩ := hf
      refine J.callV (As := [.int 1]) (k2 := 1) (n2 := 8) 0 hDl hRm (w_X0_meets h41) (lw_V q776 q778 qs19 q39 q779) hd_X0_meets rfl ⟨_, h40⟩ rfl (Nat.le_of_ble_eq_true rfl) (Nat.le_of_ble_eq_true rfl) (Nat.le_of_ble_eq_true rfl) (Nat.le_of_ble_eq_true rfl) (Nat.le_of_ble_eq_true rfl) (Nat.le_of_ble_eq_true rfl) (Nat.le_of_ble_eq_true rfl) rfl dX0_copy_92 ?_
      obtain ⟨rfl, rfl⟩ := jso hf
      exact J.iret hE (Nat.le_of_ble_eq_true rfl) (Nat.le_of_ble_eq_true rfl) dX0_copy_95
    | some a36 =>
      refine J.getRs 3 1 in_X4 rfl (Nat.le_of_ble_eq_true rfl) (Or.inr ⟨_, q137⟩) (Or.inl rfl) h37 dX0_copy_76 ?_
      refine J.iload dX0_copy_79 rfl ?_
      refine J.iload dX0_copy_81 rfl ?_
      replace hf := jbd hf
      obtain ⟨q44, h45, hf⟩ := hf
      by_cases hc46 : q44 = 0
      · replace hf := (if_pos hc46).symm.trans hf
        replace hf := jbd hf
        obtain ⟨hp47, h48, hf⟩ := hf
        subst hc46
        obtain ⟨ty9, n19, n29, f19, f29, g1, g2, g3, g3a, g4, g5, g6, g7, g8, g9, g10, e9⟩ := jcq_0 h45 h48
        refine J.copyOk hRm q841 q553 q552 q57 g1 g2 g3 g3a g4 g5 g6 g7 g8 g9 g10 (Nat.le_of_ble_eq_true rfl) (Nat.le_of_ble_eq_true rfl) dX0_copy_83 ?_
        rw [← e9]
        refine J.iconst (v := 1) dX0_copy_86 (by decide) ?_
        obtain ⟨rfl, rfl⟩ := jso hf
        exact J.iret hE (Nat.le_of_ble_eq_true rfl) (Nat.le_of_ble_eq_true rfl) dX0_copy_87
      replace hf := (if_neg hc46).symm.trans hf
      obtain ⟨ty9, n19, n29, f19, f29, g1, g2, g4, g5, g6, g7⟩ := jcq_3 h45 hc46
      refine J.copyI (k2 := 3) (m2 := 610) (lv' := [some (.ref xa_0), none, some (.int xi_2), none, some (.int xi_4), some (.int xi_5), some (.ref xa_6), some (.ref xa_7), none]) hRm hTab q841 q553 q552 q57 g1 g2 g4 g5 g6 g7 ps_copy_96 (Nat.le_of_ble_eq_true rfl) (Nat.le_of_ble_eq_true rfl) (Nat.le_of_ble_eq_true rfl) (Nat.le_of_ble_eq_true rfl) (Nat.le_of_ble_eq_true rfl) (Nat.le_of_ble_eq_true rfl) dX0_copy_83 dX0_copy_96 (Nat.le_of_ble_eq_true rfl) rfl ?_
      refine J.aload_n (i := 0) dX0_copy_98 rfl rfl ?_
      refine J.iconst (v := 2) dX0_copy_99 (by decide) ?_
      replace hf := jbd hf
      obtain ⟨u49, h50, hf⟩ := hf
      replace hf := jbs hf
      obtain ⟨v53, hp52, h51, hf⟩ := hf
      refine J.callV (As := [.int 2]) (k2 := 3) (n2 := 610) 0 hDl hRm (w_X0_meets h51) (lw_V q776 q778 qs19 q39 q779) hd_X0_meets rfl ⟨_, h50⟩ rfl (Nat.le_of_ble_eq_true rfl) (Nat.le_of_ble_eq_true rfl) (Nat.le_of_ble_eq_true rfl) (Nat.le_of_ble_eq_true rfl) (Nat.le_of_ble_eq_true rfl) (Nat.le_of_ble_eq_true rfl) (Nat.le_of_ble_eq_true rfl) rfl dX0_copy_100 ?_
      obtain ⟨rfl, rfl⟩ := jso hf
      exact J.iret hE (Nat.le_of_ble_eq_true rfl) (Nat.le_of_ble_eq_true rfl) dX0_copy_103
set_option maxHeartbeats 4000000 in
set_option maxRecDepth 100000 in
theorem w_X0_copy {D : va_G} {l : Launch} {hp hpE : jH} {rE : Int32} {this : Nat} {p1 : Int32} {p2 : Int32} {p3 : Int32} {p4 : Int32} {p5 : Int32} (hl : jNT l) (hf : f_X0_copy this p1 p2 p3 p4 p5 hp = some (rE, hpE)) : jM D l yX0_copy (wsW_ yX0_copy cX0_copy 9 (some .int) [((68 : Nat), (87 : Nat), (88 : Nat), (343 : Nat)), ((68 : Nat), (87 : Nat), (96 : Nat), (354 : Nat))]) rm_X0_copy hp [.ref this, .int p1, .int p2, .int p3, .int p4, .int p5] (some (.int rE)) hpE := by
  refine jM.ofH (lv0 := [some (.ref this), some (.int p1), some (.int p2), some (.int p3), some (.int p4), some (.int p5), none, none, none]) hl (by decide) (Nat.le_of_ble_eq_true rfl) rfl (fun X hDl hRm hE hX0 hTab => ?_)
  rw [f_X0_copy] at hf
  refine J.iload_n (i := 1) dX0_copy_0 rfl rfl ?_
  replace hf := jbs hf
  obtain ⟨v3, hp2, h1, hf⟩ := hf
  refine J.callS (As := [.int p1]) (k2 := 0) (n2 := 0) hDl hRm (w_X0_isSheet h1) (lw_S q770 q771 q39 q772) hs_X0_isSheet rfl (Nat.le_of_ble_eq_true rfl) (Nat.le_of_ble_eq_true rfl) (Nat.le_of_ble_eq_true rfl) (Nat.le_of_ble_eq_true rfl) (Nat.le_of_ble_eq_true rfl) (Nat.le_of_ble_eq_true rfl) (Nat.le_of_ble_eq_true rfl) rfl dX0_copy_1 ?_
  refine J.if_eq (tgt := 14) dX0_copy_4 (by decide) (fun hc4 => ?_) (fun hc4 => ?_)
  · replace hf := (if_pos hc4).symm.trans hf
    refine J.bipush (v := (-2)) dX0_copy_14 (by decide) ?_
    obtain ⟨rfl, rfl⟩ := jso hf
    exact J.iret hE (Nat.le_of_ble_eq_true rfl) (Nat.le_of_ble_eq_true rfl) dX0_copy_16
  · replace hf := (if_neg hc4).symm.trans hf
    refine J.iload_n (i := 3) dX0_copy_7 rfl rfl ?_
    replace hf := jbs hf
    obtain ⟨v7, hp6, h5, hf⟩ := hf
    refine J.callS (As := [.int p3]) (k2 := 0) (n2 := 0) hDl hRm (w_X0_isSheet h5) (lw_S q770 q771 q39 q772) hs_X0_isSheet rfl (Nat.le_of_ble_eq_true rfl) (Nat.le_of_ble_eq_true rfl) (Nat.le_of_ble_eq_true rfl) (Nat.le_of_ble_eq_true rfl) (Nat.le_of_ble_eq_true rfl) (Nat.le_of_ble_eq_true rfl) (Nat.le_of_ble_eq_true rfl) rfl dX0_copy_8 ?_
    refine J.if_ne (tgt := 17) dX0_copy_11 (by decide) (fun hc8 => ?_) (fun hc8 => ?_)
    · replace hf := (if_neg hc8).symm.trans hf
      refine J.aload_n (i := 0) dX0_copy_17 rfl rfl ?_
      replace hf := jbd hf
      obtain ⟨a9, h10, hf⟩ := hf
      refine J.getA 0 26 in_X0 rfl (Nat.le_of_ble_eq_true rfl) (Or.inl q171) (Or.inl rfl) h10 dX0_copy_18 ?_
      refine J.iload_n (i := 1) dX0_copy_21 rfl rfl ?_
      replace hf := jbd hf
      obtain ⟨a11, h12, hf⟩ := hf
      refine J.aaldA h12 dX0_copy_22 ?_
      refine J.astore (i := 6) (lv' := [some (.ref this), some (.int p1), some (.int p2), some (.int p3), some (.int p4), some (.int p5), some (.ref a11), none, none]) dX0_copy_23 (Nat.le_of_ble_eq_true rfl) rfl ?_
      refine J.aload_n (i := 0) dX0_copy_25 rfl rfl ?_
      replace hf := jbd hf
      obtain ⟨a13, h14, hf⟩ := hf
      refine J.getA 0 26 in_X0 rfl (Nat.le_of_ble_eq_true rfl) (Or.inl q171) (Or.inl rfl) h14 dX0_copy_26 ?_
      refine J.iload_n (i := 3) dX0_copy_29 rfl rfl ?_
      replace hf := jbd hf
      obtain ⟨a15, h16, hf⟩ := hf
      refine J.aaldA h16 dX0_copy_30 ?_
      refine J.astore (i := 7) (lv' := [some (.ref this), some (.int p1), some (.int p2), some (.int p3), some (.int p4), some (.int p5), some (.ref a11), some (.ref a15), none]) dX0_copy_31 (Nat.le_of_ble_eq_true rfl) rfl ?_
      refine J.aload dX0_copy_33 rfl ?_
      replace hf := jbd hf
      obtain ⟨r19, h18, hf⟩ := hf
      cases r19 with
      | none =>
        refine J.getRn 3 1 in_X4 rfl (Nat.le_of_ble_eq_true rfl) (Or.inr ⟨_, q137⟩) (Or.inl rfl) h18 dX0_copy_35 ?_
        refine J.ifnullN (tgt := 68) dX0_copy_38 (by decide) ?_
        refine J.mask (lv' := [some (.ref this), none, some (.int p2), none, some (.int p4), some (.int p5), some (.ref a11), some (.ref a15), none]) [true, false, true, false, true, true, true, true, false] rfl ?_
        exact w_X0_copy_j68 hDl hRm hE hX0 hTab hf
      | some a17 =>
        refine J.getRs 3 1 in_X4 rfl (Nat.le_of_ble_eq_true rfl) (Or.inr ⟨_, q137⟩) (Or.inl rfl) h18 dX0_copy_35 ?_
        refine J.ifnullR dX0_copy_38 ?_
        refine J.aload dX0_copy_41 rfl ?_
        replace hf := jbd hf
        obtain ⟨r56, h55, hf⟩ := hf
        cases r56 with
        | none =>
          refine J.getRn 3 1 in_X4 rfl (Nat.le_of_ble_eq_true rfl) (Or.inr ⟨_, q137⟩) (Or.inl rfl) h55 dX0_copy_43 ?_
          refine J.ifnullN (tgt := 68) dX0_copy_46 (by decide) ?_
          refine J.mask (lv' := [some (.ref this), none, some (.int p2), none, some (.int p4), some (.int p5), some (.ref a11), some (.ref a15), none]) [true, false, true, false, true, true, true, true, false] rfl ?_
          exact w_X0_copy_j68 hDl hRm hE hX0 hTab hf
        | some a54 =>
          refine J.getRs 3 1 in_X4 rfl (Nat.le_of_ble_eq_true rfl) (Or.inr ⟨_, q137⟩) (Or.inl rfl) h55 dX0_copy_43 ?_
          refine J.ifnullR dX0_copy_46 ?_
          refine J.aload dX0_copy_49 rfl ?_
          replace hf := jbd hf
          obtain ⟨v57, h58, hf⟩ := hf
          refine J.getI 3 0 in_X4 rfl (Nat.le_of_ble_eq_true rfl) (Or.inr ⟨_, q135⟩) (Or.inl rfl) h58 dX0_copy_51 ?_
          refine J.aload dX0_copy_54 rfl ?_
          replace hf := jbd hf
          obtain ⟨v59, h60, hf⟩ := hf
          refine J.getI 3 0 in_X4 rfl (Nat.le_of_ble_eq_true rfl) (Or.inr ⟨_, q135⟩) (Or.inl rfl) h60 dX0_copy_56 ?_
          refine J.icmp_eq (tgt := 68) dX0_copy_59 (by decide) (fun hc61 => ?_) (fun hc61 => ?_)
          · replace hf := (if_pos hc61).symm.trans hf
            refine J.mask (lv' := [some (.ref this), none, some (.int p2), none, some (.int p4), some (.int p5), some (.ref a11), some (.ref a15), none]) [true, false, true, false, true, true, true, true, false] rfl ?_
            exact w_X0_copy_j68 hDl hRm hE hX0 hTab hf
          · replace hf := (if_neg hc61).symm.trans hf
            refine J.aload_n (i := 0) dX0_copy_62 rfl rfl ?_
            refine J.iconst (v := 4) dX0_copy_63 (by decide) ?_
            replace hf := jbd hf
            obtain ⟨u62, h63, hf⟩ := hf
            replace hf := jbs hf
            obtain ⟨v66, hp65, h64, hf⟩ := hf
            refine J.callV (As := [.int 4]) (k2 := 0) (n2 := 0) 0 hDl hRm (w_X0_meets h64) (lw_V q776 q778 qs19 q39 q779) hd_X0_meets rfl ⟨_, h63⟩ rfl (Nat.le_of_ble_eq_true rfl) (Nat.le_of_ble_eq_true rfl) (Nat.le_of_ble_eq_true rfl) (Nat.le_of_ble_eq_true rfl) (Nat.le_of_ble_eq_true rfl) (Nat.le_of_ble_eq_true rfl) (Nat.le_of_ble_eq_true rfl) rfl dX0_copy_64 ?_
            obtain ⟨rfl, rfl⟩ := jso hf
            exact J.iret hE (Nat.le_of_ble_eq_true rfl) (Nat.le_of_ble_eq_true rfl) dX0_copy_67
    · replace hf := (if_pos hc8).symm.trans hf
      refine J.bipush (v := (-2)) dX0_copy_14 (by decide) ?_
      obtain ⟨rfl, rfl⟩ := jso hf
      exact J.iret hE (Nat.le_of_ble_eq_true rfl) (Nat.le_of_ble_eq_true rfl) dX0_copy_16
