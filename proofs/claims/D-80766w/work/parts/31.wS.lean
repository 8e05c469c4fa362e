/-! the small classes: walks (printed by gen/comp.py) -/
set_option maxRecDepth 100000
def rm_J0_init : Room := { frames := 1, cells := 0, slots := 0, locals := 24 }
theorem hi_J0_init : yJ0_init.name = "<init>" ∧ yJ0_init.cls ≠ "java/lang/invoke/MethodHandle" ∧ yJ0_init.cls ≠ "java/lang/invoke/VarHandle" ∧ (parseMethodDescriptor yJ0_init.desc).map (fun d => d.parameters.length) = some 0 := by decide +kernel
set_option maxHeartbeats 4000000 in
set_option maxRecDepth 100000 in
theorem w_J0_init {D : va_G} {l : Launch} {hp hpE : jH} {this : Nat} (hf : f_J0_init this hp = some hpE) : jM D l yJ0_init (ws_ yJ0_init cJ0_init 1 none) rm_J0_init hp [.ref this] none hpE := by
  refine jM.of (lv0 := [some (.ref this)]) (by decide) (Nat.le_of_ble_eq_true rfl) rfl (fun X hDl hRm hE hX0 => ?_)
  rw [f_J0_init] at hf
  refine J.aload_n (i := 0) dJ0_init_0 rfl rfl ?_
  refine J.objInit hRm q253 q73 q74 (Nat.le_of_ble_eq_true rfl) (Nat.le_of_ble_eq_true rfl) dJ0_init_1 ?_
  obtain rfl := Option.some.inj hf
  exact J.vret hE (Nat.le_of_ble_eq_true rfl) (Nat.le_of_ble_eq_true rfl) dJ0_init_4
def rm_J1_init : Room := { frames := 2, cells := 0, slots := 0, locals := 44 }
theorem hi_J1_init : yJ1_init.name = "<init>" ∧ yJ1_init.cls ≠ "java/lang/invoke/MethodHandle" ∧ yJ1_init.cls ≠ "java/lang/invoke/VarHandle" ∧ (parseMethodDescriptor yJ1_init.desc).map (fun d => d.parameters.length) = some 0 := by decide +kernel
set_option maxHeartbeats 4000000 in
set_option maxRecDepth 100000 in
theorem w_J1_init {D : va_G} {l : Launch} {hp hpE : jH} {this : Nat} (hf : f_J1_init this hp = some hpE) : jM D l yJ1_init (ws_ yJ1_init cJ1_init 1 none) rm_J1_init hp [.ref this] none hpE := by
  refine jM.of (lv0 := [some (.ref this)]) (by decide) (Nat.le_of_ble_eq_true rfl) rfl (fun X hDl hRm hE hX0 => ?_)
  rw [f_J1_init] at hf
  refine J.aload_n (i := 0) dJ1_init_0 rfl rfl ?_
  replace hf := jbd hf
  obtain ⟨hp2, h1, hf⟩ := hf
  refine J.callI (As := []) (k2 := 0) (n2 := 0) hDl hRm (w_J0_init h1) (lw_meth q252) q46 q250 q251 hi_J0_init rfl (Nat.le_of_ble_eq_true rfl) (Nat.le_of_ble_eq_true rfl) (Nat.le_of_ble_eq_true rfl) (Nat.le_of_ble_eq_true rfl) (Nat.le_of_ble_eq_true rfl) (Nat.le_of_ble_eq_true rfl) (Nat.le_of_ble_eq_true rfl) rfl dJ1_init_1 ?_
  refine J.aload_n (i := 0) dJ1_init_4 rfl rfl ?_
  refine J.iconst (v := 0) dJ1_init_5 (by decide) ?_
  replace hf := jbd hf
  obtain ⟨hp3, h4, hf⟩ := hf
  refine J.put (ty := .int) 5 0 in_J2 ap5 rfl (Nat.le_of_ble_eq_true rfl) (Or.inl q258) (Or.inl rfl) rfl (by decide +kernel) (fun _ => ⟨rfl, rfl⟩) h4 dJ1_init_6 ?_
  obtain rfl := Option.some.inj hf
  exact J.vret hE (Nat.le_of_ble_eq_true rfl) (Nat.le_of_ble_eq_true rfl) dJ1_init_9
def rm_J2_init : Room := { frames := 3, cells := 0, slots := 0, locals := 64 }
theorem hi_J2_init : yJ2_init.name = "<init>" ∧ yJ2_init.cls ≠ "java/lang/invoke/MethodHandle" ∧ yJ2_init.cls ≠ "java/lang/invoke/VarHandle" ∧ (parseMethodDescriptor yJ2_init.desc).map (fun d => d.parameters.length) = some 0 := by decide +kernel
set_option maxHeartbeats 4000000 in
set_option maxRecDepth 100000 in
theorem w_J2_init {D : va_G} {l : Launch} {hp hpE : jH} {this : Nat} (hf : f_J2_init this hp = some hpE) : jM D l yJ2_init (ws_ yJ2_init cJ2_init 1 none) rm_J2_init hp [.ref this] none hpE := by
  refine jM.of (lv0 := [some (.ref this)]) (by decide) (Nat.le_of_ble_eq_true rfl) rfl (fun X hDl hRm hE hX0 => ?_)
  rw [f_J2_init] at hf
  refine J.aload_n (i := 0) dJ2_init_0 rfl rfl ?_
  replace hf := jbd hf
  obtain ⟨hp2, h1, hf⟩ := hf
  refine J.callI (As := []) (k2 := 0) (n2 := 0) hDl hRm (w_J1_init h1) (lw_meth q249) q47 q247 q248 hi_J1_init rfl (Nat.le_of_ble_eq_true rfl) (Nat.le_of_ble_eq_true rfl) (Nat.le_of_ble_eq_true rfl) (Nat.le_of_ble_eq_true rfl) (Nat.le_of_ble_eq_true rfl) (Nat.le_of_ble_eq_true rfl) (Nat.le_of_ble_eq_true rfl) rfl dJ2_init_1 ?_
  refine J.aload_n (i := 0) dJ2_init_4 rfl rfl ?_
  replace hf := jbd hf
  obtain ⟨u4, h3, hf⟩ := hf
  refine J.getEMPTY q254 ⟨_, h3⟩ dJ2_init_5 ?_
  replace hf := jbd hf
  obtain ⟨hp5, h6, hf⟩ := hf
  refine J.put (ty := (.array (.object "java/lang/Object"))) 5 1 in_J2 ap5 rfl (Nat.le_of_ble_eq_true rfl) (Or.inl q256) (Or.inl rfl) rfl (by decide +kernel) (fun _ => ⟨rfl, rfl⟩) h6 dJ2_init_8 ?_
  obtain rfl := Option.some.inj hf
  exact J.vret hE (Nat.le_of_ble_eq_true rfl) (Nat.le_of_ble_eq_true rfl) dJ2_init_11
def rm_J2_size : Room := { frames := 0, cells := 0, slots := 0, locals := 0 }
theorem hd_J2_size : yJ2_size.cls = RJ2 ∧ yJ2_size.cls ≠ "java/lang/invoke/MethodHandle" ∧ yJ2_size.cls ≠ "java/lang/invoke/VarHandle" ∧ (parseMethodDescriptor yJ2_size.desc).map (fun d => d.parameters.length) = some 0 := by decide +kernel
set_option maxHeartbeats 4000000 in
set_option maxRecDepth 100000 in
theorem w_J2_size {D : va_G} {l : Launch} {hp hpE : jH} {rE : Int32} {this : Nat} (hf : f_J2_size this hp = some (rE, hpE)) : jM D l yJ2_size (ws_ yJ2_size cJ2_size 1 (some .int)) rm_J2_size hp [.ref this] (some (.int rE)) hpE := by
  refine jM.of (lv0 := [some (.ref this)]) (by decide) (Nat.le_of_ble_eq_true rfl) rfl (fun X hDl hRm hE hX0 => ?_)
  rw [f_J2_size] at hf
  refine J.aload_n (i := 0) dJ2_size_0 rfl rfl ?_
  replace hf := jbd hf
  obtain ⟨v1, h2, hf⟩ := hf
  refine J.getI 5 2 in_J2 rfl (Nat.le_of_ble_eq_true rfl) (Or.inl q257) (Or.inl rfl) h2 dJ2_size_1 ?_
  obtain ⟨rfl, rfl⟩ := jso hf
  exact J.iret hE (Nat.le_of_ble_eq_true rfl) (Nat.le_of_ble_eq_true rfl) dJ2_size_4
def rm_J5_checkIndex : Room := { frames := 0, cells := 0, slots := 0, locals := 0 }
theorem hs_J5_checkIndex : yJ5_checkIndex.cls ≠ "java/lang/invoke/MethodHandle" ∧ yJ5_checkIndex.cls ≠ "java/lang/invoke/VarHandle" ∧ (parseMethodDescriptor yJ5_checkIndex.desc).map (fun d => d.parameters.length) = some 3 := by decide +kernel
set_option maxHeartbeats 4000000 in
set_option maxRecDepth 100000 in
theorem w_J5_checkIndex {D : va_G} {l : Launch} {hp hpE : jH} {rE : Int32} {p1 : Int32} {p2 : Int32} (hf : f_J5_checkIndex p1 p2 hp = some (rE, hpE)) : jM D l yJ5_checkIndex (ws_ yJ5_checkIndex cJ5_checkIndex 3 (some .int)) rm_J5_checkIndex hp [.int p1, .int p2, .null] (some (.int rE)) hpE := by
  refine jM.of (lv0 := [some (.int p1), some (.int p2), some (.null)]) (by decide) (Nat.le_of_ble_eq_true rfl) rfl (fun X hDl hRm hE hX0 => ?_)
  rw [f_J5_checkIndex] at hf
  refine J.iload_n (i := 0) dJ5_checkIndex_0 rfl rfl ?_
  refine J.if_lt (tgt := 9) dJ5_checkIndex_1 (by decide) (fun hc1 => ?_) (fun hc1 => ?_)
  · replace hf := (if_pos hc1).symm.trans hf
    cases hf
  · replace hf := (if_neg hc1).symm.trans hf
    refine J.iload_n (i := 0) dJ5_checkIndex_4 rfl rfl ?_
    refine J.iload_n (i := 1) dJ5_checkIndex_5 rfl rfl ?_
    refine J.icmp_lt (tgt := 16) dJ5_checkIndex_6 (by decide) (fun hc2 => ?_) (fun hc2 => ?_)
    · replace hf := (if_pos hc2).symm.trans hf
      refine J.iload_n (i := 0) dJ5_checkIndex_16 rfl rfl ?_
      obtain ⟨rfl, rfl⟩ := jso hf
      exact J.iret hE (Nat.le_of_ble_eq_true rfl) (Nat.le_of_ble_eq_true rfl) dJ5_checkIndex_17
    · replace hf := (if_neg hc2).symm.trans hf
      cases hf
def rm_J4_checkIndex : Room := { frames := 1, cells := 0, slots := 0, locals := 22 }
theorem hs_J4_checkIndex : yJ4_checkIndex.cls ≠ "java/lang/invoke/MethodHandle" ∧ yJ4_checkIndex.cls ≠ "java/lang/invoke/VarHandle" ∧ (parseMethodDescriptor yJ4_checkIndex.desc).map (fun d => d.parameters.length) = some 2 := by decide +kernel
set_option maxHeartbeats 4000000 in
set_option maxRecDepth 100000 in
theorem w_J4_checkIndex {D : va_G} {l : Launch} {hp hpE : jH} {rE : Int32} {p1 : Int32} {p2 : Int32} (hf : f_J4_checkIndex p1 p2 hp = some (rE, hpE)) : jM D l yJ4_checkIndex (ws_ yJ4_checkIndex cJ4_checkIndex 2 (some .int)) rm_J4_checkIndex hp [.int p1, .int p2] (some (.int rE)) hpE := by
  refine jM.of (lv0 := [some (.int p1), some (.int p2)]) (by decide) (Nat.le_of_ble_eq_true rfl) rfl (fun X hDl hRm hE hX0 => ?_)
  rw [f_J4_checkIndex] at hf
  refine J.iload_n (i := 0) dJ4_checkIndex_0 rfl rfl ?_
  refine J.iload_n (i := 1) dJ4_checkIndex_1 rfl rfl ?_
  refine J.null dJ4_checkIndex_2 ?_
  replace hf := jbs hf
  obtain ⟨v3, hp2, h1, hf⟩ := hf
  refine J.callS (As := [.int p1, .int p2, .null]) (k2 := 0) (n2 := 0) hDl hRm (w_J5_checkIndex h1) (lw_S q460 q461 q53 q462) hs_J5_checkIndex rfl (Nat.le_of_ble_eq_true rfl) (Nat.le_of_ble_eq_true rfl) (Nat.le_of_ble_eq_true rfl) (Nat.le_of_ble_eq_true rfl) (Nat.le_of_ble_eq_true rfl) (Nat.le_of_ble_eq_true rfl) (Nat.le_of_ble_eq_true rfl) rfl dJ4_checkIndex_3 ?_
  obtain ⟨rfl, rfl⟩ := jso hf
  exact J.iret hE (Nat.le_of_ble_eq_true rfl) (Nat.le_of_ble_eq_true rfl) dJ4_checkIndex_6
def rm_J2_elementData : Room := { frames := 0, cells := 0, slots := 0, locals := 0 }
theorem hd_J2_elementData : yJ2_elementData.cls = RJ2 ∧ yJ2_elementData.cls ≠ "java/lang/invoke/MethodHandle" ∧ yJ2_elementData.cls ≠ "java/lang/invoke/VarHandle" ∧ (parseMethodDescriptor yJ2_elementData.desc).map (fun d => d.parameters.length) = some 1 := by decide +kernel
set_option maxHeartbeats 4000000 in
set_option maxRecDepth 100000 in
theorem w_J2_elementData {D : va_G} {l : Launch} {hp hpE : jH} {rE : Nat} {this : Nat} {p1 : Int32} (hf : f_J2_elementData this p1 hp = some (rE, hpE)) : jM D l yJ2_elementData (ws_ yJ2_elementData cJ2_elementData 2 (some (.object "java/lang/Object"))) rm_J2_elementData hp [.ref this, .int p1] (some (.ref rE)) hpE := by
  refine jM.of (lv0 := [some (.ref this), some (.int p1)]) (by decide) (Nat.le_of_ble_eq_true rfl) rfl (fun X hDl hRm hE hX0 => ?_)
  rw [f_J2_elementData] at hf
  refine J.aload_n (i := 0) dJ2_elementData_0 rfl rfl ?_
  replace hf := jbd hf
  obtain ⟨a1, h2, hf⟩ := hf
  refine J.getA 5 1 in_J2 rfl (Nat.le_of_ble_eq_true rfl) (Or.inl q256) (Or.inl rfl) h2 dJ2_elementData_1 ?_
  refine J.iload_n (i := 1) dJ2_elementData_4 rfl rfl ?_
  replace hf := jbd hf
  obtain ⟨a3, h4, hf⟩ := hf
  refine J.aaldA h4 dJ2_elementData_5 ?_
  obtain ⟨rfl, rfl⟩ := jso hf
  exact J.aret hE (by first | exact Or.inl ⟨_, rfl⟩ | exact Or.inr ⟨_, rfl⟩) (Nat.le_of_ble_eq_true rfl) (Nat.le_of_ble_eq_true rfl) dJ2_elementData_6
def rm_J2_get : Room := { frames := 2, cells := 0, slots := 0, locals := 43 }
theorem hd_J2_get : yJ2_get.cls = RJ2 ∧ yJ2_get.cls ≠ "java/lang/invoke/MethodHandle" ∧ yJ2_get.cls ≠ "java/lang/invoke/VarHandle" ∧ (parseMethodDescriptor yJ2_get.desc).map (fun d => d.parameters.length) = some 1 := by decide +kernel
set_option maxHeartbeats 4000000 in
set_option maxRecDepth 100000 in
theorem w_J2_get {D : va_G} {l : Launch} {hp hpE : jH} {rE : Nat} {this : Nat} {p1 : Int32} (hf : f_J2_get this p1 hp = some (rE, hpE)) : jM D l yJ2_get (ws_ yJ2_get cJ2_get 2 (some (.object "java/lang/Object"))) rm_J2_get hp [.ref this, .int p1] (some (.ref rE)) hpE := by
  refine jM.of (lv0 := [some (.ref this), some (.int p1)]) (by decide) (Nat.le_of_ble_eq_true rfl) rfl (fun X hDl hRm hE hX0 => ?_)
  rw [f_J2_get] at hf
  refine J.iload_n (i := 1) dJ2_get_0 rfl rfl ?_
  refine J.aload_n (i := 0) dJ2_get_1 rfl rfl ?_
  replace hf := jbd hf
  obtain ⟨v1, h2, hf⟩ := hf
  refine J.getI 5 2 in_J2 rfl (Nat.le_of_ble_eq_true rfl) (Or.inl q257) (Or.inl rfl) h2 dJ2_get_2 ?_
  replace hf := jbs hf
  obtain ⟨v5, hp4, h3, hf⟩ := hf
  refine J.callS (As := [.int p1, .int v1]) (k2 := 0) (n2 := 0) hDl hRm (w_J4_checkIndex h3) (lw_S q457 q458 q52 q459) hs_J4_checkIndex rfl (Nat.le_of_ble_eq_true rfl) (Nat.le_of_ble_eq_true rfl) (Nat.le_of_ble_eq_true rfl) (Nat.le_of_ble_eq_true rfl) (Nat.le_of_ble_eq_true rfl) (Nat.le_of_ble_eq_true rfl) (Nat.le_of_ble_eq_true rfl) rfl dJ2_get_5 ?_
  refine J.pop dJ2_get_8 rfl ?_
  refine J.aload_n (i := 0) dJ2_get_9 rfl rfl ?_
  refine J.iload_n (i := 1) dJ2_get_10 rfl rfl ?_
  replace hf := jbd hf
  obtain ⟨u6, h7, hf⟩ := hf
  replace hf := jbs hf
  obtain ⟨a10, hp9, h8, hf⟩ := hf
  refine J.callV (As := [.int p1]) (k2 := 0) (n2 := 0) 5 hDl hRm (w_J2_elementData h8) (lw_V q463 q464 q465 q48 q466) hd_J2_elementData rfl ⟨_, h7⟩ rfl (Nat.le_of_ble_eq_true rfl) (Nat.le_of_ble_eq_true rfl) (Nat.le_of_ble_eq_true rfl) (Nat.le_of_ble_eq_true rfl) (Nat.le_of_ble_eq_true rfl) (Nat.le_of_ble_eq_true rfl) (Nat.le_of_ble_eq_true rfl) rfl dJ2_get_11 ?_
  obtain ⟨rfl, rfl⟩ := jso hf
  exact J.aret hE (by first | exact Or.inl ⟨_, rfl⟩ | exact Or.inr ⟨_, rfl⟩) (Nat.le_of_ble_eq_true rfl) (Nat.le_of_ble_eq_true rfl) dJ2_get_14
def rm_J2_grow_2 : Room := { frames := 1, cells := 1, slots := 10, locals := 24 }
theorem hd_J2_grow_2 : yJ2_grow_2.cls = RJ2 ∧ yJ2_grow_2.cls ≠ "java/lang/invoke/MethodHandle" ∧ yJ2_grow_2.cls ≠ "java/lang/invoke/VarHandle" ∧ (parseMethodDescriptor yJ2_grow_2.desc).map (fun d => d.parameters.length) = some 1 := by decide +kernel
set_option maxHeartbeats 4000000 in
set_option maxRecDepth 100000 in
theorem w_J2_grow_2 {D : va_G} {l : Launch} {hp hpE : jH} {rE : Nat} {this : Nat} {p1 : Int32} (hf : f_J2_grow_2 this p1 hp = some (rE, hpE)) : jM D l yJ2_grow_2 (ws_ yJ2_grow_2 cJ2_grow_2 4 (some (.array (.object "java/lang/Object")))) rm_J2_grow_2 hp [.ref this, .int p1] (some (.ref rE)) hpE := by
  refine jM.of (lv0 := [some (.ref this), some (.int p1), none, none]) (by decide) (Nat.le_of_ble_eq_true rfl) rfl (fun X hDl hRm hE hX0 => ?_)
  rw [f_J2_grow_2] at hf
  refine J.aload_n (i := 0) dJ2_grow_2_0 rfl rfl ?_
  replace hf := jbd hf
  obtain ⟨a1, h2, hf⟩ := hf
  refine J.getA 5 1 in_J2 rfl (Nat.le_of_ble_eq_true rfl) (Or.inl q256) (Or.inl rfl) h2 dJ2_grow_2_1 ?_
  replace hf := jbd hf
  obtain ⟨v3, h4, hf⟩ := hf
  refine J.alen h4 dJ2_grow_2_4 ?_
  refine J.istore_n (i := 2) (lv' := [some (.ref this), some (.int p1), some (.int v3), none]) dJ2_grow_2_5 rfl (Nat.le_of_ble_eq_true rfl) rfl ?_
  refine J.iload_n (i := 2) dJ2_grow_2_6 rfl rfl ?_
  refine J.if_gt (tgt := 20) dJ2_grow_2_7 (by decide) (fun hc5 => ?_) (fun hc5 => ?_)
  · replace hf := (if_pos hc5).symm.trans hf
    cases hf
  · replace hf := (if_neg hc5).symm.trans hf
    refine J.aload_n (i := 0) dJ2_grow_2_10 rfl rfl ?_
    replace hf := jbd hf
    obtain ⟨a6, h7, hf⟩ := hf
    refine J.getA 5 1 in_J2 rfl (Nat.le_of_ble_eq_true rfl) (Or.inl q256) (Or.inl rfl) h7 dJ2_grow_2_11 ?_
    replace hf := jbd hf
    obtain ⟨u9, h8, hf⟩ := hf
    refine J.getEMPTY q254 ⟨_, h8⟩ dJ2_grow_2_14 ?_
    refine J.acmp_eq (tgt := 45) dJ2_grow_2_17 (by decide) (fun hc10 => ?_) (fun hc10 => ?_)
    · replace hf := (if_pos hc10).symm.trans hf
      refine J.aload_n (i := 0) dJ2_grow_2_45 rfl rfl ?_
      refine J.bipush (v := 10) dJ2_grow_2_46 (by decide) ?_
      refine J.iload_n (i := 1) dJ2_grow_2_48 rfl rfl ?_
      refine J.mmax hRm q554 q415 q51 q416 (Nat.le_of_ble_eq_true rfl) (Nat.le_of_ble_eq_true rfl) (Nat.le_of_ble_eq_true rfl) (Nat.le_of_ble_eq_true rfl) dJ2_grow_2_49 ?_
      by_cases hz13 : ¬ ((jmax 10 p1) = (10 : Int32))
      · replace hf := (if_pos hz13).symm.trans hf
        cases hf
      replace hf := (if_neg hz13).symm.trans hf
      replace hz13 := Decidable.not_not.mp hz13
      replace hf := jbd hf
      obtain ⟨hp11, h12, hf⟩ := hf
      refine J.newq (N := 10) (k2 := 1) (n2 := 10) hRm q555 q548 (by rw [hz13]; decide) (by rw [hz13]; decide) (Nat.le_of_ble_eq_true rfl) (Nat.le_of_ble_eq_true rfl) (Nat.le_of_ble_eq_true rfl) (Nat.le_of_ble_eq_true rfl) (Nat.le_of_ble_eq_true rfl) h12 dJ2_grow_2_52 ?_
      refine J.dup_x1 dJ2_grow_2_55 rfl rfl ?_
      replace hf := jbd hf
      obtain ⟨hp14, h15, hf⟩ := hf
      refine J.put (ty := (.array (.object "java/lang/Object"))) 5 1 in_J2 ap5 rfl (Nat.le_of_ble_eq_true rfl) (Or.inl q256) (Or.inl rfl) rfl (by decide +kernel) (fun _ => ⟨rfl, rfl⟩) h15 dJ2_grow_2_56 ?_
      obtain ⟨rfl, rfl⟩ := jso hf
      exact J.aret hE (by first | exact Or.inl ⟨_, rfl⟩ | exact Or.inr ⟨_, rfl⟩) (Nat.le_of_ble_eq_true rfl) (Nat.le_of_ble_eq_true rfl) dJ2_grow_2_59
    · replace hf := (if_neg hc10).symm.trans hf
      cases hf
def rm_J2_grow : Room := { frames := 2, cells := 1, slots := 10, locals := 47 }
theorem hd_J2_grow : yJ2_grow.cls = RJ2 ∧ yJ2_grow.cls ≠ "java/lang/invoke/MethodHandle" ∧ yJ2_grow.cls ≠ "java/lang/invoke/VarHandle" ∧ (parseMethodDescriptor yJ2_grow.desc).map (fun d => d.parameters.length) = some 0 := by decide +kernel
set_option maxHeartbeats 4000000 in
set_option maxRecDepth 100000 in
theorem w_J2_grow {D : va_G} {l : Launch} {hp hpE : jH} {rE : Nat} {this : Nat} (hf : f_J2_grow this hp = some (rE, hpE)) : jM D l yJ2_grow (ws_ yJ2_grow cJ2_grow 1 (some (.array (.object "java/lang/Object")))) rm_J2_grow hp [.ref this] (some (.ref rE)) hpE := by
  refine jM.of (lv0 := [some (.ref this)]) (by decide) (Nat.le_of_ble_eq_true rfl) rfl (fun X hDl hRm hE hX0 => ?_)
  rw [f_J2_grow] at hf
  refine J.aload_n (i := 0) dJ2_grow_0 rfl rfl ?_
  refine J.aload_n (i := 0) dJ2_grow_1 rfl rfl ?_
  replace hf := jbd hf
  obtain ⟨v1, h2, hf⟩ := hf
  refine J.getI 5 2 in_J2 rfl (Nat.le_of_ble_eq_true rfl) (Or.inl q257) (Or.inl rfl) h2 dJ2_grow_2 ?_
  refine J.iconst (v := 1) dJ2_grow_5 (by decide) ?_
  refine J.iadd dJ2_grow_6 ?_
  replace hf := jbd hf
  obtain ⟨u3, h4, hf⟩ := hf
  replace hf := jbs hf
  obtain ⟨a7, hp6, h5, hf⟩ := hf
  refine J.callV (As := [.int (v1 + 1)]) (k2 := 1) (n2 := 10) 5 hDl hRm (w_J2_grow_2 h5) (lw_V q511 q513 qs10 q48 q514) hd_J2_grow_2 rfl ⟨_, h4⟩ rfl (Nat.le_of_ble_eq_true rfl) (Nat.le_of_ble_eq_true rfl) (Nat.le_of_ble_eq_true rfl) (Nat.le_of_ble_eq_true rfl) (Nat.le_of_ble_eq_true rfl) (Nat.le_of_ble_eq_true rfl) (Nat.le_of_ble_eq_true rfl) rfl dJ2_grow_7 ?_
  obtain ⟨rfl, rfl⟩ := jso hf
  exact J.aret hE (by first | exact Or.inl ⟨_, rfl⟩ | exact Or.inr ⟨_, rfl⟩) (Nat.le_of_ble_eq_true rfl) (Nat.le_of_ble_eq_true rfl) dJ2_grow_10
def rm_J2_add_2 : Room := { frames := 3, cells := 1, slots := 10, locals := 67 }
theorem hd_J2_add_2 : yJ2_add_2.cls = RJ2 ∧ yJ2_add_2.cls ≠ "java/lang/invoke/MethodHandle" ∧ yJ2_add_2.cls ≠ "java/lang/invoke/VarHandle" ∧ (parseMethodDescriptor yJ2_add_2.desc).map (fun d => d.parameters.length) = some 3 := by decide +kernel
set_option maxHeartbeats 4000000 in
set_option maxRecDepth 100000 in
theorem w_J2_add_2_j11 {D : va_G} {l : Launch} {X : jX} {hp0 hpE : jH} (hDl : jDl X D l) (hRm : jRoom X rm_J2_add_2.frames rm_J2_add_2.locals rm_J2_add_2.cells rm_J2_add_2.slots) (hE : jEnds X none none hpE rm_J2_add_2.cells rm_J2_add_2.slots) (hX0 : jX0 X hp0) {xa_0 : Nat} {xa_1 : Nat} {xa_2 : Nat} {xi_3 : Int32} {hp : jH} (hf : f_J2_add_2_j11 xa_0 xa_1 xa_2 xi_3 hp = some hpE) : J X cJ2_add_2 4 yJ2_add_2 1 10 11 [some (.ref xa_0), some (.ref xa_1), some (.ref xa_2), some (.int xi_3)] [] hp := by
  rw [f_J2_add_2_j11] at hf
  refine J.aload_n (i := 2) dJ2_add_2_11 rfl rfl ?_
  refine J.iload_n (i := 3) dJ2_add_2_12 rfl rfl ?_
  refine J.aload_n (i := 1) dJ2_add_2_13 rfl rfl ?_
  replace hf := jbd hf
  obtain ⟨hp4, h5, hf⟩ := hf
  refine J.aast (ci := 8) rfl (Or.inr q1279) h5 dJ2_add_2_14 ?_
  refine J.aload_n (i := 0) dJ2_add_2_15 rfl rfl ?_
  refine J.iload_n (i := 3) dJ2_add_2_16 rfl rfl ?_
  refine J.iconst (v := 1) dJ2_add_2_17 (by decide) ?_
  refine J.iadd dJ2_add_2_18 ?_
  replace hf := jbd hf
  obtain ⟨hp6, h7, hf⟩ := hf
  refine J.put (ty := .int) 5 2 in_J2 ap5 rfl (Nat.le_of_ble_eq_true rfl) (Or.inl q257) (Or.inl rfl) rfl (by decide +kernel) (fun _ => ⟨rfl, rfl⟩) h7 dJ2_add_2_19 ?_
  obtain rfl := Option.some.inj hf
  exact J.vret hE (Nat.le_of_ble_eq_true rfl) (Nat.le_of_ble_eq_true rfl) dJ2_add_2_22
set_option maxHeartbeats 4000000 in
set_option maxRecDepth 100000 in
theorem w_J2_add_2 {D : va_G} {l : Launch} {hp hpE : jH} {this : Nat} {p1 : Nat} {p2 : Nat} {p3 : Int32} (hf : f_J2_add_2 this p1 p2 p3 hp = some hpE) : jM D l yJ2_add_2 (ws_ yJ2_add_2 cJ2_add_2 4 none) rm_J2_add_2 hp [.ref this, .ref p1, .ref p2, .int p3] none hpE := by
  refine jM.of (lv0 := [some (.ref this), some (.ref p1), some (.ref p2), some (.int p3)]) (by decide) (Nat.le_of_ble_eq_true rfl) rfl (fun X hDl hRm hE hX0 => ?_)
  rw [f_J2_add_2] at hf
  refine J.iload_n (i := 3) dJ2_add_2_0 rfl rfl ?_
  refine J.aload_n (i := 2) dJ2_add_2_1 rfl rfl ?_
  replace hf := jbd hf
  obtain ⟨v1, h2, hf⟩ := hf
  refine J.alen h2 dJ2_add_2_2 ?_
  refine J.icmp_ne (tgt := 11) dJ2_add_2_3 (by decide) (fun hc3 => ?_) (fun hc3 => ?_)
  · replace hf := (if_neg hc3).symm.trans hf
    refine J.widen (k2 := 1) (n2 := 10) (Nat.le_of_ble_eq_true rfl) (Nat.le_of_ble_eq_true rfl) ?_
    exact w_J2_add_2_j11 hDl hRm hE hX0 hf
  · replace hf := (if_pos hc3).symm.trans hf
    refine J.aload_n (i := 0) dJ2_add_2_6 rfl rfl ?_
    replace hf := jbd hf
    obtain ⟨u8, h9, hf⟩ := hf
    replace hf := jbs hf
    obtain ⟨a12, hp11, h10, hf⟩ := hf
    refine J.callV (As := []) (k2 := 1) (n2 := 10) 5 hDl hRm (w_J2_grow h10) (lw_V q507 q509 qs9 q48 q510) hd_J2_grow rfl ⟨_, h9⟩ rfl (Nat.le_of_ble_eq_true rfl) (Nat.le_of_ble_eq_true rfl) (Nat.le_of_ble_eq_true rfl) (Nat.le_of_ble_eq_true rfl) (Nat.le_of_ble_eq_true rfl) (Nat.le_of_ble_eq_true rfl) (Nat.le_of_ble_eq_true rfl) rfl dJ2_add_2_7 ?_
    refine J.astore_n (i := 2) (lv' := [some (.ref this), some (.ref p1), some (.ref a12), some (.int p3)]) dJ2_add_2_10 rfl (Nat.le_of_ble_eq_true rfl) rfl ?_
    exact w_J2_add_2_j11 hDl hRm hE hX0 hf
def rm_J2_add : Room := { frames := 4, cells := 1, slots := 10, locals := 90 }
theorem hd_J2_add : yJ2_add.cls = RJ2 ∧ yJ2_add.cls ≠ "java/lang/invoke/MethodHandle" ∧ yJ2_add.cls ≠ "java/lang/invoke/VarHandle" ∧ (parseMethodDescriptor yJ2_add.desc).map (fun d => d.parameters.length) = some 1 := by decide +kernel
set_option maxHeartbeats 4000000 in
set_option maxRecDepth 100000 in
theorem w_J2_add {D : va_G} {l : Launch} {hp hpE : jH} {rE : Int32} {this : Nat} {p1 : Nat} (hf : f_J2_add this p1 hp = some (rE, hpE)) : jM D l yJ2_add (ws_ yJ2_add cJ2_add 2 (some .boolean)) rm_J2_add hp [.ref this, .ref p1] (some (.int rE)) hpE := by
  refine jM.of (lv0 := [some (.ref this), some (.ref p1)]) (by decide) (Nat.le_of_ble_eq_true rfl) rfl (fun X hDl hRm hE hX0 => ?_)
  rw [f_J2_add] at hf
  refine J.aload_n (i := 0) dJ2_add_0 rfl rfl ?_
  refine J.dup dJ2_add_1 rfl ?_
  replace hf := jbd hf
  obtain ⟨v1, h2, hf⟩ := hf
  refine J.getI 5 0 in_J2 rfl (Nat.le_of_ble_eq_true rfl) (Or.inl q259) (Or.inr q260) h2 dJ2_add_2 ?_
  refine J.iconst (v := 1) dJ2_add_5 (by decide) ?_
  refine J.iadd dJ2_add_6 ?_
  replace hf := jbd hf
  obtain ⟨hp3, h4, hf⟩ := hf
  refine J.put (ty := .int) 5 0 in_J2 ap5 rfl (Nat.le_of_ble_eq_true rfl) (Or.inl q259) (Or.inr q260) rfl (by decide +kernel) (fun _ => ⟨rfl, rfl⟩) h4 dJ2_add_7 ?_
  refine J.aload_n (i := 0) dJ2_add_10 rfl rfl ?_
  refine J.aload_n (i := 1) dJ2_add_11 rfl rfl ?_
  refine J.aload_n (i := 0) dJ2_add_12 rfl rfl ?_
  replace hf := jbd hf
  obtain ⟨a5, h6, hf⟩ := hf
  refine J.getA 5 1 in_J2 rfl (Nat.le_of_ble_eq_true rfl) (Or.inl q256) (Or.inl rfl) h6 dJ2_add_13 ?_
  refine J.aload_n (i := 0) dJ2_add_16 rfl rfl ?_
  replace hf := jbd hf
  obtain ⟨v7, h8, hf⟩ := hf
  refine J.getI 5 2 in_J2 rfl (Nat.le_of_ble_eq_true rfl) (Or.inl q257) (Or.inl rfl) h8 dJ2_add_17 ?_
  replace hf := jbd hf
  obtain ⟨u9, h10, hf⟩ := hf
  replace hf := jbd hf
  obtain ⟨hp12, h11, hf⟩ := hf
  refine J.callV (As := [.ref p1, .ref a5, .int v7]) (k2 := 1) (n2 := 10) 5 hDl hRm (w_J2_add_2 h11) (lw_V q503 q505 qs8 q48 q506) hd_J2_add_2 rfl ⟨_, h10⟩ rfl (Nat.le_of_ble_eq_true rfl) (Nat.le_of_ble_eq_true rfl) (Nat.le_of_ble_eq_true rfl) (Nat.le_of_ble_eq_true rfl) (Nat.le_of_ble_eq_true rfl) (Nat.le_of_ble_eq_true rfl) (Nat.le_of_ble_eq_true rfl) rfl dJ2_add_20 ?_
  refine J.iconst (v := 1) dJ2_add_23 (by decide) ?_
  obtain ⟨rfl, rfl⟩ := jso hf
  exact J.zret hE narrow_b1 (Nat.le_of_ble_eq_true rfl) (Nat.le_of_ble_eq_true rfl) dJ2_add_24
def rm_X9_init : Room := { frames := 1, cells := 0, slots := 0, locals := 24 }
theorem hi_X9_init : yX9_init.name = "<init>" ∧ yX9_init.cls ≠ "java/lang/invoke/MethodHandle" ∧ yX9_init.cls ≠ "java/lang/invoke/VarHandle" ∧ (parseMethodDescriptor yX9_init.desc).map (fun d => d.parameters.length) = some 2 := by decide +kernel
set_option maxHeartbeats 4000000 in
set_option maxRecDepth 100000 in
theorem w_X9_init {D : va_G} {l : Launch} {hp hpE : jH} {this : Nat} {p1 : Int32} {p2 : Int32} (hf : f_X9_init this p1 p2 hp = some hpE) : jM D l yX9_init (ws_ yX9_init cX9_init 3 none) rm_X9_init hp [.ref this, .int p1, .int p2] none hpE := by
  refine jM.of (lv0 := [some (.ref this), some (.int p1), some (.int p2)]) (by decide) (Nat.le_of_ble_eq_true rfl) rfl (fun X hDl hRm hE hX0 => ?_)
  rw [f_X9_init] at hf
  refine J.aload_n (i := 0) dX9_init_0 rfl rfl ?_
  refine J.objInit hRm q489 q73 q74 (Nat.le_of_ble_eq_true rfl) (Nat.le_of_ble_eq_true rfl) dX9_init_1 ?_
  refine J.aload_n (i := 0) dX9_init_4 rfl rfl ?_
  refine J.iload_n (i := 1) dX9_init_5 rfl rfl ?_
  replace hf := jbd hf
  obtain ⟨hp1, h2, hf⟩ := hf
  refine J.putF (ty := .int) 8 0 in_X9 ap8 rfl (Nat.le_of_ble_eq_true rfl) q490 rfl rfl rfl rfl (by decide +kernel) (fun _ => ⟨rfl, rfl⟩) h2 dX9_init_6 ?_
  refine J.aload_n (i := 0) dX9_init_9 rfl rfl ?_
  refine J.iload_n (i := 2) dX9_init_10 rfl rfl ?_
  replace hf := jbd hf
  obtain ⟨hp3, h4, hf⟩ := hf
  refine J.put (ty := .int) 8 1 in_X9 ap8 rfl (Nat.le_of_ble_eq_true rfl) (Or.inl q492) (Or.inl rfl) rfl (by decide +kernel) (fun _ => ⟨rfl, rfl⟩) h4 dX9_init_11 ?_
  obtain rfl := Option.some.inj hf
  exact J.vret hE (Nat.le_of_ble_eq_true rfl) (Nat.le_of_ble_eq_true rfl) dX9_init_14
def rm_X6_init : Room := { frames := 4, cells := 1, slots := 3, locals := 84 }
theorem hi_X6_init : yX6_init.name = "<init>" ∧ yX6_init.cls ≠ "java/lang/invoke/MethodHandle" ∧ yX6_init.cls ≠ "java/lang/invoke/VarHandle" ∧ (parseMethodDescriptor yX6_init.desc).map (fun d => d.parameters.length) = some 4 := by decide +kernel
set_option maxHeartbeats 4000000 in
set_option maxRecDepth 100000 in
theorem w_X6_init {D : va_G} {l : Launch} {hp hpE : jH} {this : Nat} {p1 : Int32} {p2 : Int32} {p3 : Int32} {p4 : Int32} (hf : f_X6_init this p1 p2 p3 p4 hp = some hpE) : jM D l yX6_init (ws_ yX6_init cX6_init 5 none) rm_X6_init hp [.ref this, .int p1, .int p2, .int p3, .int p4] none hpE := by
  refine jM.of (lv0 := [some (.ref this), some (.int p1), some (.int p2), some (.int p3), some (.int p4)]) (by decide) (Nat.le_of_ble_eq_true rfl) rfl (fun X hDl hRm hE hX0 => ?_)
  rw [f_X6_init] at hf
  refine J.aload_n (i := 0) dX6_init_0 rfl rfl ?_
  refine J.objInit hRm q241 q73 q74 (Nat.le_of_ble_eq_true rfl) (Nat.le_of_ble_eq_true rfl) dX6_init_1 ?_
  refine J.aload_n (i := 0) dX6_init_4 rfl rfl ?_
  replace hf := jbd hf
  obtain ⟨hp1, h2, hf⟩ := hf
  refine J.new (fs := [.int 0, .null, .int 0]) (k2 := 1) (n2 := 3) 5 hRm in_J2 tyJ2 tyJ2_ok rfl q242 q243 q48 (by decide +kernel) (fun _ => rfl) rfl (Nat.le_of_ble_eq_true rfl) (Nat.le_of_ble_eq_true rfl) (Nat.le_of_ble_eq_true rfl) (Nat.le_of_ble_eq_true rfl) h2 dX6_init_5 ?_
  refine J.dup dX6_init_8 rfl ?_
  replace hf := jbd hf
  obtain ⟨hp4, h3, hf⟩ := hf
  refine J.callI (As := []) (k2 := 1) (n2 := 3) hDl hRm (w_J2_init h3) (lw_meth q246) q48 q244 q245 hi_J2_init rfl (Nat.le_of_ble_eq_true rfl) (Nat.le_of_ble_eq_true rfl) (Nat.le_of_ble_eq_true rfl) (Nat.le_of_ble_eq_true rfl) (Nat.le_of_ble_eq_true rfl) (Nat.le_of_ble_eq_true rfl) (Nat.le_of_ble_eq_true rfl) rfl dX6_init_9 ?_
  replace hf := jbd hf
  obtain ⟨hp5, h6, hf⟩ := hf
  refine J.putF (ty := (.object "java/util/ArrayList")) 4 4 in_X6 ap4 rfl (Nat.le_of_ble_eq_true rfl) q276 rfl rfl rfl rfl (by decide +kernel) (fun _ => ⟨rfl, rfl⟩) h6 dX6_init_12 ?_
  refine J.aload_n (i := 0) dX6_init_15 rfl rfl ?_
  refine J.iload_n (i := 1) dX6_init_16 rfl rfl ?_
  replace hf := jbd hf
  obtain ⟨hp7, h8, hf⟩ := hf
  refine J.putF (ty := .int) 4 0 in_X6 ap4 rfl (Nat.le_of_ble_eq_true rfl) q268 rfl rfl rfl rfl (by decide +kernel) (fun _ => ⟨rfl, rfl⟩) h8 dX6_init_17 ?_
  refine J.aload_n (i := 0) dX6_init_20 rfl rfl ?_
  refine J.iload_n (i := 2) dX6_init_21 rfl rfl ?_
  replace hf := jbd hf
  obtain ⟨hp9, h10, hf⟩ := hf
  refine J.putF (ty := .int) 4 1 in_X6 ap4 rfl (Nat.le_of_ble_eq_true rfl) q270 rfl rfl rfl rfl (by decide +kernel) (fun _ => ⟨rfl, rfl⟩) h10 dX6_init_22 ?_
  refine J.aload_n (i := 0) dX6_init_25 rfl rfl ?_
  refine J.iload_n (i := 3) dX6_init_26 rfl rfl ?_
  replace hf := jbd hf
  obtain ⟨hp11, h12, hf⟩ := hf
  refine J.putF (ty := .int) 4 2 in_X6 ap4 rfl (Nat.le_of_ble_eq_true rfl) q272 rfl rfl rfl rfl (by decide +kernel) (fun _ => ⟨rfl, rfl⟩) h12 dX6_init_27 ?_
  refine J.aload_n (i := 0) dX6_init_30 rfl rfl ?_
  refine J.iload dX6_init_31 rfl ?_
  replace hf := jbd hf
  obtain ⟨hp13, h14, hf⟩ := hf
  refine J.putF (ty := .int) 4 3 in_X6 ap4 rfl (Nat.le_of_ble_eq_true rfl) q274 rfl rfl rfl rfl (by decide +kernel) (fun _ => ⟨rfl, rfl⟩) h14 dX6_init_33 ?_
  obtain rfl := Option.some.inj hf
  exact J.vret hE (Nat.le_of_ble_eq_true rfl) (Nat.le_of_ble_eq_true rfl) dX6_init_36
def rm_X7_init : Room := { frames := 1, cells := 0, slots := 0, locals := 24 }
theorem hi_X7_init : yX7_init.name = "<init>" ∧ yX7_init.cls ≠ "java/lang/invoke/MethodHandle" ∧ yX7_init.cls ≠ "java/lang/invoke/VarHandle" ∧ (parseMethodDescriptor yX7_init.desc).map (fun d => d.parameters.length) = some 3 := by decide +kernel
set_option maxHeartbeats 4000000 in
set_option maxRecDepth 100000 in
theorem w_X7_init {D : va_G} {l : Launch} {hp hpE : jH} {this : Nat} {p1 : Int32} {p2 : Nat} {p3 : Int32} (hf : f_X7_init this p1 p2 p3 hp = some hpE) : jM D l yX7_init (ws_ yX7_init cX7_init 4 none) rm_X7_init hp [.ref this, .int p1, .ref p2, .int p3] none hpE := by
  refine jM.of (lv0 := [some (.ref this), some (.int p1), some (.ref p2), some (.int p3)]) (by decide) (Nat.le_of_ble_eq_true rfl) rfl (fun X hDl hRm hE hX0 => ?_)
  rw [f_X7_init] at hf
  refine J.aload_n (i := 0) dX7_init_0 rfl rfl ?_
  refine J.objInit hRm q301 q73 q74 (Nat.le_of_ble_eq_true rfl) (Nat.le_of_ble_eq_true rfl) dX7_init_1 ?_
  refine J.aload_n (i := 0) dX7_init_4 rfl rfl ?_
  refine J.iload_n (i := 1) dX7_init_5 rfl rfl ?_
  replace hf := jbd hf
  obtain ⟨hp1, h2, hf⟩ := hf
  refine J.putF (ty := .int) 6 1 in_X7 ap6 rfl (Nat.le_of_ble_eq_true rfl) q304 rfl rfl rfl rfl (by decide +kernel) (fun _ => ⟨rfl, rfl⟩) h2 dX7_init_6 ?_
  refine J.aload_n (i := 0) dX7_init_9 rfl rfl ?_
  refine J.aload_n (i := 2) dX7_init_10 rfl rfl ?_
  replace hf := jbd hf
  obtain ⟨hp3, h4, hf⟩ := hf
  refine J.putF (ty := (.object "BilletBars$Profile")) 6 0 in_X7 ap6 rfl (Nat.le_of_ble_eq_true rfl) q302 rfl rfl rfl rfl (by decide +kernel) (fun _ => ⟨rfl, rfl⟩) h4 dX7_init_11 ?_
  refine J.aload_n (i := 0) dX7_init_14 rfl rfl ?_
  refine J.iload_n (i := 3) dX7_init_15 rfl rfl ?_
  replace hf := jbd hf
  obtain ⟨hp5, h6, hf⟩ := hf
  refine J.putF (ty := .int) 6 2 in_X7 ap6 rfl (Nat.le_of_ble_eq_true rfl) q306 rfl rfl rfl rfl (by decide +kernel) (fun _ => ⟨rfl, rfl⟩) h6 dX7_init_16 ?_
  obtain rfl := Option.some.inj hf
  exact J.vret hE (Nat.le_of_ble_eq_true rfl) (Nat.le_of_ble_eq_true rfl) dX7_init_19
def rm_X0_in : Room := { frames := 0, cells := 0, slots := 0, locals := 0 }
theorem hs_X0_in : yX0_in.cls ≠ "java/lang/invoke/MethodHandle" ∧ yX0_in.cls ≠ "java/lang/invoke/VarHandle" ∧ (parseMethodDescriptor yX0_in.desc).map (fun d => d.parameters.length) = some 3 := by decide +kernel
set_option maxHeartbeats 4000000 in
set_option maxRecDepth 100000 in
theorem w_X0_in {D : va_G} {l : Launch} {hp hpE : jH} {rE : Int32} {p1 : Int32} {p2 : Int32} {p3 : Int32} (hf : f_X0_in p1 p2 p3 hp = some (rE, hpE)) : jM D l yX0_in (ws_ yX0_in cX0_in 3 (some .boolean)) rm_X0_in hp [.int p1, .int p2, .int p3] (some (.int rE)) hpE := by
  refine jM.of (lv0 := [some (.int p1), some (.int p2), some (.int p3)]) (by decide) (Nat.le_of_ble_eq_true rfl) rfl (fun X hDl hRm hE hX0 => ?_)
  rw [f_X0_in] at hf
  refine J.iload_n (i := 0) dX0_in_0 rfl rfl ?_
  refine J.iload_n (i := 1) dX0_in_1 rfl rfl ?_
  refine J.icmp_lt (tgt := 14) dX0_in_2 (by decide) (fun hc1 => ?_) (fun hc1 => ?_)
  · replace hf := (if_pos hc1).symm.trans hf
    refine J.iconst (v := 0) dX0_in_14 (by decide) ?_
    obtain ⟨rfl, rfl⟩ := jso hf
    exact J.zret hE narrow_b0 (Nat.le_of_ble_eq_true rfl) (Nat.le_of_ble_eq_true rfl) dX0_in_15
  · replace hf := (if_neg hc1).symm.trans hf
    refine J.iload_n (i := 0) dX0_in_5 rfl rfl ?_
    refine J.iload_n (i := 2) dX0_in_6 rfl rfl ?_
    refine J.icmp_gt (tgt := 14) dX0_in_7 (by decide) (fun hc2 => ?_) (fun hc2 => ?_)
    · replace hf := (if_pos hc2).symm.trans hf
      refine J.iconst (v := 0) dX0_in_14 (by decide) ?_
      obtain ⟨rfl, rfl⟩ := jso hf
      exact J.zret hE narrow_b0 (Nat.le_of_ble_eq_true rfl) (Nat.le_of_ble_eq_true rfl) dX0_in_15
    · replace hf := (if_neg hc2).symm.trans hf
      refine J.iconst (v := 1) dX0_in_10 (by decide) ?_
      refine J.goto (tgt := 15) dX0_in_11 (by decide) ?_
      obtain ⟨rfl, rfl⟩ := jso hf
      exact J.zret hE narrow_b1 (Nat.le_of_ble_eq_true rfl) (Nat.le_of_ble_eq_true rfl) dX0_in_15
def rm_X7_may : Room := { frames := 1, cells := 0, slots := 0, locals := 22 }
theorem hd_X7_may : yX7_may.cls = RX7 ∧ yX7_may.cls ≠ "java/lang/invoke/MethodHandle" ∧ yX7_may.cls ≠ "java/lang/invoke/VarHandle" ∧ (parseMethodDescriptor yX7_may.desc).map (fun d => d.parameters.length) = some 1 := by decide +kernel
set_option maxHeartbeats 4000000 in
set_option maxRecDepth 100000 in
theorem w_X7_may {D : va_G} {l : Launch} {hp hpE : jH} {rE : Int32} {this : Nat} {p1 : Int32} (hf : f_X7_may this p1 hp = some (rE, hpE)) : jM D l yX7_may (ws_ yX7_may cX7_may 2 (some .boolean)) rm_X7_may hp [.ref this, .int p1] (some (.int rE)) hpE := by
  refine jM.of (lv0 := [some (.ref this), some (.int p1)]) (by decide) (Nat.le_of_ble_eq_true rfl) rfl (fun X hDl hRm hE hX0 => ?_)
  rw [f_X7_may] at hf
  refine J.aload_n (i := 0) dX7_may_0 rfl rfl ?_
  replace hf := jbd hf
  obtain ⟨v1, h2, hf⟩ := hf
  refine J.getI 6 5 in_X7 rfl (Nat.le_of_ble_eq_true rfl) (Or.inl q311) (Or.inl rfl) h2 dX7_may_1 ?_
  refine J.if_eq (tgt := 37) dX7_may_4 (by decide) (fun hc3 => ?_) (fun hc3 => ?_)
  · replace hf := (if_pos hc3).symm.trans hf
    refine J.iconst (v := 0) dX7_may_37 (by decide) ?_
    obtain ⟨rfl, rfl⟩ := jso hf
    exact J.zret hE narrow_b0 (Nat.le_of_ble_eq_true rfl) (Nat.le_of_ble_eq_true rfl) dX7_may_38
  · replace hf := (if_neg hc3).symm.trans hf
    refine J.iload_n (i := 1) dX7_may_7 rfl rfl ?_
    refine J.aload_n (i := 0) dX7_may_8 rfl rfl ?_
    replace hf := jbd hf
    obtain ⟨v4, h5, hf⟩ := hf
    refine J.getI 6 6 in_X7 rfl (Nat.le_of_ble_eq_true rfl) (Or.inl q313) (Or.inl rfl) h5 dX7_may_9 ?_
    refine J.isub dX7_may_12 ?_
    refine J.iconst (v := 3) dX7_may_13 (by decide) ?_
    refine J.bipush (v := 12) dX7_may_14 (by decide) ?_
    replace hf := jbs hf
    obtain ⟨v8, hp7, h6, hf⟩ := hf
    refine J.callSN (As := [.int (p1 - v4), .int 3, .int 12]) (k2 := 0) (n2 := 0) hDl hRm (w_X0_in h6) (lw_meth q236) q39 q358 q235 hs_X0_in rfl (Nat.le_of_ble_eq_true rfl) (Nat.le_of_ble_eq_true rfl) (Nat.le_of_ble_eq_true rfl) (Nat.le_of_ble_eq_true rfl) (Nat.le_of_ble_eq_true rfl) (Nat.le_of_ble_eq_true rfl) (Nat.le_of_ble_eq_true rfl) rfl dX7_may_16 ?_
    refine J.if_eq (tgt := 37) dX7_may_19 (by decide) (fun hc9 => ?_) (fun hc9 => ?_)
    · replace hf := (if_pos hc9).symm.trans hf
      refine J.iconst (v := 0) dX7_may_37 (by decide) ?_
      obtain ⟨rfl, rfl⟩ := jso hf
      exact J.zret hE narrow_b0 (Nat.le_of_ble_eq_true rfl) (Nat.le_of_ble_eq_true rfl) dX7_may_38
    · replace hf := (if_neg hc9).symm.trans hf
      refine J.aload_n (i := 0) dX7_may_22 rfl rfl ?_
      replace hf := jbd hf
      obtain ⟨v10, h11, hf⟩ := hf
      refine J.getI 6 3 in_X7 rfl (Nat.le_of_ble_eq_true rfl) (Or.inl q308) (Or.inl rfl) h11 dX7_may_23 ?_
      refine J.aload_n (i := 0) dX7_may_26 rfl rfl ?_
      replace hf := jbd hf
      obtain ⟨v12, h13, hf⟩ := hf
      refine J.getI 6 2 in_X7 rfl (Nat.le_of_ble_eq_true rfl) (Or.inl q306) (Or.inl rfl) h13 dX7_may_27 ?_
      refine J.icmp_ge (tgt := 37) dX7_may_30 (by decide) (fun hc14 => ?_) (fun hc14 => ?_)
      · replace hf := (if_pos hc14).symm.trans hf
        refine J.iconst (v := 0) dX7_may_37 (by decide) ?_
        obtain ⟨rfl, rfl⟩ := jso hf
        exact J.zret hE narrow_b0 (Nat.le_of_ble_eq_true rfl) (Nat.le_of_ble_eq_true rfl) dX7_may_38
      · replace hf := (if_neg hc14).symm.trans hf
        refine J.iconst (v := 1) dX7_may_33 (by decide) ?_
        refine J.goto (tgt := 38) dX7_may_34 (by decide) ?_
        obtain ⟨rfl, rfl⟩ := jso hf
        exact J.zret hE narrow_b1 (Nat.le_of_ble_eq_true rfl) (Nat.le_of_ble_eq_true rfl) dX7_may_38
def rm_X8_init : Room := { frames := 1, cells := 0, slots := 0, locals := 24 }
theorem hi_X8_init : yX8_init.name = "<init>" ∧ yX8_init.cls ≠ "java/lang/invoke/MethodHandle" ∧ yX8_init.cls ≠ "java/lang/invoke/VarHandle" ∧ (parseMethodDescriptor yX8_init.desc).map (fun d => d.parameters.length) = some 2 := by decide +kernel
set_option maxHeartbeats 4000000 in
set_option maxRecDepth 100000 in
theorem w_X8_init {D : va_G} {l : Launch} {hp hpE : jH} {this : Nat} {p1 : Nat} {p2 : Int32} (hf : f_X8_init this p1 p2 hp = some hpE) : jM D l yX8_init (ws_ yX8_init cX8_init 3 none) rm_X8_init hp [.ref this, .ref p1, .int p2] none hpE := by
  refine jM.of (lv0 := [some (.ref this), some (.ref p1), some (.int p2)]) (by decide) (Nat.le_of_ble_eq_true rfl) rfl (fun X hDl hRm hE hX0 => ?_)
  rw [f_X8_init] at hf
  refine J.aload_n (i := 0) dX8_init_0 rfl rfl ?_
  refine J.objInit hRm q381 q73 q74 (Nat.le_of_ble_eq_true rfl) (Nat.le_of_ble_eq_true rfl) dX8_init_1 ?_
  refine J.aload_n (i := 0) dX8_init_4 rfl rfl ?_
  refine J.iconst (v := (-1)) dX8_init_5 (by decide) ?_
  replace hf := jbd hf
  obtain ⟨hp1, h2, hf⟩ := hf
  refine J.put (ty := .int) 7 6 in_X8 ap7 rfl (Nat.le_of_ble_eq_true rfl) (Or.inl q390) (Or.inl rfl) rfl (by decide +kernel) (fun _ => ⟨rfl, rfl⟩) h2 dX8_init_6 ?_
  refine J.aload_n (i := 0) dX8_init_9 rfl rfl ?_
  refine J.aload_n (i := 1) dX8_init_10 rfl rfl ?_
  replace hf := jbd hf
  obtain ⟨hp3, h4, hf⟩ := hf
  refine J.putF (ty := (.object "BilletBars$Die")) 7 0 in_X8 ap7 rfl (Nat.le_of_ble_eq_true rfl) q382 rfl rfl rfl rfl (by decide +kernel) (fun _ => ⟨rfl, rfl⟩) h4 dX8_init_11 ?_
  refine J.aload_n (i := 0) dX8_init_14 rfl rfl ?_
  refine J.iload_n (i := 2) dX8_init_15 rfl rfl ?_
  replace hf := jbd hf
  obtain ⟨hp5, h6, hf⟩ := hf
  refine J.putF (ty := .int) 7 1 in_X8 ap7 rfl (Nat.le_of_ble_eq_true rfl) q384 rfl rfl rfl rfl (by decide +kernel) (fun _ => ⟨rfl, rfl⟩) h6 dX8_init_16 ?_
  obtain rfl := Option.some.inj hf
  exact J.vret hE (Nat.le_of_ble_eq_true rfl) (Nat.le_of_ble_eq_true rfl) dX8_init_19
def rm_X1_initE : Room := { frames := 1, cells := 0, slots := 0, locals := 24 }
theorem hi_X1_init : yX1_init.name = "<init>" ∧ yX1_init.cls ≠ "java/lang/invoke/MethodHandle" ∧ yX1_init.cls ≠ "java/lang/invoke/VarHandle" ∧ (parseMethodDescriptor yX1_init.desc).map (fun d => d.parameters.length) = some 1 := by decide +kernel
set_option maxHeartbeats 4000000 in
set_option maxRecDepth 100000 in
theorem w_X1_initE {D : va_G} {l : Launch} {hp hpE : jH} {this : Nat} {p1 : Nat} (hf : f_X1_initE this p1 hp = some hpE) : jM D l yX1_init (ws_ yX1_init cX1_init 2 none) rm_X1_initE hp [.ref this, .ref p1] none hpE := by
  refine jM.of (lv0 := [some (.ref this), some (.ref p1)]) (by decide) (Nat.le_of_ble_eq_true rfl) rfl (fun X hDl hRm hE hX0 => ?_)
  rw [f_X1_initE] at hf
  refine J.aload_n (i := 0) dX1_init_0 rfl rfl ?_
  refine J.aload_n (i := 1) dX1_init_1 rfl rfl ?_
  replace hf := jbd hf
  obtain ⟨hp1, h2, hf⟩ := hf
  refine J.putF (ty := (.object "BilletBars")) 1 1 in_X2 ap1 rfl (Nat.le_of_ble_eq_true rfl) q95 rfl rfl rfl rfl (by decide +kernel) (fun _ => ⟨rfl, rfl⟩) h2 dX1_init_2 ?_
  refine J.aload_n (i := 0) dX1_init_5 rfl rfl ?_
  refine J.objInit hRm q87 q73 q74 (Nat.le_of_ble_eq_true rfl) (Nat.le_of_ble_eq_true rfl) dX1_init_6 ?_
  obtain rfl := Option.some.inj hf
  exact J.vret hE (Nat.le_of_ble_eq_true rfl) (Nat.le_of_ble_eq_true rfl) dX1_init_9
def rm_X1_initW : Room := { frames := 1, cells := 0, slots := 0, locals := 24 }
set_option maxHeartbeats 4000000 in
set_option maxRecDepth 100000 in
theorem w_X1_initW {D : va_G} {l : Launch} {hp hpE : jH} {this : Nat} {p1 : Nat} (hf : f_X1_initW this p1 hp = some hpE) : jM D l yX1_init (ws_ yX1_init cX1_init 2 none) rm_X1_initW hp [.ref this, .ref p1] none hpE := by
  refine jM.of (lv0 := [some (.ref this), some (.ref p1)]) (by decide) (Nat.le_of_ble_eq_true rfl) rfl (fun X hDl hRm hE hX0 => ?_)
  rw [f_X1_initW] at hf
  refine J.aload_n (i := 0) dX1_init_0 rfl rfl ?_
  refine J.aload_n (i := 1) dX1_init_1 rfl rfl ?_
  replace hf := jbd hf
  obtain ⟨hp1, h2, hf⟩ := hf
  refine J.putF (ty := (.object "BilletBars")) 2 1 in_X3 ap2 rfl (Nat.le_of_ble_eq_true rfl) q95 rfl rfl rfl rfl (by decide +kernel) (fun _ => ⟨rfl, rfl⟩) h2 dX1_init_2 ?_
  refine J.aload_n (i := 0) dX1_init_5 rfl rfl ?_
  refine J.objInit hRm q87 q73 q74 (Nat.le_of_ble_eq_true rfl) (Nat.le_of_ble_eq_true rfl) dX1_init_6 ?_
  obtain rfl := Option.some.inj hf
  exact J.vret hE (Nat.le_of_ble_eq_true rfl) (Nat.le_of_ble_eq_true rfl) dX1_init_9
def rm_X2_wide : Room := { frames := 0, cells := 0, slots := 0, locals := 0 }
theorem hd_X2_wide : yX2_wide.cls = RX2 ∧ yX2_wide.cls ≠ "java/lang/invoke/MethodHandle" ∧ yX2_wide.cls ≠ "java/lang/invoke/VarHandle" ∧ (parseMethodDescriptor yX2_wide.desc).map (fun d => d.parameters.length) = some 0 := by decide +kernel
set_option maxHeartbeats 4000000 in
set_option maxRecDepth 100000 in
theorem w_X2_wide {D : va_G} {l : Launch} {hp hpE : jH} {rE : Int32} {this : Nat} (hf : f_X2_wide this hp = some (rE, hpE)) : jM D l yX2_wide (ws_ yX2_wide cX2_wide 1 (some .int)) rm_X2_wide hp [.ref this] (some (.int rE)) hpE := by
  refine jM.of (lv0 := [some (.ref this)]) (by decide) (Nat.le_of_ble_eq_true rfl) rfl (fun X hDl hRm hE hX0 => ?_)
  rw [f_X2_wide] at hf
  refine J.aload_n (i := 0) dX2_wide_0 rfl rfl ?_
  replace hf := jbd hf
  obtain ⟨a1, h2, hf⟩ := hf
  refine J.getA 1 3 in_X2 rfl (Nat.le_of_ble_eq_true rfl) (Or.inl q89) (Or.inl rfl) h2 dX2_wide_1 ?_
  replace hf := jbd hf
  obtain ⟨a3, h4, hf⟩ := hf
  refine J.getA 0 5 in_X0 rfl (Nat.le_of_ble_eq_true rfl) (Or.inr ⟨_, q148⟩) (Or.inl rfl) h4 dX2_wide_4 ?_
  refine J.aload_n (i := 0) dX2_wide_7 rfl rfl ?_
  replace hf := jbd hf
  obtain ⟨v5, h6, hf⟩ := hf
  refine J.getI 1 2 in_X2 rfl (Nat.le_of_ble_eq_true rfl) (Or.inl q88) (Or.inl rfl) h6 dX2_wide_8 ?_
  replace hf := jbd hf
  obtain ⟨v7, h8, hf⟩ := hf
  refine J.iald h8 dX2_wide_11 ?_
  obtain ⟨rfl, rfl⟩ := jso hf
  exact J.iret hE (Nat.le_of_ble_eq_true rfl) (Nat.le_of_ble_eq_true rfl) dX2_wide_12
def rm_X3_wide : Room := { frames := 0, cells := 0, slots := 0, locals := 0 }
theorem hd_X3_wide : yX3_wide.cls = RX3 ∧ yX3_wide.cls ≠ "java/lang/invoke/MethodHandle" ∧ yX3_wide.cls ≠ "java/lang/invoke/VarHandle" ∧ (parseMethodDescriptor yX3_wide.desc).map (fun d => d.parameters.length) = some 0 := by decide +kernel
set_option maxHeartbeats 4000000 in
set_option maxRecDepth 100000 in
theorem w_X3_wide {D : va_G} {l : Launch} {hp hpE : jH} {rE : Int32} {this : Nat} (hf : f_X3_wide this hp = some (rE, hpE)) : jM D l yX3_wide (ws_ yX3_wide cX3_wide 1 (some .int)) rm_X3_wide hp [.ref this] (some (.int rE)) hpE := by
  refine jM.of (lv0 := [some (.ref this)]) (by decide) (Nat.le_of_ble_eq_true rfl) rfl (fun X hDl hRm hE hX0 => ?_)
  rw [f_X3_wide] at hf
  refine J.aload_n (i := 0) dX3_wide_0 rfl rfl ?_
  replace hf := jbd hf
  obtain ⟨v1, h2, hf⟩ := hf
  refine J.getI 2 2 in_X3 rfl (Nat.le_of_ble_eq_true rfl) (Or.inl q112) (Or.inl rfl) h2 dX3_wide_1 ?_
  refine J.if_eq (tgt := 19) dX3_wide_4 (by decide) (fun hc3 => ?_) (fun hc3 => ?_)
  · replace hf := (if_pos hc3).symm.trans hf
    refine J.iconst (v := 0) dX3_wide_19 (by decide) ?_
    obtain ⟨rfl, rfl⟩ := jso hf
    exact J.iret hE (Nat.le_of_ble_eq_true rfl) (Nat.le_of_ble_eq_true rfl) dX3_wide_20
  · replace hf := (if_neg hc3).symm.trans hf
    refine J.aload_n (i := 0) dX3_wide_7 rfl rfl ?_
    replace hf := jbd hf
    obtain ⟨a4, h5, hf⟩ := hf
    refine J.getA 2 3 in_X3 rfl (Nat.le_of_ble_eq_true rfl) (Or.inl q114) (Or.inl rfl) h5 dX3_wide_8 ?_
    replace hf := jbd hf
    obtain ⟨a6, h7, hf⟩ := hf
    refine J.getA 0 5 in_X0 rfl (Nat.le_of_ble_eq_true rfl) (Or.inr ⟨_, q149⟩) (Or.inl rfl) h7 dX3_wide_11 ?_
    refine J.iconst (v := 3) dX3_wide_14 (by decide) ?_
    replace hf := jbd hf
    obtain ⟨v8, h9, hf⟩ := hf
    refine J.iald h9 dX3_wide_15 ?_
    refine J.goto (tgt := 20) dX3_wide_16 (by decide) ?_
    obtain ⟨rfl, rfl⟩ := jso hf
    exact J.iret hE (Nat.le_of_ble_eq_true rfl) (Nat.le_of_ble_eq_true rfl) dX3_wide_20
def rm_X2_init : Room := { frames := 2, cells := 0, slots := 0, locals := 45 }
theorem hi_X2_init : yX2_init.name = "<init>" ∧ yX2_init.cls ≠ "java/lang/invoke/MethodHandle" ∧ yX2_init.cls ≠ "java/lang/invoke/VarHandle" ∧ (parseMethodDescriptor yX2_init.desc).map (fun d => d.parameters.length) = some 2 := by decide +kernel
set_option maxHeartbeats 4000000 in
set_option maxRecDepth 100000 in
theorem w_X2_init {D : va_G} {l : Launch} {hp hpE : jH} {this : Nat} {p1 : Nat} {p2 : Int32} (hf : f_X2_init this p1 p2 hp = some hpE) : jM D l yX2_init (ws_ yX2_init cX2_init 3 none) rm_X2_init hp [.ref this, .ref p1, .int p2] none hpE := by
  refine jM.of (lv0 := [some (.ref this), some (.ref p1), some (.int p2)]) (by decide) (Nat.le_of_ble_eq_true rfl) rfl (fun X hDl hRm hE hX0 => ?_)
  rw [f_X2_init] at hf
  refine J.aload_n (i := 0) dX2_init_0 rfl rfl ?_
  refine J.aload_n (i := 1) dX2_init_1 rfl rfl ?_
  replace hf := jbd hf
  obtain ⟨hp1, h2, hf⟩ := hf
  refine J.putF (ty := (.object "BilletBars")) 1 3 in_X2 ap1 rfl (Nat.le_of_ble_eq_true rfl) q89 rfl rfl rfl rfl (by decide +kernel) (fun _ => ⟨rfl, rfl⟩) h2 dX2_init_2 ?_
  refine J.aload_n (i := 0) dX2_init_5 rfl rfl ?_
  refine J.aload_n (i := 1) dX2_init_6 rfl rfl ?_
  replace hf := jbd hf
  obtain ⟨hp4, h3, hf⟩ := hf
  refine J.callIN (As := [.ref p1]) (k2 := 0) (n2 := 0) hDl hRm (w_X1_initE h3) (lw_meth q86) q40 q84 q85 hi_X1_init rfl (Nat.le_of_ble_eq_true rfl) (Nat.le_of_ble_eq_true rfl) (Nat.le_of_ble_eq_true rfl) (Nat.le_of_ble_eq_true rfl) (Nat.le_of_ble_eq_true rfl) (Nat.le_of_ble_eq_true rfl) (Nat.le_of_ble_eq_true rfl) rfl dX2_init_7 ?_
  refine J.aload_n (i := 0) dX2_init_10 rfl rfl ?_
  refine J.iload_n (i := 2) dX2_init_11 rfl rfl ?_
  replace hf := jbd hf
  obtain ⟨hp5, h6, hf⟩ := hf
  refine J.putF (ty := .int) 1 2 in_X2 ap1 rfl (Nat.le_of_ble_eq_true rfl) q88 rfl rfl rfl rfl (by decide +kernel) (fun _ => ⟨rfl, rfl⟩) h6 dX2_init_12 ?_
  obtain rfl := Option.some.inj hf
  exact J.vret hE (Nat.le_of_ble_eq_true rfl) (Nat.le_of_ble_eq_true rfl) dX2_init_15
def rm_X3_init : Room := { frames := 2, cells := 0, slots := 0, locals := 45 }
theorem hi_X3_init : yX3_init.name = "<init>" ∧ yX3_init.cls ≠ "java/lang/invoke/MethodHandle" ∧ yX3_init.cls ≠ "java/lang/invoke/VarHandle" ∧ (parseMethodDescriptor yX3_init.desc).map (fun d => d.parameters.length) = some 1 := by decide +kernel
set_option maxHeartbeats 4000000 in
set_option maxRecDepth 100000 in
theorem w_X3_init {D : va_G} {l : Launch} {hp hpE : jH} {this : Nat} {p1 : Nat} (hf : f_X3_init this p1 hp = some hpE) : jM D l yX3_init (ws_ yX3_init cX3_init 2 none) rm_X3_init hp [.ref this, .ref p1] none hpE := by
  refine jM.of (lv0 := [some (.ref this), some (.ref p1)]) (by decide) (Nat.le_of_ble_eq_true rfl) rfl (fun X hDl hRm hE hX0 => ?_)
  rw [f_X3_init] at hf
  refine J.aload_n (i := 0) dX3_init_0 rfl rfl ?_
  refine J.aload_n (i := 1) dX3_init_1 rfl rfl ?_
  replace hf := jbd hf
  obtain ⟨hp1, h2, hf⟩ := hf
  refine J.putF (ty := (.object "BilletBars")) 2 3 in_X3 ap2 rfl (Nat.le_of_ble_eq_true rfl) q114 rfl rfl rfl rfl (by decide +kernel) (fun _ => ⟨rfl, rfl⟩) h2 dX3_init_2 ?_
  refine J.aload_n (i := 0) dX3_init_5 rfl rfl ?_
  refine J.aload_n (i := 1) dX3_init_6 rfl rfl ?_
  replace hf := jbd hf
  obtain ⟨hp4, h3, hf⟩ := hf
  refine J.callIN (As := [.ref p1]) (k2 := 0) (n2 := 0) hDl hRm (w_X1_initW h3) (lw_meth q86) q40 q111 q85 hi_X1_init rfl (Nat.le_of_ble_eq_true rfl) (Nat.le_of_ble_eq_true rfl) (Nat.le_of_ble_eq_true rfl) (Nat.le_of_ble_eq_true rfl) (Nat.le_of_ble_eq_true rfl) (Nat.le_of_ble_eq_true rfl) (Nat.le_of_ble_eq_true rfl) rfl dX3_init_7 ?_
  obtain rfl := Option.some.inj hf
  exact J.vret hE (Nat.le_of_ble_eq_true rfl) (Nat.le_of_ble_eq_true rfl) dX3_init_10
def rm_X1_cutE : Room := { frames := 1, cells := 0, slots := 0, locals := 24 }
theorem hd_X1_cut : yX1_cut.cls = RX1 ∧ yX1_cut.cls ≠ "java/lang/invoke/MethodHandle" ∧ yX1_cut.cls ≠ "java/lang/invoke/VarHandle" ∧ (parseMethodDescriptor yX1_cut.desc).map (fun d => d.parameters.length) = some 2 := by decide +kernel
set_option maxHeartbeats 4000000 in
set_option maxRecDepth 100000 in
theorem w_X1_cutE_j23 {D : va_G} {l : Launch} {X : jX} {hp0 hpE : jH} {rE : Int32} (hDl : jDl X D l) (hRm : jRoom X rm_X1_cutE.frames rm_X1_cutE.locals rm_X1_cutE.cells rm_X1_cutE.slots) (hE : jEnds X (some .int) (some (.int rE)) hpE rm_X1_cutE.cells rm_X1_cutE.slots) (hX0 : jX0 X hp0) {xi_1 : Int32} {xi_3 : Int32} {xa_s0 : Nat} {xi_s1 : Int32} {xi_s2 : Int32} {hp : jH} (hf : f_X1_cutE_j23 xi_1 xi_3 xa_s0 xi_s1 xi_s2 hp = some (rE, hpE)) : J X cX1_cut 4 yX1_cut 0 0 23 [none, some (.int xi_1), none, some (.int xi_3)] [.int xi_s2, .int xi_s1, .ref xa_s0] hp := by
  rw [f_X1_cutE_j23] at hf
  refine J.iadd dX1_cut_23 ?_
  replace hf := jbd hf
  obtain ⟨hp9, h10, hf⟩ := hf
  refine J.put (ty := .int) 1 0 in_X2 ap1 rfl (Nat.le_of_ble_eq_true rfl) (Or.inl q90) (Or.inl rfl) rfl (by decide +kernel) (fun _ => ⟨rfl, rfl⟩) h10 dX1_cut_24 ?_
  refine J.iload_n (i := 1) dX1_cut_27 rfl rfl ?_
  refine J.iload_n (i := 3) dX1_cut_28 rfl rfl ?_
  refine J.isub dX1_cut_29 ?_
  obtain ⟨rfl, rfl⟩ := jso hf
  exact J.iret hE (Nat.le_of_ble_eq_true rfl) (Nat.le_of_ble_eq_true rfl) dX1_cut_30
set_option maxHeartbeats 4000000 in
set_option maxRecDepth 100000 in
theorem w_X1_cutE {D : va_G} {l : Launch} {hp hpE : jH} {rE : Int32} {this : Nat} {p1 : Int32} {p2 : Int32} (hf : f_X1_cutE this p1 p2 hp = some (rE, hpE)) : jM D l yX1_cut (ws_ yX1_cut cX1_cut 4 (some .int)) rm_X1_cutE hp [.ref this, .int p1, .int p2] (some (.int rE)) hpE := by
  refine jM.of (lv0 := [some (.ref this), some (.int p1), some (.int p2), none]) (by decide) (Nat.le_of_ble_eq_true rfl) rfl (fun X hDl hRm hE hX0 => ?_)
  rw [f_X1_cutE] at hf
  refine J.iload_n (i := 1) dX1_cut_0 rfl rfl ?_
  refine J.aload_n (i := 0) dX1_cut_1 rfl rfl ?_
  replace hf := jbd hf
  obtain ⟨u1, h2, hf⟩ := hf
  replace hf := jbs hf
  obtain ⟨v5, hp4, h3, hf⟩ := hf
  refine J.callU (As := []) (k2 := 0) (n2 := 0) (x := ⟨"BilletBars$Scrap", "wide", "()I"⟩) (owner := "BilletBars$Scrap") (nA := 0) 1 hDl hRm (w_X2_wide h3) (lw_U q427 q429 q430 q431 q41 q432) (Or.inr q428) (by decide +kernel) rfl ⟨_, h2⟩ rfl (Nat.le_of_ble_eq_true rfl) (Nat.le_of_ble_eq_true rfl) (Nat.le_of_ble_eq_true rfl) (Nat.le_of_ble_eq_true rfl) (Nat.le_of_ble_eq_true rfl) (Nat.le_of_ble_eq_true rfl) (Nat.le_of_ble_eq_true rfl) rfl dX1_cut_2 ?_
  refine J.mmin hRm q436 q437 q51 q438 (Nat.le_of_ble_eq_true rfl) (Nat.le_of_ble_eq_true rfl) (Nat.le_of_ble_eq_true rfl) (Nat.le_of_ble_eq_true rfl) dX1_cut_5 ?_
  refine J.istore_n (i := 3) (lv' := [some (.ref this), some (.int p1), some (.int p2), some (.int (jmin p1 v5))]) dX1_cut_8 rfl (Nat.le_of_ble_eq_true rfl) rfl ?_
  refine J.aload_n (i := 0) dX1_cut_9 rfl rfl ?_
  refine J.dup dX1_cut_10 rfl ?_
  replace hf := jbd hf
  obtain ⟨v6, h7, hf⟩ := hf
  refine J.getI 1 0 in_X2 rfl (Nat.le_of_ble_eq_true rfl) (Or.inl q90) (Or.inl rfl) h7 dX1_cut_11 ?_
  refine J.iload_n (i := 2) dX1_cut_14 rfl rfl ?_
  refine J.if_eq (tgt := 22) dX1_cut_15 (by decide) (fun hc8 => ?_) (fun hc8 => ?_)
  · replace hf := (if_pos hc8).symm.trans hf
    refine J.iconst (v := 0) dX1_cut_22 (by decide) ?_
    refine J.mask (lv' := [none, some (.int p1), none, some (.int (jmin p1 v5))]) [false, true, false, true] rfl ?_
    exact w_X1_cutE_j23 hDl hRm hE hX0 hf
  · replace hf := (if_neg hc8).symm.trans hf
    refine J.iload_n (i := 3) dX1_cut_18 rfl rfl ?_
    refine J.goto (tgt := 23) dX1_cut_19 (by decide) ?_
    refine J.mask (lv' := [none, some (.int p1), none, some (.int (jmin p1 v5))]) [false, true, false, true] rfl ?_
    exact w_X1_cutE_j23 hDl hRm hE hX0 hf
def rm_X1_cutW : Room := { frames := 1, cells := 0, slots := 0, locals := 24 }
set_option maxHeartbeats 4000000 in
set_option maxRecDepth 100000 in
theorem w_X1_cutW_j23 {D : va_G} {l : Launch} {X : jX} {hp0 hpE : jH} {rE : Int32} (hDl : jDl X D l) (hRm : jRoom X rm_X1_cutW.frames rm_X1_cutW.locals rm_X1_cutW.cells rm_X1_cutW.slots) (hE : jEnds X (some .int) (some (.int rE)) hpE rm_X1_cutW.cells rm_X1_cutW.slots) (hX0 : jX0 X hp0) {xi_1 : Int32} {xi_3 : Int32} {xa_s0 : Nat} {xi_s1 : Int32} {xi_s2 : Int32} {hp : jH} (hf : f_X1_cutW_j23 xi_1 xi_3 xa_s0 xi_s1 xi_s2 hp = some (rE, hpE)) : J X cX1_cut 4 yX1_cut 0 0 23 [none, some (.int xi_1), none, some (.int xi_3)] [.int xi_s2, .int xi_s1, .ref xa_s0] hp := by
  rw [f_X1_cutW_j23] at hf
  refine J.iadd dX1_cut_23 ?_
  replace hf := jbd hf
  obtain ⟨hp9, h10, hf⟩ := hf
  refine J.put (ty := .int) 2 0 in_X3 ap2 rfl (Nat.le_of_ble_eq_true rfl) (Or.inl q90) (Or.inl rfl) rfl (by decide +kernel) (fun _ => ⟨rfl, rfl⟩) h10 dX1_cut_24 ?_
  refine J.iload_n (i := 1) dX1_cut_27 rfl rfl ?_
  refine J.iload_n (i := 3) dX1_cut_28 rfl rfl ?_
  refine J.isub dX1_cut_29 ?_
  obtain ⟨rfl, rfl⟩ := jso hf
  exact J.iret hE (Nat.le_of_ble_eq_true rfl) (Nat.le_of_ble_eq_true rfl) dX1_cut_30
set_option maxHeartbeats 4000000 in
set_option maxRecDepth 100000 in
theorem w_X1_cutW {D : va_G} {l : Launch} {hp hpE : jH} {rE : Int32} {this : Nat} {p1 : Int32} {p2 : Int32} (hf : f_X1_cutW this p1 p2 hp = some (rE, hpE)) : jM D l yX1_cut (ws_ yX1_cut cX1_cut 4 (some .int)) rm_X1_cutW hp [.ref this, .int p1, .int p2] (some (.int rE)) hpE := by
  refine jM.of (lv0 := [some (.ref this), some (.int p1), some (.int p2), none]) (by decide) (Nat.le_of_ble_eq_true rfl) rfl (fun X hDl hRm hE hX0 => ?_)
  rw [f_X1_cutW] at hf
  refine J.iload_n (i := 1) dX1_cut_0 rfl rfl ?_
  refine J.aload_n (i := 0) dX1_cut_1 rfl rfl ?_
  replace hf := jbd hf
  obtain ⟨u1, h2, hf⟩ := hf
  replace hf := jbs hf
  obtain ⟨v5, hp4, h3, hf⟩ := hf
  refine J.callU (As := []) (k2 := 0) (n2 := 0) (x := ⟨"BilletBars$Scrap", "wide", "()I"⟩) (owner := "BilletBars$Scrap") (nA := 0) 2 hDl hRm (w_X3_wide h3) (lw_U q427 q429 q433 q434 q42 q435) (Or.inr q428) (by decide +kernel) rfl ⟨_, h2⟩ rfl (Nat.le_of_ble_eq_true rfl) (Nat.le_of_ble_eq_true rfl) (Nat.le_of_ble_eq_true rfl) (Nat.le_of_ble_eq_true rfl) (Nat.le_of_ble_eq_true rfl) (Nat.le_of_ble_eq_true rfl) (Nat.le_of_ble_eq_true rfl) rfl dX1_cut_2 ?_
  refine J.mmin hRm q436 q437 q51 q438 (Nat.le_of_ble_eq_true rfl) (Nat.le_of_ble_eq_true rfl) (Nat.le_of_ble_eq_true rfl) (Nat.le_of_ble_eq_true rfl) dX1_cut_5 ?_
  refine J.istore_n (i := 3) (lv' := [some (.ref this), some (.int p1), some (.int p2), some (.int (jmin p1 v5))]) dX1_cut_8 rfl (Nat.le_of_ble_eq_true rfl) rfl ?_
  refine J.aload_n (i := 0) dX1_cut_9 rfl rfl ?_
  refine J.dup dX1_cut_10 rfl ?_
  replace hf := jbd hf
  obtain ⟨v6, h7, hf⟩ := hf
  refine J.getI 2 0 in_X3 rfl (Nat.le_of_ble_eq_true rfl) (Or.inl q90) (Or.inl rfl) h7 dX1_cut_11 ?_
  refine J.iload_n (i := 2) dX1_cut_14 rfl rfl ?_
  refine J.if_eq (tgt := 22) dX1_cut_15 (by decide) (fun hc8 => ?_) (fun hc8 => ?_)
  · replace hf := (if_pos hc8).symm.trans hf
    refine J.iconst (v := 0) dX1_cut_22 (by decide) ?_
    refine J.mask (lv' := [none, some (.int p1), none, some (.int (jmin p1 v5))]) [false, true, false, true] rfl ?_
    exact w_X1_cutW_j23 hDl hRm hE hX0 hf
  · replace hf := (if_neg hc8).symm.trans hf
    refine J.iload_n (i := 3) dX1_cut_18 rfl rfl ?_
    refine J.goto (tgt := 23) dX1_cut_19 (by decide) ?_
    refine J.mask (lv' := [none, some (.int p1), none, some (.int (jmin p1 v5))]) [false, true, false, true] rfl ?_
    exact w_X1_cutW_j23 hDl hRm hE hX0 hf
def rm_X4_init : Room := { frames := 1, cells := 0, slots := 0, locals := 24 }
theorem hi_X4_init : yX4_init.name = "<init>" ∧ yX4_init.cls ≠ "java/lang/invoke/MethodHandle" ∧ yX4_init.cls ≠ "java/lang/invoke/VarHandle" ∧ (parseMethodDescriptor yX4_init.desc).map (fun d => d.parameters.length) = some 0 := by decide +kernel
set_option maxHeartbeats 4000000 in
set_option maxRecDepth 100000 in
theorem w_X4_init {D : va_G} {l : Launch} {hp hpE : jH} {this : Nat} (hf : f_X4_init this hp = some hpE) : jM D l yX4_init (ws_ yX4_init cX4_init 1 none) rm_X4_init hp [.ref this] none hpE := by
  refine jM.of (lv0 := [some (.ref this)]) (by decide) (Nat.le_of_ble_eq_true rfl) rfl (fun X hDl hRm hE hX0 => ?_)
  rw [f_X4_init] at hf
  refine J.aload_n (i := 0) dX4_init_0 rfl rfl ?_
  refine J.objInit hRm q133 q73 q74 (Nat.le_of_ble_eq_true rfl) (Nat.le_of_ble_eq_true rfl) dX4_init_1 ?_
  obtain rfl := Option.some.inj hf
  exact J.vret hE (Nat.le_of_ble_eq_true rfl) (Nat.le_of_ble_eq_true rfl) dX4_init_4
def rm_X4_size : Room := { frames := 0, cells := 0, slots := 0, locals := 0 }
theorem hd_X4_size : yX4_size.cls = RX4 ∧ yX4_size.cls ≠ "java/lang/invoke/MethodHandle" ∧ yX4_size.cls ≠ "java/lang/invoke/VarHandle" ∧ (parseMethodDescriptor yX4_size.desc).map (fun d => d.parameters.length) = some 0 := by decide +kernel
set_option maxHeartbeats 4000000 in
set_option maxRecDepth 100000 in
theorem w_X4_size {D : va_G} {l : Launch} {hp hpE : jH} {rE : Int32} {this : Nat} (hf : f_X4_size this hp = some (rE, hpE)) : jM D l yX4_size (ws_ yX4_size cX4_size 1 (some .int)) rm_X4_size hp [.ref this] (some (.int rE)) hpE := by
  refine jM.of (lv0 := [some (.ref this)]) (by decide) (Nat.le_of_ble_eq_true rfl) rfl (fun X hDl hRm hE hX0 => ?_)
  rw [f_X4_size] at hf
  refine J.aload_n (i := 0) dX4_size_0 rfl rfl ?_
  replace hf := jbd hf
  obtain ⟨v1, h2, hf⟩ := hf
  refine J.getI 3 0 in_X4 rfl (Nat.le_of_ble_eq_true rfl) (Or.inl q134) (Or.inl rfl) h2 dX4_size_1 ?_
  refine J.if_ne (tgt := 18) dX4_size_4 (by decide) (fun hc3 => ?_) (fun hc3 => ?_)
  · replace hf := (if_neg hc3).symm.trans hf
    refine J.aload_n (i := 0) dX4_size_18 rfl rfl ?_
    replace hf := jbd hf
    obtain ⟨v4, h5, hf⟩ := hf
    refine J.getI 3 0 in_X4 rfl (Nat.le_of_ble_eq_true rfl) (Or.inl q134) (Or.inl rfl) h5 dX4_size_19 ?_
    refine J.iconst (v := 1) dX4_size_22 (by decide) ?_
    refine J.icmp_ne (tgt := 37) dX4_size_23 (by decide) (fun hc6 => ?_) (fun hc6 => ?_)
    · replace hf := (if_neg hc6).symm.trans hf
      refine J.aload_n (i := 0) dX4_size_37 rfl rfl ?_
      replace hf := jbd hf
      obtain ⟨a7, h8, hf⟩ := hf
      refine J.getA 3 1 in_X4 rfl (Nat.le_of_ble_eq_true rfl) (Or.inl q136) (Or.inl rfl) h8 dX4_size_38 ?_
      replace hf := jbd hf
      obtain ⟨u10, h9, hf⟩ := hf
      refine J.castA (ty := .int) rfl (fun C h => by cases h) q744 ⟨_, h9⟩ dX4_size_41 ?_
      replace hf := jbd hf
      obtain ⟨v11, h12, hf⟩ := hf
      refine J.alen h12 dX4_size_44 ?_
      obtain ⟨rfl, rfl⟩ := jso hf
      exact J.iret hE (Nat.le_of_ble_eq_true rfl) (Nat.le_of_ble_eq_true rfl) dX4_size_45
    · replace hf := (if_pos hc6).symm.trans hf
      refine J.aload_n (i := 0) dX4_size_26 rfl rfl ?_
      replace hf := jbd hf
      obtain ⟨a13, h14, hf⟩ := hf
      refine J.getA 3 1 in_X4 rfl (Nat.le_of_ble_eq_true rfl) (Or.inl q136) (Or.inl rfl) h14 dX4_size_27 ?_
      replace hf := jbd hf
      obtain ⟨u16, h15, hf⟩ := hf
      refine J.castA (ty := .short) rfl (fun C h => by cases h) q743 ⟨_, h15⟩ dX4_size_30 ?_
      replace hf := jbd hf
      obtain ⟨v17, h18, hf⟩ := hf
      refine J.alen h18 dX4_size_33 ?_
      refine J.goto (tgt := 45) dX4_size_34 (by decide) ?_
      obtain ⟨rfl, rfl⟩ := jso hf
      exact J.iret hE (Nat.le_of_ble_eq_true rfl) (Nat.le_of_ble_eq_true rfl) dX4_size_45
  · replace hf := (if_pos hc3).symm.trans hf
    refine J.aload_n (i := 0) dX4_size_7 rfl rfl ?_
    replace hf := jbd hf
    obtain ⟨a19, h20, hf⟩ := hf
    refine J.getA 3 1 in_X4 rfl (Nat.le_of_ble_eq_true rfl) (Or.inl q136) (Or.inl rfl) h20 dX4_size_8 ?_
    replace hf := jbd hf
    obtain ⟨u22, h21, hf⟩ := hf
    refine J.castA (ty := .byte) rfl (fun C h => by cases h) q742 ⟨_, h21⟩ dX4_size_11 ?_
    replace hf := jbd hf
    obtain ⟨v23, h24, hf⟩ := hf
    refine J.alen h24 dX4_size_14 ?_
    refine J.goto (tgt := 45) dX4_size_15 (by decide) ?_
    obtain ⟨rfl, rfl⟩ := jso hf
    exact J.iret hE (Nat.le_of_ble_eq_true rfl) (Nat.le_of_ble_eq_true rfl) dX4_size_45
