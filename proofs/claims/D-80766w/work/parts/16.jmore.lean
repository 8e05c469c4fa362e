/-! THE J LAYER, 7: calls of nest mates' private members, of inherited and abstract methods; a field that isn't told -/
set_option maxRecDepth 100000
theorem lw_U {own : String} {idx : Nat} {C owner : String} {x y : MethodName} {b : ByteArray} {L : Nat} {r : Option FieldType} (h1 : Cond.methodLink own idx x ∈ lw_all) (h2 : Cond.sameMethod x.cls owner x.name x.desc ∈ lw_all) (h3 : Cond.selects C x y ∈ lw_all) (h4 : Cond.instanceMethod y ∈ lw_all) (h5 : Cond.initialized y.cls ∈ lw_all) (h6 : Cond.code y b L r ∈ lw_all) : GoodIn lw_all (va_wsU own idx C owner x y (ws_ y b L r)) := by
  refine lw_app ?_ (lw_meth h6)
  intro w hw
  simp only [List.mem_cons, List.not_mem_nil, or_false] at hw
  rcases hw with e | e | e | e | e
  · rw [e]; exact h1
  · rw [e]; exact h2
  · rw [e]; exact h3
  · rw [e]; exact h4
  · rw [e]; exact h5
def jmax (a b : Int32) : Int32 := if a < b then b else a
def jmin (a b : Int32) : Int32 := if b < a then b else a
/-- a number that lies in a field, for the name of a new cell -/
def jNI (hp : jH) (a ci k : Nat) : Nat := ((jgI hp a ci k).getD 0).toNatClampNeg
section JC2
variable {X : jX} {cc : ByteArray} {nL : Nat} {y : MethodName} {k n pc : Nat} {lv : List (Option Value)} {st : List Value} {hp hp1 : jH} {F L MC MS : Nat} {D : va_G} {l : Launch} {y' : MethodName} {bytes : ByteArray} {maxL ix nA : Nat} {ret : Option FieldType} {rm : Room} {As S : List Value} {b : Nat} {r : Option Value}
/-- invokestatic of a nest mate's private method -/
theorem J.callSN {host : String} (hDl : jDl X D l) (hRm : jRoom X F L MC MS) (hM : jM D l y' (ws_ y' bytes maxL ret) rm hp As r hp1) (hT : GoodIn lw_all (ws_ y' bytes maxL ret)) (hini : Cond.initialized y'.cls ∈ lw_all) (hlk : Cond.methodLinkNest y.cls ix y' host ∈ lw_tbl) (hst : Cond.static y' ∈ lw_all) (hd9 : y'.cls ≠ "java/lang/invoke/MethodHandle" ∧ y'.cls ≠ "java/lang/invoke/VarHandle" ∧ (parseMethodDescriptor y'.desc).map (fun d => d.parameters.length) = some nA) (hnA : As.length = nA) (hfr : rm.frames + 1 ≤ F) (hlo : 8 + (maxL + 11) + rm.locals ≤ L) {k2 n2 : Nat} (hk2 : k + rm.cells ≤ k2) (hn2 : n + rm.slots ≤ n2) (hce : k2 ≤ MC) (hsl : n2 ≤ MS) (hW : (st.map fun v => v.category).sum ≤ 8) (hS0 : S = As.reverse ++ st) (hd : decode cc pc = .ok (.invokestatic ix, 3)) (kk : J X cc nL y k2 n2 (pc + 3) lv (r.toList ++ st) hp1) : J X cc nL y k n pc lv S hp := by
  obtain ⟨p, l', e, R, s, m, args, below, meth, c, Q, D', ad0, hp0⟩ := X
  intro hx hb hml hown hmn hts hG hZ ad H locs ls hR hL hS
  obtain ⟨rfl, rfl⟩ : l' = l ∧ D' = D := hDl
  have hRm : F ≤ R.frames ∧ L ≤ R.locals ∧ MC ≤ R.cells ∧ MS ≤ R.slots := hRm
  subst hS0
  have hSt : jS hp st := fun w hw => hS w (List.mem_append_right _ hw)
  have hSA : jS hp As := fun w h => hS w (List.mem_append_left _ (List.mem_reverse.mpr h))
  refine jcall (va_runSN (As := As.map (jv ad)) (rest := st.map (jv ad)) ⟨hx, hb, hml, hown, hts⟩ (hM ad H.size) ⟨va_cnB nA hts hT rfl rfl rfl (hG.2.1 _ hlk rfl) (hts _ hini) hd9 ⟨Nat.le_trans hfr hRm.1, Nat.le_trans hlo hRm.2.1⟩, hts _ hst, trivial⟩ ⟨jPc.blind, jPc.at hR hG hZ hSA⟩ rfl (by rw [List.length_map]; exact hnA) hL.1 ?_ (jroomW hW) hd ⟨Nat.le_trans hk2 (Nat.le_trans hce hRm.2.2.1), Nat.le_trans hn2 (Nat.le_trans hsl hRm.2.2.2)⟩) hR hL hSt (fun ad' H1 locs1 hR' hL' hS' => W.widen hk2 hn2 <| kk hx hb hml hown hmn hts hG hZ ad' H1 locs1 ls hR' hL' hS')
  show (As.reverse ++ st).map (jv ad) = _
  simp
/-- invokespecial of a nest mate's private constructor -/
theorem J.callIN {host : String} (hDl : jDl X D l) (hRm : jRoom X F L MC MS) (hM : jM D l y' (ws_ y' bytes maxL none) rm hp (.ref b :: As) none hp1) (hT : GoodIn lw_all (ws_ y' bytes maxL none)) (hini : Cond.initialized y'.cls ∈ lw_all) (hlk : Cond.methodLinkNest y.cls ix y' host ∈ lw_tbl) (hinst : Cond.instanceMethod y' ∈ lw_all) (hd9 : y'.name = "<init>" ∧ y'.cls ≠ "java/lang/invoke/MethodHandle" ∧ y'.cls ≠ "java/lang/invoke/VarHandle" ∧ (parseMethodDescriptor y'.desc).map (fun d => d.parameters.length) = some nA) (hnA : As.length = nA) (hfr : rm.frames + 1 ≤ F) (hlo : 8 + (maxL + 11) + rm.locals ≤ L) {k2 n2 : Nat} (hk2 : k + rm.cells ≤ k2) (hn2 : n + rm.slots ≤ n2) (hce : k2 ≤ MC) (hsl : n2 ≤ MS) (hW : (st.map fun v => v.category).sum ≤ 8) (hS0 : S = As.reverse ++ .ref b :: st) (hd : decode cc pc = .ok (.invokespecial ix, 3)) (kk : J X cc nL y k2 n2 (pc + 3) lv st hp1) : J X cc nL y k n pc lv S hp := by
  obtain ⟨p, l', e, R, s, m, args, below, meth, c, Q, D', ad0, hp0⟩ := X
  intro hx hb hml hown hmn hts hG hZ ad H locs ls hR hL hS
  obtain ⟨rfl, rfl⟩ : l' = l ∧ D' = D := hDl
  have hRm : F ≤ R.frames ∧ L ≤ R.locals ∧ MC ≤ R.cells ∧ MS ≤ R.slots := hRm
  subst hS0
  have hSt : jS hp st := fun w hw => hS w (List.mem_append_right _ (List.mem_cons_of_mem _ hw))
  have hSA : jS hp (.ref b :: As) := by
    intro w hw
    rcases List.mem_cons.mp hw with h | h
    · exact hS w (by rw [h]; exact List.mem_append_right _ List.mem_cons_self)
    · exact hS w (List.mem_append_left _ (List.mem_reverse.mpr h))
  refine jcall (r := none) (va_runIN (As := As.map (jv ad)) (rest := st.map (jv ad)) (b := ad b) ⟨hx, hb, hml, hown, hts⟩ (hM ad H.size) ⟨va_cnB nA hts hT rfl rfl rfl (hG.2.1 _ hlk rfl) (hts _ hini) hd9.2 ⟨Nat.le_trans hfr hRm.1, Nat.le_trans hlo hRm.2.1⟩, hd9.1, hts _ hinst⟩ ⟨jPc.blind, jPc.at hR hG hZ hSA⟩ rfl (by rw [List.length_map]; exact hnA) hL.1 ?_ (jroomW hW) hd ⟨Nat.le_trans hk2 (Nat.le_trans hce hRm.2.2.1), Nat.le_trans hn2 (Nat.le_trans hsl hRm.2.2.2)⟩) hR hL hSt (fun ad' H1 locs1 hR' hL' hS' => W.widen hk2 hn2 <| kk hx hb hml hown hmn hts hG hZ ad' H1 locs1 ls hR' hL' hS')
  show (As.reverse ++ .ref b :: st).map (jv ad) = _
  simp [jv]
/-- invokevirtual of an inherited or an abstract method -/
theorem J.callU {C owner : String} {x : MethodName} {T : u_T} {N : Nat} (ci : Nat) (hDl : jDl X D l) (hRm : jRoom X F L MC MS) (hM : jM D l y' (ws_ y' bytes maxL ret) rm hp (.ref b :: As) r hp1) (hT : GoodIn lw_all (va_wsU y.cls ix C owner x y' (ws_ y' bytes maxL ret))) (hkind : y' = ⟨owner, x.name, x.desc⟩ ∨ Cond.declares ⟨owner, x.name, x.desc⟩ ∈ lw_tbl) (hd9 : owner ≠ "java/lang/invoke/MethodHandle" ∧ owner ≠ "java/lang/invoke/VarHandle" ∧ (parseMethodDescriptor x.desc).map (fun d => d.parameters.length) = some nA) (hc : jcl[ci]? = some (C, T, N)) (hb0 : ∃ u, jis hp b ci = some u) (hnA : As.length = nA) (hfr : rm.frames + 1 ≤ F) (hlo : 8 + (maxL + 11) + rm.locals ≤ L) {k2 n2 : Nat} (hk2 : k + rm.cells ≤ k2) (hn2 : n + rm.slots ≤ n2) (hce : k2 ≤ MC) (hsl : n2 ≤ MS) (hW : (st.map fun v => v.category).sum ≤ 8) (hS0 : S = As.reverse ++ .ref b :: st) (hd : decode cc pc = .ok (.invokevirtual ix, 3)) (kk : J X cc nL y k2 n2 (pc + 3) lv (r.toList ++ st) hp1) : J X cc nL y k n pc lv S hp := by
  obtain ⟨p, l', e, R, s, m, args, below, meth, c, Q, D', ad0, hp0⟩ := X
  intro hx hb hml hown hmn hts hG hZ ad H locs ls hR hL hS
  obtain ⟨rfl, rfl⟩ : l' = l ∧ D' = D := hDl
  have hRm : F ≤ R.frames ∧ L ≤ R.locals ∧ MC ≤ R.cells ∧ MS ≤ R.slots := hRm
  subst hS0
  obtain ⟨u, hu⟩ := hb0
  obtain ⟨fs, h1⟩ := jis_spec hu
  obtain ⟨⟨q, hq, cell, q1, q2, q3, -⟩, -⟩ := hR.1 b _ h1
  have hSt : jS hp st := fun w hw => hS w (List.mem_append_right _ (List.mem_cons_of_mem _ hw))
  have hSA : jS hp (.ref b :: As) := by
    intro w hw
    rcases List.mem_cons.mp hw with h | h
    · exact hS w (by rw [h]; exact List.mem_append_right _ List.mem_cons_self)
    · exact hS w (List.mem_append_left _ (List.mem_reverse.mpr h))
  have cw : va_CU R s args y.cls C owner ix x y' bytes maxL ret (ws_ y' bytes maxL ret) rm rm.cells rm.slots nA := by
    rcases hkind with hk | hk
    · exact va_cwU nA hts hT rfl rfl rfl hk hd9 ⟨Nat.le_trans hfr hRm.1, Nat.le_trans hlo hRm.2.1⟩
    · exact va_cwA nA hts hT rfl rfl rfl (hG.2.1 _ hk rfl) hd9 ⟨Nat.le_trans hfr hRm.1, Nat.le_trans hlo hRm.2.1⟩
  refine jcall (va_runU (C := C) (As := As.map (jv ad)) (rest := st.map (jv ad)) (b := ad b) ⟨hx, hb, hml, hown, hts⟩ (hM ad H.size) cw ⟨jPc.blind, ⟨cell, q1, by rw [q3]; rfl, by rw [q2]; exact (hG.1.1 ci _ hc).2.1⟩, jPc.at hR hG hZ hSA⟩ rfl (by rw [List.length_map]; exact hnA) hL.1 ?_ (jroomW hW) hd ⟨Nat.le_trans hk2 (Nat.le_trans hce hRm.2.2.1), Nat.le_trans hn2 (Nat.le_trans hsl hRm.2.2.2)⟩) hR hL hSt (fun ad' H1 locs1 hR' hL' hS' => W.widen hk2 hn2 <| kk hx hb hml hown hmn hts hG hZ ad' H1 locs1 ls hR' hL' hS')
  show (As.reverse ++ .ref b :: st).map (jv ad) = _
  simp [jv]
/-- Math.max, Math.min -/
theorem J.mmax {a c : Int32} (hRm : jRoom X F L MC MS) (hlk : Cond.methodLink y.cls ix Lib.Math.max.name ∈ lw_all) (hst : Cond.static Lib.Math.max.name ∈ lw_all) (hini : Cond.initialized "java/lang/Math" ∈ lw_all) (hcode : Cond.code Lib.Math.max.name Lib.Math.max.code 2 (some .int) ∈ lw_all) (hfr : 1 ≤ F) (hlo : (st.map fun v => v.category).sum + 13 ≤ L) (hk : k ≤ MC) (hn : n ≤ MS) (hd : decode cc pc = .ok (.invokestatic ix, 3)) (kk : J X cc nL y k n (pc + 3) lv (.int (jmax a c) :: st) hp) : J X cc nL y k n pc lv (.int c :: .int a :: st) hp := by
  obtain ⟨p, l', e, R, s, m, args, below, meth, c', Q, D', ad0, hp0⟩ := X
  intro hx hb hml hown hmn hts hG hZ ad H locs ls hR hL hS
  have hRm : F ≤ R.frames ∧ L ≤ R.locals ∧ MC ≤ R.cells ∧ MS ≤ R.slots := hRm
  have e9 : ((st.map (jv ad)).map fun v => v.category) = st.map fun v => v.category := by
    rw [List.map_map]
    exact List.map_congr_left fun v _ => jv_cat ad v
  exact va_mmax hx hb (hml.trans hL.1.symm) hown (hts _ hlk) (hts _ hst) (hts _ hini) (hts _ hcode) (Nat.le_trans hfr hRm.1) (by rw [e9]; exact Nat.le_trans hlo hRm.2.1) (Nat.le_trans hk hRm.2.2.1) (Nat.le_trans hn hRm.2.2.2) hd (kk hx hb hml hown hmn hts hG hZ ad H locs ls hR hL hS.t.t.i)
theorem J.mmin {a c : Int32} (hRm : jRoom X F L MC MS) (hlk : Cond.methodLink y.cls ix Lib.Math.min.name ∈ lw_all) (hst : Cond.static Lib.Math.min.name ∈ lw_all) (hini : Cond.initialized "java/lang/Math" ∈ lw_all) (hcode : Cond.code Lib.Math.min.name Lib.Math.min.code 2 (some .int) ∈ lw_all) (hfr : 1 ≤ F) (hlo : (st.map fun v => v.category).sum + 13 ≤ L) (hk : k ≤ MC) (hn : n ≤ MS) (hd : decode cc pc = .ok (.invokestatic ix, 3)) (kk : J X cc nL y k n (pc + 3) lv (.int (jmin a c) :: st) hp) : J X cc nL y k n pc lv (.int c :: .int a :: st) hp := by
  obtain ⟨p, l', e, R, s, m, args, below, meth, c', Q, D', ad0, hp0⟩ := X
  intro hx hb hml hown hmn hts hG hZ ad H locs ls hR hL hS
  have hRm : F ≤ R.frames ∧ L ≤ R.locals ∧ MC ≤ R.cells ∧ MS ≤ R.slots := hRm
  have e9 : ((st.map (jv ad)).map fun v => v.category) = st.map fun v => v.category := by
    rw [List.map_map]
    exact List.map_congr_left fun v _ => jv_cat ad v
  exact va_mmin hx hb (hml.trans hL.1.symm) hown (hts _ hlk) (hts _ hst) (hts _ hini) (hts _ hcode) (Nat.le_trans hfr hRm.1) (by rw [e9]; exact Nat.le_trans hlo hRm.2.1) (Nat.le_trans hk hRm.2.2.1) (Nat.le_trans hn hRm.2.2.2) hd (kk hx hb hml hown hmn hts hG hZ ad H locs ls hR hL hS.t.t.i)
end JC2
