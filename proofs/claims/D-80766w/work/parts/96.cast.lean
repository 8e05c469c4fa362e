/-! a checkcast that fails -/
set_option maxRecDepth 100000
section CNO
variable {p : Program} {l : Launch} {e : Env} {R : Room} {s : State} {m : MethodId} {args : Array Value} {below : List Frame} {meth : Method} {c : Code} {T : State} {locs : List Loc} {cells slots : Nat}
theorem jCastNo (X : Stand p l e R s m args below meth c T locs cells slots) (hexec : p.tables.exec = Jvm.exec)
    {own name : String} {index : Nat} (hown : s.vm.findClass own = some m.cls) (hlink : (Cond.classLink own index name).before args s = true)
    {a : Addr} {cell : Cell} {cT : ClassId} {ks kt : Class} (hcell : T.heap[a]? = some cell) (hobj : ∀ k, cell.vm ≠ .statics k) (hks : s.vm.classes[cell.cls]? = some ks) (hkt : s.vm.classes[cT]? = some kt)
    (hcT : s.vm.findClass name = some cT) (hasg : s.vm.assignable cell.cls cT = false)
    {g : JFrame} (hg : g.method = m) {rest : List Value} (hstack : g.stack = .ref a :: rest) (hdg : decode c.code g.pc = .ok (.checkcast index, 3)) :
    ∃ (vm' : Vm) (ks' kt' : Class), (ks' = { ks with resolved := ks'.resolved, nestHost := ks'.nestHost, nestHostError := ks'.nestHostError }) ∧ (kt' = { kt with resolved := kt'.resolved, nestHost := kt'.nestHost, nestHostError := kt'.nestHostError }) ∧ Stand p l e R s m args below meth c (T.setVm vm') locs cells slots ∧
      ∀ target, Steps p.tables e below (((T.setVm vm').setTop g).pushFrame (.throwNew "java/lang/ClassCastException" (some (Op.checkcast.message vm' ks' kt')) none)) target → Steps p.tables e below (T.setTop g) target := by
  have hpl : e.platform.magicAccessors = ({} : Platform).magicAccessors := by rw [X.admits.platform]
  obtain ⟨c', hc', hcl⟩ := Cond.classLink_spec hown hlink e.platform hpl
  cases hcT.symm.trans hc'
  obtain ⟨dk, _, _, kt0, hd, _, _, _, _, hkt0, _, hopen⟩ := hcl.here
  have hcl₀ := X.warmed.classLinks hcl
  have hW' : s.WarmedH (T.vm.noted m.cls index (.cls cT)) := X.warmed.noted hd hopen (State.rightAt_cls hcl)
  obtain ⟨ks', hks', es⟩ := hW'.alike.2.2 _ _ hks
  obtain ⟨kt', hkt', et⟩ := hW'.alike.2.2 _ _ hkt
  refine ⟨_, ks', kt', es, et, X.noted hW', fun target hrest => ?_⟩
  subst hg
  jvm_step X.here [hexec, hdg, checkcast.wp_cold (e := e) (s := T) (f := g) X.here.top hstack (resolveClass_links e.toSetting hcl₀) hcl₀.ready,
    checkcast.wp_ready (e := e) (s := T.setVm (T.vm.noted g.method.cls index (.cls cT))) (f := g) X.here.top hcl₀.ready hstack]
  refine ⟨cell, hcell, hobj, ks', hks', kt', hkt', ?_⟩
  rw [if_neg (by rw [hW'.alike.assignable, hasg]; decide)]
  exact hrest
end CNO
def jTx (a b h : String) : String := "class " ++ a ++ " cannot be cast to class " ++ b ++ " (" ++ (a ++ " and " ++ b ++ " are in " ++ (h ++ " of loader 'bootstrap'")) ++ ")"
theorem jTx_of {vm : Vm} {s t : Class} {a b : String} (hs : s.name = a) (ht : t.name = b) (hs1 : s.hidden = none) (ht1 : t.hidden = none) (hs2 : s.loader = none) (ht2 : t.loader = none) (hs3 : s.ofPrimitives = true) (ht3 : t.ofPrimitives = true) (ha : dotted a = a) (hb : dotted b = b) : Op.checkcast.message vm s t = jTx a b "module java.base" ∨ Op.checkcast.message vm s t = jTx a b "unnamed module" := by
  have s1 : s.shown = a := by unfold Class.shown; rw [hs1]; exact (congrArg dotted hs).trans ha
  have t1 : t.shown = b := by unfold Class.shown; rw [ht1]; exact (congrArg dotted ht).trans hb
  have ms : vm.moduleOf s = vm.modules.find? (·.name == "java.base") := by unfold Vm.moduleOf; rw [if_pos hs3]
  have mt : vm.moduleOf t = vm.modules.find? (·.name == "java.base") := by unfold Vm.moduleOf; rw [if_pos ht3]
  have hsame : vm.sameModule s t = true := by
    unfold Vm.sameModule
    rw [ms, mt]
    cases vm.modules.find? (·.name == "java.base") with
    | none => simp [hs2, ht2]
    | some m => simp
  have key : Op.checkcast.message vm s t = jTx a b (match vm.moduleOf s with | some m => "module " ++ m.name | none => "unnamed module") := by
    unfold Op.checkcast.message Vm.homes Vm.home Vm.loaderName jTx
    rw [hsame, s1, t1, hs2]
    simp only [if_true, toString, String.append_assoc]
    rfl
  rw [key, ms]
  cases h : vm.modules.find? (·.name == "java.base") with
  | none => exact .inr rfl
  | some m =>
    left
    have h1 := List.find?_some h
    have h2 : m.name = "java.base" := by simpa using h1
    show jTx a b ("module " ++ m.name) = _
    rw [h2]
    rfl
theorem jfindC {vm : Vm} {name : String} {c : ClassId} (h : vm.findClass name = some c) : ∃ k, vm.classes[c]? = some k ∧ k.name = name ∧ k.hidden = none ∧ k.loader = none := by
  obtain ⟨hlt, hp, _⟩ := Array.findIdx?_eq_some_iff_getElem.mp h
  refine ⟨vm.classes[c], by simp [hlt], ?_⟩
  simp only [Bool.and_eq_true, beq_iff_eq, Option.isNone_iff_eq_none] at hp
  exact ⟨hp.1.1.1, hp.1.1.2, hp.2⟩
def jtn (ty : FieldType) : String := "[" ++ ty.toString
def jt3 (ty : FieldType) : Prop := ty = .byte ∨ ty = .short ∨ ty = .int
theorem jt3_kind {ty : FieldType} {kt : Class} {comp : ClassId} (h3 : jt3 ty) (hn : kt.name = jtn ty) (hk : kt.kind = .array comp ty) : kt.ofPrimitives = true := by
  have key : ((withoutBrackets (jtn ty)).length == 1) = true := by rcases h3 with rfl | rfl | rfl <;> decide +kernel
  unfold Class.ofPrimitives
  rw [hk, hn]
  exact key
theorem jTx_ok {t1 t2 : FieldType} (h1 : jt3 t1) (h2 : jt3 t2) {h : String} (hh : h = "module java.base" ∨ h = "unnamed module") : (jTx (jtn t1) (jtn t2) h == notModelled) = false ∧ (stringBytes (stringToUtf16 (jTx (jtn t1) (jtn t2) h))).size ≤ 200 := by
  rcases h1 with rfl | rfl | rfl <;> rcases h2 with rfl | rfl | rfl <;> rcases hh with rfl | rfl <;> exact ⟨by decide +kernel, by decide +kernel⟩
theorem jt3_dot {ty : FieldType} (h : jt3 ty) : dotted (jtn ty) = jtn ty := by rcases h with rfl | rfl | rfl <;> decide +kernel
theorem jt3_nc {t1 t2 : FieldType} (h1 : jt3 t1) (h2 : jt3 t2) (h : t1 ≠ t2) : (jtn t1, jtn t2) ∈ jncL := by
  rcases h1 with rfl | rfl | rfl <;> rcases h2 with rfl | rfl | rfl <;> first | exact absurd rfl h | decide +kernel
theorem jt3_arr {ty : FieldType} (h : jt3 ty) : Cond.arrayClass ty ∈ lw_all := by rcases h with rfl | rfl | rfl <;> first | exact q654 | exact q780 | exact q105
theorem jt3_RA {s : State} {cA : ClassId} {ty : FieldType} (h : jt3 ty) (hR : va_RA s cA ty) : s.vm.findClass (jtn ty) = some cA := by rcases h with rfl | rfl | rfl <;> exact hR
section JO
variable {X : jX} {cc : ByteArray} {nL : Nat} {y : MethodName} {k n pc : Nat} {lv : List (Option Value)} {st : List Value} {hp : jH} {F L MC MS mc ms : Nat}
/-- a checkcast that fails, out of the method -/
theorem J.castX {ix a len : Nat} {f : Nat → Int32} {t1 t2 : FieldType} (hRm : jRoom X F L MC MS) (hE : jEndsT X "java/lang/ClassCastException" hp mc ms) (ha : hp a = some (.inl (t1, len, .inl f))) (h8 : 8 ≤ a) (h1 : jt3 t1) (h2 : jt3 t2) (hne : t1 ≠ t2) (hcl : Cond.classLink y.cls ix (jtn t2) ∈ lw_all) (hF : 6 < F) (hLo : (st.map (fun v => v.category)).sum + 1 + 10240 ≤ L) (hkM : k + 3 ≤ MC) (hnM : n + 210 ≤ MS) (hk : k + 3 ≤ mc) (hn : n + 210 ≤ ms) (hd : decode cc pc = .ok (.checkcast ix, 3)) : J X cc nL y k n pc lv (.ref a :: st) hp := by
  obtain ⟨p, l, e, R, s, m, args, below, meth, c, Q, D, ad0, hp0⟩ := X
  intro hx hb hml hown hmn hts hG hZ ad H locs ls hR hL hS T hT S
  obtain ⟨hNT, hlk, htab, rfl⟩ := hE
  subst hT
  obtain ⟨cA, ce, hcell, hsl, rfl, hkn, hst9, hIs, hA, hRA⟩ := (hR.1 a _ ha).1.arr
  obtain ⟨c1, c2, f1, f2, f3⟩ := hG.2.2.2 _ (jt3_nc h1 h2 hne)
  cases f1.symm.trans (jt3_RA h1 (hRA h8))
  obtain ⟨ks, g1, g2, g3, g4⟩ := jfindC f1
  obtain ⟨kt, i1, i2, i3, i4⟩ := jfindC f2
  obtain ⟨hv, ks9, hk9, comp1, hkind1⟩ := hIs
  cases g1.symm.trans hk9
  obtain ⟨c9, kt9, comp2, e1, e2, e3⟩ := Cond.arrayClass_spec (hts _ (jt3_arr h2))
  cases f2.symm.trans e1
  cases i1.symm.trans e2
  obtain ⟨vm', ks', kt', es, et, S', hst⟩ := jCastNo S hx hown (hts _ hcl) hcell hv g1 i1 f2 f3 (g := F0 m pc ls (.ref (ad a) :: st.map (jv ad))) rfl rfl (by rw [hb]; exact hd)
  have hpk : ks'.ofPrimitives = true := jt3_kind h1 (by rw [es]; exact g2) (by rw [es]; exact hkind1)
  have hpt : kt'.ofPrimitives = true := jt3_kind h2 (by rw [et]; exact i2) (by rw [et]; exact e3)
  have htx := jTx_of (vm := vm') (s := ks') (t := kt') (a := jtn t1) (b := jtn t2) (by rw [es]; exact g2) (by rw [et]; exact i2) (by rw [es]; exact g3) (by rw [et]; exact i3) (by rw [es]; exact g4) (by rw [et]; exact i4) hpk hpt (jt3_dot h1) (jt3_dot h2)
  have hok : (Op.checkcast.message vm' ks' kt' == notModelled) = false ∧ (stringBytes (stringToUtf16 (Op.checkcast.message vm' ks' kt'))).size ≤ 200 := by
    rcases htx with h | h
    · rw [h]; exact jTx_ok h1 h2 (.inl rfl)
    · rw [h]; exact jTx_ok h1 h2 (.inr rfl)
  exact jThrowO (B := 200) (st := .ref a :: st) (pc := pc) (ls := ls) hRm hNT hlk htab (names := ["java/lang/RuntimeException", "java/lang/Exception"]) (by decide +kernel) (by decide +kernel) (by decide +kernel) (by decide +kernel) atoms_cce hok.1 hok.2 (by decide) (by show 2 + 4 < F; omega) (by decide) (by
    show ((Value.ref a).category + (st.map (fun v => v.category)).sum) + 10240 ≤ L
    show (1 + (st.map (fun v => v.category)).sum) + 10240 ≤ L
    omega) hkM hnM hk hn hx hml hts hG hZ S' hR hL hst
end JO
