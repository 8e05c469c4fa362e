/-! NullPointerException of the machine's own; exceptions that leave a method -/
set_option maxRecDepth 100000
section NPE
variable {p : Program} {l : Launch} {e : Env} {R : Room} {s : State} {m : MethodId} {args : Array Value} {below : List Frame} {meth : Method} {c : Code} {T' : State} {locs : List Loc} {cells slots : Nat}
set_option maxHeartbeats 4000000 in
theorem jNpeC (X : Stand p l e R s m args below meth c T' locs cells slots) (hexec : p.tables.exec = Jvm.exec) (htr : e.platform.stackTraces = false) {n : Nat} (h : ∀ a ∈ Bundle.npeArmAtoms n, a.before args s = true)
    (hlocs : ∀ x ∈ locs, ∀ cell, s.heap[x.base]? = some cell → cell.vm.isStatics = false)
    {g : JFrame} (hg : g.method = m) (hsize : g.locals.size = c.maxLocals)
    (hRframes : 7 < R.frames) (hRlocals : 2 * g.monitorRoom + (g.stack.map fun v => v.category).sum + 10240 ≤ R.locals) (hRcells : cells + 1 ≤ R.cells) (hRslots : slots + n ≤ R.slots) :
    ∃ W : State, Stand p l e R s m args below meth c W locs (cells + 1) (slots + n) ∧ (∀ i, i < T'.heap.size → W.heap[i]? = T'.heap[i]?) ∧
      (∃ cell, W.heap[T'.heap.size]? = some cell ∧ s.vm.findClass "java/lang/NullPointerException" = some cell.cls ∧ cell.vm = .none) ∧
      ∀ target, Steps p.tables e below ((W.setTop g).pushFrame (.throwing T'.heap.size)) target → Steps p.tables e below ((T'.setTop g).pushFrame (.throwNew "java/lang/NullPointerException" none none)) target := by
  have howns : e.platform.frameOwnsMonitors = true := by rw [X.admits.platform]
  have hfin : e.platform.finalization = false := by rw [X.admits.platform]
  have hpl : e.platform.magicAccessors = ({} : Platform).magicAccessors := by rw [X.admits.platform]
  have hpl2 : e.platform.arrayCloneIsPublic = true := by rw [X.admits.platform]
  have a : ∀ x, x ∈ Bundle.npeArmAtoms n → x.holds args s none s [] = true := fun x hx => h x hx
  obtain ⟨T, Z, L, LZ, Y⟩ := ThrowableC.of_atoms (args := args) howns hfin hpl (fun x hx => h x (by simp [Bundle.npeArmAtoms, hx]))
  obtain ⟨N, LN, hcN, hnNF, hordN, hffS⟩ := NpeC.of_atoms (args := args) hpl hpl2 L Y (fun x hx => h x (by simp [Bundle.npeArmAtoms, hx]))
  obtain ⟨P1, L1, hP1m, hP1s⟩ := PassC.of_atoms (args := args) (s := s) hpl (X := Bundle.nN) (Y := Bundle.rN) (by decide) (by decide) LibCode.NullPointerException.Init0.at_0 LibCode.NullPointerException.Init0.at_1 LibCode.NullPointerException.Init0.at_4 (fun x hx => h x (by simp [Bundle.npeArmAtoms, hx]))
  obtain ⟨PR, LR, hPRm, hPRs⟩ := PassC.of_atoms (args := args) (s := s) hpl (X := Bundle.rN) (Y := Bundle.eN) (by decide) (by decide) LibCode.RuntimeException.Init0.at_0 LibCode.RuntimeException.Init0.at_1 LibCode.RuntimeException.Init0.at_4 (fun x hx => h x (by simp [Bundle.npeArmAtoms, hx]))
  obtain ⟨PE, LEx, hPEm, hPEs⟩ := PassC.of_atoms (args := args) (s := s) hpl (X := Bundle.eN) (Y := Bundle.tN) (by decide) (by decide) LibCode.Exception.Init0.at_0 LibCode.Exception.Init0.at_1 LibCode.Exception.Init0.at_4 (fun x hx => h x (by simp [Bundle.npeArmAtoms, hx]))
  have hfound : s.vm.findClass Bundle.nN = some P1.m.cls := findClass_of_methodNamed hP1m
  have ecls : N.cN = P1.m.cls := Option.some.inj (hcN.symm.trans hfound)
  have hk : s.vm.classes[P1.m.cls]? = some N.kN := by rw [← ecls]; exact LN.cls
  have hinit := Cond.initialized_spec hfound hk (a (.initialized Bundle.nN) (by simp [Bundle.npeArmAtoms]))
  have hctor : N.kN.findMethod "<init>" "()V" = some P1.m.idx := findMethod_of_methodNamed hP1m hk
  obtain ⟨c1, k1, hc1, hk1, -, -, -, hn⟩ := Cond.instantiable_spec (a (.instantiable Bundle.nN n) (by simp [Bundle.npeArmAtoms]))
  cases Option.some.inj (hc1.symm.trans hfound)
  cases Option.some.inj (hk1.symm.trans hk)
  have hlink1 : P1.sup = PR.m := Option.some.inj (hP1s.symm.trans hPRm)
  have hlinkR : PR.sup = PE.m := Option.some.inj (hPRs.symm.trans hPEm)
  have hlinkE : PE.sup = Z.m T.toThrowableT := Option.some.inj (hPEs.symm.trans Y.init0)
  have hsel0 : selectMethod e.platform s.vm P1.m.cls T.fill0 = .method T.fill0 := by
    obtain ⟨c2, r2, m2, q1, q2, q3, q4, -⟩ := Cond.selects_spec (a (.selects Bundle.nN Bundle.tFill0 Bundle.tFill0) (by simp [Bundle.npeArmAtoms]))
    cases Option.some.inj (q1.symm.trans hfound)
    cases Option.some.inj (q2.symm.trans (State.methodFound?_of_named Y.fill0 (by decide)))
    cases Option.some.inj (q3.symm.trans Y.fill0)
    rw [Launch.admits_selectMethod X.admits]; exact q4
  have hselF : selectMethod e.platform s.vm P1.m.cls T.fill = .method N.fill := by
    obtain ⟨c2, r2, m2, q1, q2, q3, q4, -⟩ := Cond.selects_spec (a (.selects Bundle.nN Bundle.tFill Bundle.nFill) (by simp [Bundle.npeArmAtoms]))
    cases Option.some.inj (q1.symm.trans hfound)
    cases Option.some.inj (q2.symm.trans (State.methodFound?_of_named Y.fill (by decide)))
    cases Option.some.inj (q3.symm.trans hnNF)
    rw [Launch.admits_selectMethod X.admits]; exact q4
  obtain ⟨cellS0, hcS0, hiss⟩ := Y.statics
  obtain ⟨u0, hu0⟩ := Cond.staticRefV Y.unassigned L.unassignedStatic L.statics hcS0 hiss (a (.isRef (.static Bundle.tN "UNASSIGNED_STACK" Bundle.steD)) (by simp [Bundle.npeArmAtoms]))
  obtain ⟨sen, hsen⟩ := Cond.staticRefV Y.sentinel L.sentinelStatic L.statics hcS0 hiss (a (.isRef (.static Bundle.tN "SUPPRESSED_SENTINEL" Bundle.listD)) (by simp [Bundle.npeArmAtoms]))
  obtain ⟨ci198, i198, fB, hk198, hg198, ha198, hsB, -, hnB, htB, hffB⟩ := Cond.ownField (t := .object "java/lang/Object") Y.found L.cls (by decide +kernel) (a (.fieldLink Bundle.tN 198 Bundle.tN "backtrace" Bundle.objD) (by simp [Bundle.npeArmAtoms])) (a (.lays Bundle.tN Bundle.tN "backtrace" Bundle.objD) (by simp [Bundle.npeArmAtoms])) e.platform hpl
  obtain ⟨cellS, hcS', heS, -, hkeep⟩ := X.same.2.2.2.2.2 T.aS cellS0 hcS0
  have hcellS : T'.heap[T.aS]? = some cellS := hcS'
  have hout' : ∀ i, (⟨T.aS, i⟩ : Loc) ∉ locs := fun i hmem => by
    have := hlocs _ hmem cellS0 hcS0
    rw [hiss] at this; cases this
  have hknownS : cellS.vm ≠ .unknown := by
    rw [heS]; intro hu
    rw [show cellS0.vm = .unknown from hu] at hiss
    cases hiss
  obtain ⟨tyC, dC, hdC, hdnC⟩ := Cond.laysAt hfound hk Y.cause (a (.lays Bundle.nN Bundle.tN "cause" "Ljava/lang/Throwable;") (by simp [Bundle.npeArmAtoms]))
  obtain ⟨tyS, dS, hdS, hdnS⟩ := Cond.laysAt hfound hk Y.stack (a (.lays Bundle.nN Bundle.tN "stackTrace" Bundle.steD) (by simp [Bundle.npeArmAtoms]))
  obtain ⟨tyP, dP, hdP, hdnP⟩ := Cond.laysAt hfound hk Y.supp (a (.lays Bundle.nN Bundle.tN "suppressedExceptions" Bundle.listD) (by simp [Bundle.npeArmAtoms]))
  obtain ⟨tyX, dX, hdX, hdnX⟩ := Cond.laysAt hfound hk hffS (a (.lays Bundle.nN Bundle.nN "extendedMessageState" "I") (by simp [Bundle.npeArmAtoms, Bundle.npeAtoms]))
  have hnX : N.fState.name = "extendedMessageState" := (State.fieldFound?_type hffS (t := .int) (by decide +kernel)).1
  obtain ⟨tyB, dB, hdB, hdnB⟩ := Cond.laysAt hfound hk hffB (a (.lays Bundle.nN Bundle.tN "backtrace" Bundle.objD) (by simp [Bundle.npeArmAtoms]))
  have bC := Cond.laysApart hdB hdC hdnB hdnC (by rw [hnB, Y.causeName]; decide)
  have bS := Cond.laysApart hdB hdS hdnB hdnS (by rw [hnB, Y.stackName]; decide)
  have bP := Cond.laysApart hdB hdP hdnB hdnP (by rw [hnB, Y.suppName]; decide)
  have bX := Cond.laysApart hdB hdX hdnB hdnX (by rw [hnB, hnX]; decide)
  have hskip : SkipFacts T e.platform s (fun u => u) u0 ((npeCell N.toNpeT (preparedCellV T.toThrowableT (freshCell P1.m.cls N.kN) T'.heap.size u0 sen) T'.cur).withEntry T'.cur) :=
    ⟨{ ci198 := ci198, i198 := i198, fBack := fB }, ⟨hk198, hg198, ha198, hsB⟩, by
      have := fresh_default (c := P1.m.cls) tyB
      rw [htB] at this
      simpa [npeCell, preparedCellV, Cell.setSlot, Cell.withEntry, Array.getElem?_setIfInBounds, bC, bS, bP, bX, bC.symm, bS.symm, bP.symm, bX.symm, defaultValue] using this, fun _ _ => rfl⟩
  have hat : At T' g.method c below := by rw [hg]; exact X.here
  obtain ⟨hbeyond, hfreeW⟩ := X.vmMayThrow hsize (.throwNew "java/lang/NullPointerException" none none) (fun f hf => by cases hf) rfl hRlocals
  have hfr' : T'.frames.length + [PR, PE].length + 5 < (e.platform.stackLimits T'.me).1 := by have := X.framesAbove hRframes; simp only [List.length_cons, List.length_nil]; omega
  have hwd' : (stackUse (.java g :: T'.frames.tail)).2 + 13 * [PR, PE].length + 68 ≤ (e.platform.stackLimits T'.me).2 := by have := X.stackAbove hsize (K := 13 * 2 + 68) (by omega); simp only [List.length_cons, List.length_nil]; omega
  obtain ⟨vm', hW', st⟩ := Steps.vmThrowsNpeColdByV p (s₀ := s) (S := T') (g := g) hat hexec T L Z LZ N LN X.warmed (t := T'.cur) rfl P1 L1 [PR, PE] (fun P hP => by
      simp only [List.mem_cons, List.not_mem_nil, or_false] at hP
      rcases hP with rfl | rfl
      · exact LR
      · exact LEx) hlink1 ⟨hlinkR, hlinkE, trivial⟩ hfound hk hinit hordN hctor
    (Launch.admits_hotImplicitExceptions X.admits) hbeyond hfreeW (X.cellsAbove hRcells) (X.slotsAbove (by rw [hn]; exact hRslots))
    (Nn := fun u => u) heapOnly_id (fun _ _ => rfl) (fun _ => rfl) (fun u x y => setCell_twice _ _ _ _) (fun _ => Nat.le_refl _) (cN := ((npeCell N.toNpeT (preparedCellV T.toThrowableT (freshCell P1.m.cls N.kN) T'.heap.size u0 sen) T'.cur).withEntry T'.cur))
    hsel0 hcellS hknownS (by rw [hkeep _ (hout' _)]; exact hu0) (by rw [fresh_default tyX, LN.stateInt]; rfl) (Cond.laysApart hdC hdX hdnC hdnX (by rw [Y.causeName, hnX]; decide)) (Cond.laysApart hdS hdX hdnS hdnX (by rw [Y.stackName, hnX]; decide)) (Cond.laysApart hdP hdX hdnP hdnX (by rw [Y.suppName, hnX]; decide)) (Takes.of_laid hk hordN tyS (by rw [Y.stackType]; exact fits_refV_array _ u0)) (Takes.of_laid hk hordN tyX (by rw [LN.stateInt]; rfl)) (fun _ hu => hu) (fun _ hu => hu) rfl rfl rfl (by simp [npeCell, preparedCellV, Cell.setSlot, Cell.withEntry]) hskip (fun _ _ hA hW _ hroom _ hrest => L.nativeOff p htr hA hW hroom hrest) hselF (by rw [hkeep _ (hout' _)]; exact hsen) (Takes.of_laid hk hordN tyC (by rw [Y.causeType]; rfl)) (Takes.of_laid hk hordN tyP (by rw [Y.suppType]; exact fits_refV_object _ sen)) Y.objLocals rfl hfr' hwd'
  rw [npeBareV_eq T.toThrowableT N.toNpeT T'.heap.size u0 sen T'.cur rfl rfl] at st
  have X2 := (X.pushed (freshCell P1.m.cls N.kN)).noted hW'
  have hsz : ((T'.pushCell (freshCell P1.m.cls N.kN)).setVm vm').heap.size = T'.heap.size + 1 := State.heap_size_pushCell _ _
  have ha : T'.heap.size < ((T'.pushCell (freshCell P1.m.cls N.kN)).setVm vm').heap.size := by rw [hsz]; omega
  have hcell : ((T'.pushCell (freshCell P1.m.cls N.kN)).setVm vm').heap[T'.heap.size]? = some (freshCell P1.m.cls N.kN) := State.heap_pushCell_size T' (freshCell P1.m.cls N.kN)
  have X3 := ((((X2.stored hcell T.fCause.slot (.ref T'.heap.size)).storedAgain ha T.fStack.slot u0.v).storedAgain ha T.fSupp.slot sen.v).storedAgain ha N.fState.slot (.int 1)).storedAgain ha T.fStack.slot u0.v
  have hsz8 : (freshCell P1.m.cls N.kN).slots.size = n := by simp [hn]
  obtain ⟨g₁, hfrM⟩ := X3.frames_eq
  have hU : ((((T'.pushCell (freshCell P1.m.cls N.kN)).setVm vm').setCell T'.heap.size (npeBareV T.toThrowableT N.toNpeT (freshCell P1.m.cls N.kN) T'.heap.size u0 sen)).setTop g).pushFrame (.throwing T'.heap.size) = (((T'.pushCell (freshCell P1.m.cls N.kN)).setVm vm').setCell T'.heap.size (npeBareV T.toThrowableT N.toNpeT (freshCell P1.m.cls N.kN) T'.heap.size u0 sen)).setFrames (.throwing T'.heap.size :: .java g :: below) := by
    rw [State.pushFrame, State.frames_setTop _ hfrM, State.setTop_of_frames _ hfrM, State.setFrames_setFrames]
  refine ⟨((T'.pushCell (freshCell P1.m.cls N.kN)).setVm vm').setCell T'.heap.size (npeBareV T.toThrowableT N.toNpeT (freshCell P1.m.cls N.kN) T'.heap.size u0 sen), ?_, fun i hi => ?_, ⟨_, heapAt_setCell_self (s := (T'.pushCell (freshCell P1.m.cls N.kN)).setVm vm') _ ha, hfound, rfl⟩, fun target hrest => ?_⟩
  · refine ⟨X3.admits, X3.cas, X3.clock, X3.frames, X3.room, X3.hears, X3.method, X3.code, X3.here, X3.tail, X3.warmed, X3.limits, X3.bytes, ?_⟩
    refine X3.same.weaken (fun y hy hlt => ?_) (Nat.le_refl _) (by rw [hsz8]; exact Nat.le_refl _)
    simp only [List.append_assoc, List.cons_append, List.nil_append] at hy
    rcases List.mem_append.mp hy with h1 | h1
    · exact h1
    · exfalso
      have hb : y.base = T'.heap.size := by
        simp only [List.mem_cons, List.not_mem_nil, or_false] at h1
        rcases h1 with rfl | rfl | rfl | rfl | rfl <;> rfl
      have hge : s.heap.size ≤ T'.heap.size := X.same.2.1
      rw [hb] at hlt
      exact Nat.not_lt.mpr hge hlt
  · rw [heapAt_setCell_ne _ (Nat.ne_of_gt hi)]
    show (T'.heap.push _)[i]? = _
    rw [Array.getElem?_push, if_neg (Nat.ne_of_lt hi)]
  · refine st target ?_
    rw [X.tail, ← hU]
    exact hrest
end NPE
/-- how a method ends that throws: an exception of the class cls, the heap hpE -/
def jQT (D : va_G) (ad0 : Nat → Nat) (hp0 : jH) (sz : Nat) (cls : String) (hpE : jH) : Array Value → State → Outcome → State → Prop := fun _ st o t =>
  ∃ (ad : Nat → Nat) (x : Addr) (cell : Cell), o = .threw x ∧ t.heap[x]? = some cell ∧ st.vm.findClass cls = some cell.cls ∧ cell.vm = .none ∧ jCells D t ad hpE t.heap ∧ jInj ad hpE ∧ va_F (jF ad0 hp0 sz) st t ∧ (∀ n : Nat, hpE n ≠ none → 8 ≤ n → jF ad0 hp0 sz (ad n)) ∧ (∀ n : Nat, hp0 n ≠ none → ad n = ad0 n ∧ hpE n ≠ none) ∧ (∀ n : Nat, n < 8 → hpE n ≠ none → hp0 n ≠ none)
def jFT2 (st t : State) (L : List Loc) (mc ms : Nat) : Prop := st.WarmedH t.vm ∧ st.sameButNew ({ t with vm := st.vm } : State) L mc ms
def MQT (below : List Frame) (D : va_G) (ad0 : Nat → Nat) (hp0 : jH) (cls : String) (hpE : jH) (a : Array Value) (s : State) (mc ms : Nat) : State → Prop := fun t =>
  ∃ o, t.status = .running ∧ Ended t below o ∧ jQT D ad0 hp0 s.heap.size cls hpE a s o t ∧ ∃ L, jFT2 s t L mc ms ∧ ∀ q ∈ L, jF ad0 hp0 s.heap.size q.base
/-- A CONTRACT of a throw -/
def jMT (D : va_G) (l : Launch) (y : MethodName) (ws : List Cond) (rm : Room) (hp : jH) (av : List Value) (cls : String) (hp' : jH) : Prop :=
  ∀ (ad : Nat → Nat) (sz : Nat), MetFree l y (headSpec ws rm) (jPc D ad sz hp av) (fun _ _ _ _ _ => True) (fun a st o t => jQT D ad hp sz cls hp' a st o t ∧ ∃ L, jFT2 st t L rm.cells rm.slots ∧ ∀ q ∈ L, jF ad hp sz q.base)
def jEndsT (X : jX) (cls : String) (hpE : jH) (mc ms : Nat) : Prop := match X with
  | (_, l, _, _, s, _, args, below, meth, c, Q, D, ad0, hp0) => jNT l ∧ meth.locks = false ∧ c.exceptionTable.toList = [] ∧ Q = MQT below D ad0 hp0 cls hpE args s mc ms
theorem jMT.of {D : va_G} {l : Launch} {y : MethodName} {cc : ByteArray} {maxL : Nat} {ret : Option FieldType} {rm : Room} {hp hp' : jH} {av : List Value} {cls : String} {lv0 : List (Option Value)} (hl : jNT l) (hy : plainName y.cls = true) (hlen : (jsl av).length ≤ maxL) (hlv : jlv0 av maxL = lv0)
    (body : ∀ X : jX, jDl X D l → jRoom X rm.frames rm.locals rm.cells rm.slots → jEndsT X cls hp' rm.cells rm.slots → jX0 X hp → J X cc maxL y 0 0 0 lv0 [] hp) : jMT D l y (ws_ y cc maxL ret) rm hp av cls hp' := by
  intro ad sz
  refine MetFree.of_bodyS (code := cc) (maxLocals := maxL) (ret := ret) hy ?_ ?_
  · intro args s m h hn
    obtain ⟨meth, c, h1, h2, h3, h4, h5, h6, -, -⟩ := Cond.code_spec hn (atoms_spec (ws := ws_ y cc maxL ret) h _ List.mem_cons_self)
    exact ⟨meth, c, h1, h2, h3, h4, h5, h6⟩
  · intro p e s m args below meth c s₁ B hml hv _
    obtain ⟨rfl, hsz, hG, hZ, hC, hI, hS⟩ := hv
    subst hsz
    subst hlv
    have hts := atoms_spec (ws := ws_ y cc maxL ret) B.pre
    have htab : c.exceptionTable.toList = [] := by
      obtain ⟨meth9, c9, h1, h2, -, -, -, -, h5, -⟩ := Cond.code_spec B.named (hts _ List.mem_cons_self)
      cases B.method.symm.trans h1
      cases (Stand.of_body B).code.symm.trans h2
      rw [Array.isEmpty_iff] at h5
      rw [h5]
    have hts : ∀ w ∈ lw_all, w.before _ s = true := fun w h => hts w (List.mem_cons_of_mem _ h)
    have hb := body (p, l, e, (headSpec (ws_ y cc maxL ret) rm).room, s, m, (av.map (jv ad)).toArray, below, meth, c, MQT below D ad hp cls hp' (av.map (jv ad)).toArray s rm.cells rm.slots, D, ad, hp) ⟨rfl, rfl⟩ ⟨Nat.le_refl _, Nat.le_refl _, Nat.le_refl _, Nat.le_refl _⟩ ⟨hl, B.notSynchronized, htab, rfl⟩ rfl
    have key := hb B.exec B.bytes hml (findClass_of_methodNamed B.named) (name_of_methodNamed B.named B.method).1 hts hG hZ ad s.heap [] _ ⟨hC, hI, va_S.rf, fun n h1 h2 => Or.inl ⟨n, h1, h2, rfl⟩, fun n h => ⟨rfl, h⟩, fun n _ h => h⟩ (jL.entry hS hlen) jS.nil
    have hh0 : s₁.heap = s.heap := by rw [B.state]; rfl
    rw [← List.map_nil (f := jv ad)] at key
    obtain ⟨t, a1, o, b1, b2, b3, b4⟩ := key s₁ hh0 (Stand.of_body B)
    refine ⟨t, o, ?_, b1, b2, b3, b4⟩
    rw [lg_entry_eq]
    exact a1
/-- the exception leaves -/
theorem jLeave {p : Program} {l : Launch} {e : Env} {R : Room} {s : State} {m : MethodId} {args : Array Value} {below : List Frame} {meth : Method} {c : Code} {T : State} {locs : List Loc} {D : va_G} {ad0 ad : Nat → Nat} {hp0 hp : jH} {k n mc ms : Nat} {cls : String} (S : Stand p l e R s m args below meth c T locs k n) (hlk : meth.locks = false) (htab : c.exceptionTable.toList = []) (hk : k ≤ mc) (hn : n ≤ ms) (hR : jR D s ad0 hp0 ad hp T.heap locs) {x : Addr} {cell : Cell} (h1 : T.heap[x]? = some cell) (h2 : s.vm.findClass cls = some cell.cls) (h3 : cell.vm = .none) {g : JFrame} (hg : g.method = m) (hl : g.locked = none) (he : g.entered = []) : ∃ t, Steps p.tables e below ((T.setTop g).pushFrame (.throwing x)) t ∧ MQT below D ad0 hp0 cls hp args s mc ms t := by
  obtain ⟨a1, a2, a3, a4, a5⟩ := S.leaveThrown x hg hl he (by rw [htab]; intro y hy; cases hy) hlk
  refine ⟨_, a1, .threw x, a2, a3, ⟨ad, x, cell, rfl, h1, h2, h3, ?_, hR.2.1, ⟨hR.2.2.1.1, hR.2.2.1.2.1⟩, hR.2.2.2.1, hR.2.2.2.2.1, hR.2.2.2.2.2⟩, locs, ⟨a4, a5.weaken (fun y hy _ => hy) hk hn⟩, hR.2.2.1.2.2⟩
  exact hR.1.moved a4.alike
/-- a throw of the machine's own, with a message, that leaves the method -/
theorem jThrowO {p : Program} {l : Launch} {e : Env} {R : Room} {s : State} {m : MethodId} {args : Array Value} {below : List Frame} {meth : Method} {c : Code} {T T0 : State} {locs : List Loc} {D : va_G} {ad0 ad : Nat → Nat} {hp0 hp : jH} {nL : Nat} {k n pc : Nat} {lv : List (Option Value)} {ls : Array Slot} {st : List Value} {F L MC MS B mc ms : Nat}
    {cls : String} {names : List String} {text : String}
    (hRm : F ≤ R.frames ∧ L ≤ R.locals ∧ MC ≤ R.cells ∧ MS ≤ R.slots) (hNT : jNT l) (hlk : meth.locks = false) (htab : c.exceptionTable.toList = []) (hcls : Bundle.fit cls = true) (hnames : ∀ n ∈ names, Bundle.fit n = true) (hsoe : (cls == "java/lang/StackOverflowError") = false) (hoom : (cls == "java/lang/OutOfMemoryError") = false) (hat : (Bundle.messageArmAtoms cls names).all jAt0 = true) (hmod : (text == notModelled) = false) (hB : (stringBytes (stringToUtf16 text)).size ≤ B) (hB2 : B ≤ 10000)
    (hF : names.length + 4 < F) (hF2 : names.length ≤ 10) (hLo : (st.map (fun v => v.category)).sum + 10240 ≤ L) (hkM : k + 3 ≤ MC) (hnM : n + (B + 10) ≤ MS) (hk : k + 3 ≤ mc) (hn : n + (B + 10) ≤ ms)
    (hx : p.tables.exec = Jvm.exec) (hml : c.maxLocals = nL) (hts : ∀ w ∈ lw_all, w.before args s = true) (hG : jG D s) (hZ : jZ ad0 hp0 s) (S : Stand p l e R s m args below meth c T locs k n) (hR : jR D s ad0 hp0 ad hp T.heap locs) (hL : jL hp ad ls nL lv)
    (hst : ∀ target, Steps p.tables e below ((T.setTop (F0 m pc ls (st.map (jv ad)))).pushFrame (.throwNew cls (some text) none)) target → Steps p.tables e below T0 target) : ∃ t, Steps p.tables e below T0 t ∧ MQT below D ad0 hp0 cls hp args s mc ms t := by
  obtain ⟨hRf, hRl, hRc, hRs⟩ := hRm
  have hcat : ((st.map (jv ad)).map fun v => v.category).sum = (st.map (fun v => v.category)).sum := by
    rw [List.map_map]
    congr 1
    exact List.map_congr_left (fun v _ => jv_cat ad v)
  obtain ⟨W', X', hh1, ⟨ce, he1, he2, he3⟩, hst2⟩ := jMsgC S hx (hNT e S.admits) (cls := cls) (names := names) (text := text) hcls hnames hsoe hoom (jAtoms hts hG hZ hat) (jlocs S hR) hmod
    (by rw [Launch.admits_arrayLengthLimit S.admits]; omega) (by rw [Launch.admits_maxHeapBytes S.admits]; show ¬ _ * 1 > _; omega) (g := F0 m pc ls (st.map (jv ad))) rfl (by rw [hml]; exact hL.1) (by omega) (by
      show 2 * 0 + _ + 10240 ≤ R.locals
      rw [hcat]
      omega) (by omega) (by omega) (by omega)
  have hR' : jR D s ad0 hp0 ad hp W'.heap locs := hR.grown (by have := (Array.getElem?_eq_some_iff.mp he1).1; exact Nat.le_of_lt (Nat.lt_of_le_of_lt (Nat.le_add_right _ 2) this)) hh1
  obtain ⟨t, a1, b1⟩ := jLeave (mc := mc) (ms := ms) X' hlk htab hk (by omega) hR' he1 he2 he3 (g := F0 m pc ls (st.map (jv ad))) rfl rfl rfl
  exact ⟨t, hst t (hst2 t a1), b1⟩
/-- .. a NullPointerException -/
theorem jThrowN {p : Program} {l : Launch} {e : Env} {R : Room} {s : State} {m : MethodId} {args : Array Value} {below : List Frame} {meth : Method} {c : Code} {T T0 : State} {locs : List Loc} {D : va_G} {ad0 ad : Nat → Nat} {hp0 hp : jH} {nL : Nat} {k n pc : Nat} {lv : List (Option Value)} {ls : Array Slot} {st : List Value} {F L MC MS mc ms : Nat}
    (hRm : F ≤ R.frames ∧ L ≤ R.locals ∧ MC ≤ R.cells ∧ MS ≤ R.slots) (hNT : jNT l) (hlk : meth.locks = false) (htab : c.exceptionTable.toList = [])
    (hF : 7 < F) (hLo : (st.map (fun v => v.category)).sum + 10240 ≤ L) (hkM : k + 1 ≤ MC) (hnM : n + 8 ≤ MS) (hk : k + 1 ≤ mc) (hn : n + 8 ≤ ms)
    (hx : p.tables.exec = Jvm.exec) (hml : c.maxLocals = nL) (hts : ∀ w ∈ lw_all, w.before args s = true) (hG : jG D s) (hZ : jZ ad0 hp0 s) (S : Stand p l e R s m args below meth c T locs k n) (hR : jR D s ad0 hp0 ad hp T.heap locs) (hL : jL hp ad ls nL lv)
    (hst : ∀ target, Steps p.tables e below ((T.setTop (F0 m pc ls (st.map (jv ad)))).pushFrame (.throwNew "java/lang/NullPointerException" none none)) target → Steps p.tables e below T0 target) : ∃ t, Steps p.tables e below T0 t ∧ MQT below D ad0 hp0 "java/lang/NullPointerException" hp args s mc ms t := by
  obtain ⟨hRf, hRl, hRc, hRs⟩ := hRm
  have hcat : ((st.map (jv ad)).map fun v => v.category).sum = (st.map (fun v => v.category)).sum := by
    rw [List.map_map]
    congr 1
    exact List.map_congr_left (fun v _ => jv_cat ad v)
  obtain ⟨W', X', hh1, ⟨ce, he1, he2, he3⟩, hst2⟩ := jNpeC S hx (hNT e S.admits) (n := 8) (jAtoms hts hG hZ atoms_npe) (jlocs S hR) (g := F0 m pc ls (st.map (jv ad))) rfl (by rw [hml]; exact hL.1) (by omega) (by
      show 2 * 0 + _ + 10240 ≤ R.locals
      rw [hcat]
      omega) (by omega) (by omega)
  have hR' : jR D s ad0 hp0 ad hp W'.heap locs := hR.grown (by have := (Array.getElem?_eq_some_iff.mp he1).1; exact Nat.le_of_lt this) hh1
  obtain ⟨t, a1, b1⟩ := jLeave (mc := mc) (ms := ms) X' hlk htab hk (by omega) hR' he1 he2 he3 (g := F0 m pc ls (st.map (jv ad))) rfl rfl rfl
  exact ⟨t, hst t (hst2 t a1), b1⟩
