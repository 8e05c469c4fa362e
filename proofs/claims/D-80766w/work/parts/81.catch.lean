/-! the search for a handler, whose classes may not be resolved yet -/
set_option maxRecDepth 100000
/-- what a table of handlers does with an object of a class at a pc: caught at a place, or not -/
def jPass (own : String) (pc : Nat) (args : Array Value) (s : State) (k : ClassId) : List ClassFile.ExceptionTableEntry → Option Nat → Prop
  | [], r => r = none
  | x :: t, r => (covers x pc = false ∧ jPass own pc args s k t r) ∨ (covers x pc = true ∧ x.catchType ≠ 0 ∧ ∃ (nm : String) (cN : ClassId), (Cond.classLink own x.catchType nm).before args s = true ∧ s.vm.findClass nm = some cN ∧ ((s.vm.assignable k cN = true ∧ r = some x.handlerPc) ∨ (s.vm.assignable k cN = false ∧ jPass own pc args s k t r)))
def jHd (r : Option Nat) : Handler := match r with
  | none => .none
  | some h => .found h
section CAT
variable {Q : Handler → Pre} {E : CtlPost} {e : Env} {d : Bool} {acts : List Action} {s : State} {f : JFrame} {a : Addr}
theorem jgo_link {x : ClassFile.ExceptionTableEntry} {t : List ClassFile.ExceptionTableEntry} {c : ClassId} {cell : Cell} (hx : covers x f.pc = true) (h0 : x.catchType ≠ 0)
    (hl : s.vm.ClassLinks e.platform f.method.cls x.catchType c) (hcell : s.heap[a]? = some cell) (hobj : ∀ k, cell.vm ≠ .statics k)
    (hk : ∃ k, s.vm.classes[cell.cls]? = some k) (hc : ∃ k, s.vm.classes[c]? = some k) :
    wp (findHandler.go f a (x :: t)) Q E e d acts s ↔ if s.vm.assignable cell.cls c = true then Q (.found x.handlerPc) d acts (s.setVm (s.vm.noted f.method.cls x.catchType (.cls c))) else wp (findHandler.go f a t) Q E e d acts (s.setVm (s.vm.noted f.method.cls x.catchType (.cls c))) := by
  simp only [covers] at hx
  obtain ⟨ha, ht⟩ := (resolveClass_links e.toSetting hl).op (op := VmOp.resolveClass f.method.cls x.catchType) rfl
  have hal : s.vm.Alike (s.vm.noted f.method.cls x.catchType (.cls c)) := (Vm.Alike.refl s.vm).noted _ _ _
  obtain ⟨k1, hk1⟩ := hk
  obtain ⟨k2, hk2⟩ := hc
  obtain ⟨k1', hk1', -⟩ := hal.2.2 _ _ hk1
  obtain ⟨k2', hk2', -⟩ := hal.2.2 _ _ hk2
  cases hfit : s.vm.assignable cell.cls c with
  | true => simp [findHandler.go, hx, h0, ha, ht, hcell, hobj, hk1', hk2', hal.assignable, hfit, VmOp.dirties, VmOp.acts]
  | false => simp [findHandler.go, hx, h0, ha, ht, hcell, hobj, hk1', hk2', hal.assignable, hfit, VmOp.dirties, VmOp.acts]
/-- what the search gives, and the tables that it leaves -/
def jFT (e : Env) (s : State) (f : JFrame) (a : Addr) (h : Handler) (vm' : Vm) : Prop := ∀ (Q : Handler → Pre) (E : CtlPost) (d : Bool) (acts : List Action), wp (findHandler f a) Q E e d acts s ↔ Q h d acts (s.setVm vm')
theorem jThrowing_catch {s : State} {r : List Frame} {pc : Nat} {vm' : Vm} (hfind : jFT e s f a (.found pc) vm') : (stepThrowing e s a (.java f :: r)).Is ((s.setVm vm').setFrames (.java { f with pc := pc, stack := [.ref a] } :: r)) [] := by
  simp only [stepThrowing, searchFrame, vmDo]
  generalize hr : Sem.go _ e false [] s = res
  obtain ⟨as, rfl, ha⟩ := Sem.eq_ok_of hr (a := Handler.found pc) (s' := s.setVm vm') (acts' := []) (by simp [hfind _ _ _ _])
  exact ⟨rfl, ha⟩
end CAT
section CAS
variable {p : Program} {l : Launch} {e : Env} {R : Room} {s : State} {m : MethodId} {args : Array Value} {below : List Frame} {meth : Method} {c : Code} {T : State} {locs : List Loc} {cells slots : Nat}
theorem jSearch {own : String} {g : JFrame} {a : Addr} {cell : Cell} {k1 : Class} (hpl : e.platform.magicAccessors = ({} : Platform).magicAccessors) (hown : s.vm.findClass own = some g.method.cls) (hk1 : s.vm.classes[cell.cls]? = some k1) (hobj : ∀ k, cell.vm ≠ .statics k) : ∀ (t : List ClassFile.ExceptionTableEntry) (r : Option Nat) (U : State), s.WarmedH U.vm → U.heap[a]? = some cell → jPass own g.pc args s cell.cls t r → ∃ vm' : Vm, s.WarmedH vm' ∧ ∀ (Q : Handler → Pre) (E : CtlPost) (d : Bool) (acts : List Action), wp (findHandler.go g a t) Q E e d acts U ↔ Q (jHd r) d acts (U.setVm vm')
  | [], r, U, hW, _, h => by
    have hr : r = none := h
    subst hr
    exact ⟨U.vm, hW, fun Q E d acts => W.findHandler_go_nil⟩
  | x :: t, r, U, hW, hcell, h => by
    rcases h with ⟨h1, h2⟩ | ⟨h1, h2, nm, cN, h3, h4, h5⟩
    · obtain ⟨vm', a1, a2⟩ := jSearch hpl hown hk1 hobj t r U hW hcell h2
      exact ⟨vm', a1, fun Q E d acts => (W.findHandler_go_skip h1).trans (a2 Q E d acts)⟩
    · obtain ⟨c', hc', hcl⟩ := Cond.classLink_spec hown h3 e.platform hpl
      cases h4.symm.trans hc'
      obtain ⟨dk, _, _, kt, hd, _, _, _, _, hkt, _, hopen⟩ := hcl.here
      have hcl₀ := hW.classLinks hcl
      have hW' : s.WarmedH (U.vm.noted g.method.cls x.catchType (.cls cN)) := hW.noted hd hopen (State.rightAt_cls hcl)
      obtain ⟨k1', hk1', -⟩ := hW.alike.2.2 _ _ hk1
      obtain ⟨kt', hkt', -⟩ := hW.alike.2.2 _ _ hkt
      have e1 : U.vm.assignable cell.cls cN = s.vm.assignable cell.cls cN := hW.alike.assignable _ _
      rcases h5 with ⟨h5, rfl⟩ | ⟨h5, h6⟩
      · refine ⟨_, hW', fun Q E d acts => ?_⟩
        rw [jgo_link h1 h2 hcl₀ hcell hobj ⟨_, hk1'⟩ ⟨_, hkt'⟩, e1, h5, if_pos rfl]
        rfl
      · obtain ⟨vm', a1, a2⟩ := jSearch hpl hown hk1 hobj t r (U.setVm (U.vm.noted g.method.cls x.catchType (.cls cN))) hW' hcell h6
        refine ⟨vm', a1, fun Q E d acts => ?_⟩
        rw [jgo_link h1 h2 hcl₀ hcell hobj ⟨_, hk1'⟩ ⟨_, hkt'⟩, e1, h5, if_neg (by decide)]
        exact a2 Q E d acts
theorem jCaught (X : Stand p l e R s m args below meth c T locs cells slots) {own : String} (hown : s.vm.findClass own = some m.cls) {a : Addr} {cell : Cell} {k1 : Class} (hcell : T.heap[a]? = some cell) (hobj : ∀ k, cell.vm ≠ .statics k) (hk1 : s.vm.classes[cell.cls]? = some k1)
    {g : JFrame} (hg : g.method = m) {h : Nat} (hpass : jPass own g.pc args s cell.cls c.exceptionTable.toList (some h)) :
    ∃ vm' : Vm, Stand p l e R s m args below meth c (T.setVm vm') locs cells slots ∧ ∀ target, Steps p.tables e below ((T.setVm vm').setTop { g with pc := h, stack := [.ref a] }) target → Steps p.tables e below ((T.setTop g).pushFrame (.throwing a)) target := by
  have hpl : e.platform.magicAccessors = ({} : Platform).magicAccessors := by rw [X.admits.platform]
  have hv : ((T.setTop g).pushFrame (.throwing a)).vm = T.vm := Stand.throwing_vm T g a
  have hh : ((T.setTop g).pushFrame (.throwing a)).heap = T.heap := Stand.throwing_heap T g a
  obtain ⟨vm', hW', hs⟩ := jSearch (e := e) (args := args) (own := own) (g := g) (a := a) hpl (by rw [hg]; exact hown) hk1 hobj c.exceptionTable.toList (some h) ((T.setTop g).pushFrame (.throwing a)) (by rw [hv]; exact X.warmed) (by rw [hh]; exact hcell) hpass
  have hm : ((T.setTop g).pushFrame (.throwing a)).vm.method? g.method = some meth := by
    rw [hv, hg, X.warmed.alike.method?]
    exact X.method
  have hfind : jFT e ((T.setTop g).pushFrame (.throwing a)) g a (.found h) vm' := fun Q E d acts => (W.findHandler_eq hm X.code).trans (hs Q E d acts)
  refine ⟨vm', X.noted hW', fun target hrest => ?_⟩
  have hat : At T g.method c below := by rw [hg]; exact X.here
  obtain ⟨hgo, hw⟩ := hat.throwing a
  refine Steps.head hgo hw ?_
  rw [stepThread_throwing (frames_entered hat.top _), (jThrowing_catch hfind).1]
  obtain ⟨g₀, hg0⟩ := Option.isSome_iff_exists.mp hat.top
  obtain ⟨r, hr⟩ := State.topJava?_eq_some.mp hg0
  have hr' : (T.setVm vm').frames = .java g₀ :: r := hr
  rw [State.setTop_of_frames _ hr'] at hrest
  rw [State.pushFrame, State.setTop_of_frames _ hr, State.setFrames_setFrames, hr, State.setFrames_setVm, State.setFrames_setFrames]
  exact hrest
end CAS
