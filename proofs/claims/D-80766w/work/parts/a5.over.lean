/-! exceptions that a native of the machine's own throws -/
set_option maxRecDepth 100000
/-- a thread that goes on, whose frames are to be B -/
def jOv (W : State) (B below : List Frame) : Prop := W.goesOn ∧ W.cur < W.threads.size ∧ ∃ mid, B = mid ++ below
section OV
variable {e : Env} {below B : List Frame} {W : State}
theorem jOv.fr (h : jOv W B below) (F : List Frame) : (W.setFrames F).frames = F := State.frames_setFrames _ h.2.1
theorem jOv.go (h : jOv W B below) (F : List Frame) : (W.setFrames F).goesOn := ⟨h.1.1, by simpa using h.1.2.1, by simpa using h.1.2.2⟩
theorem jOvIn (h : jOv W B below) (a : Addr) (x : JFrame) {m : MethodId} {meth : Method} {code : Code} (hx : x.method = m) (hm : W.vm.method? m = some meth) (hc : meth.code = some code) (hplain : W.plainMethod m) :
    (W.setFrames (.thenThrow a :: B)).frames = .thenThrow a :: B ∧ At ((W.setFrames (.thenThrow a :: B)).pushFrame (.java x)) m code below ∧ ((W.setFrames (.thenThrow a :: B)).pushFrame (.java x)).frames = .java x :: .thenThrow a :: B := by
  obtain ⟨mid, hmid⟩ := h.2.2
  have hfN := h.fr (.thenThrow a :: B)
  have hcurN := State.cur_lt_of_frames hfN
  refine ⟨hfN, At.pushOn x (h.go _) hcurN ⟨.thenThrow a :: mid, by rw [hfN, hmid]; rfl⟩ hm hc hplain, ?_⟩
  rw [show ((W.setFrames (.thenThrow a :: B)).pushFrame (.java x)).frames = .java x :: (W.setFrames (.thenThrow a :: B)).frames from State.frames_setFrames _ hcurN, hfN]
/-- the constructor's return, and the throw behind it -/
theorem jOvRet {tb : Tables} [Ours tb] {target : State} (h : jOv W B below) (hexec : tb.exec = Jvm.exec) {H : State → State} (hH : HeapOnly H) (a : Addr) {x y : JFrame} {m : MethodId} {meth : Method} {code : Code} {q : Nat} (hx : x.method = m) (hy : y = { x with pc := q, stack := [] }) (hl0 : x.locked = none) (he0 : x.entered = [])
    (hm : W.vm.method? m = some meth) (hc : meth.code = some code) (hplain : W.plainMethod m) (hl : meth.locks = false) (h5 : decode code.code q = .ok (.return_, 1)) (hrest : Steps tb e below ((H W).setFrames (.throwing a :: B)) target) :
    Steps tb e below ((H ((W.setFrames (.thenThrow a :: B)).pushFrame (.java x))).setTop y) target := by
  obtain ⟨hfN, hI, hfI⟩ := jOvIn h a x hx hm hc hplain
  obtain ⟨mid, hmid⟩ := h.2.2
  subst hy
  subst hx
  have hB : At (H ((W.setFrames (.thenThrow a :: B)).pushFrame (.java x))) x.method code below := hH.at_ hI
  jvm_step hB [hexec, h5, return_.wp_sem]
  intro acts2
  have hfH : (H ((W.setFrames (.thenThrow a :: B)).pushFrame (.java x))).frames = .java x :: .thenThrow a :: B := by rw [hH.frames]; exact hfI
  rw [ret_to (t := H ((W.setFrames (.thenThrow a :: B)).pushFrame (.java x))) (f := { x with pc := q, stack := [] }) (f₀ := x) (below := .thenThrow a :: B) (fs := .thenThrow a :: B) (meth := meth) hfH (by rw [hH.vm]; exact hm) hl hl0 he0 rfl acts2]
  have hHI : ∀ F, (H ((W.setFrames (.thenThrow a :: B)).pushFrame (.java x))).setFrames F = (H W).setFrames F := by
    intro F
    rw [State.pushFrame, hH.setFrames, hH.setFrames, State.setFrames_setFrames, State.setFrames_setFrames]
  rw [hHI]
  have hovH : jOv (H W) B below := by
    have e1 := hH.setFrames W W.frames
    refine ⟨?_, ?_, mid, hmid⟩
    · have := hB
      refine ⟨?_, ?_, ?_⟩
      · have h1 := hB.running
        rw [State.pushFrame, hH.setFrames, hH.setFrames] at h1
        exact h1
      · have h1 := hB.runnable
        rw [State.pushFrame, hH.setFrames, hH.setFrames] at h1
        simpa using h1
      · have h1 := hB.alone
        rw [State.pushFrame, hH.setFrames, hH.setFrames] at h1
        simpa using h1
    · have h1 := State.cur_lt_of_frames hfH
      rw [State.pushFrame, hH.setFrames, hH.setFrames] at h1
      simpa [State.setFrames] using h1
  have hf1 := hovH.fr (.thenThrow a :: B)
  refine Steps.head (hovH.go _) ⟨.thenThrow a :: mid, by rw [hf1, hmid]; rfl, by simp, by simp⟩ ?_
  rw [stepThread_thenThrow hf1]
  show Steps tb e below (((H W).setFrames (.thenThrow a :: B)).setFrames (.throwing a :: B)) target
  rw [State.setFrames_setFrames]
  exact hrest
/-- thrown through a native's frame -/
theorem jOvNat {tb : Tables} {target : State} {a : Addr} {nf : NFrame} {g : JFrame} (h : jOv W (.native nf :: .java g :: below) below) (hw : nf.awaiting = false) (hl : nf.locked = none) (hrest : Steps tb e below (W.setFrames (.throwing a :: .java g :: below)) target) : Steps tb e below (W.setFrames (.throwing a :: .native nf :: .java g :: below)) target := by
  have hf1 := h.fr (.throwing a :: .native nf :: .java g :: below)
  refine Steps.head (h.go _) ⟨[.throwing a, .native nf, .java g], by rw [hf1]; rfl, by simp, by simp⟩ ?_
  rw [stepThread_throwing hf1]
  have key : (stepThrowing e (W.setFrames (.throwing a :: .native nf :: .java g :: below)) a (.native nf :: .java g :: below)).1 = W.setFrames (.throwing a :: .java g :: below) := by
    simp only [stepThrowing, hw, vmDo]
    generalize hr : Sem.go _ e false _ _ = res
    obtain ⟨as, rfl, -⟩ := Sem.eq_ok_of hr (a := true) (s' := W.setFrames (.throwing a :: .native nf :: .java g :: below)) (acts' := []) (by simp [hl, leaveIfLocked])
    show ((W.setFrames (.throwing a :: .native nf :: .java g :: below)).setFrames (.throwing a :: .java g :: below)) = _
    rw [State.setFrames_setFrames]
  rw [key]
  exact hrest
end OV
section THN
variable {p : Program} {l : Launch} {e : Env} {R : Room} {s : State} {m₀ : MethodId} {args : Array Value} {below : List Frame} {meth : Method} {c : Code} {T' : State} {locs : List Loc} {cells slots : Nat}
set_option maxHeartbeats 4000000 in
theorem jMsgN (X : Stand p l e R s m₀ args below meth c T' locs cells slots) (hexec : p.tables.exec = Jvm.exec) (htr : e.platform.stackTraces = false) {cls : String} {names : List String} {text : String}
    (hcls : Bundle.fit cls = true) (hnames : ∀ n ∈ names, Bundle.fit n = true) (hsoe : (cls == "java/lang/StackOverflowError") = false) (hoom : (cls == "java/lang/OutOfMemoryError") = false)
    (h : ∀ a ∈ Bundle.messageArmAtoms cls names, a.before args s = true)
    (hlocs : ∀ x ∈ locs, ∀ cell, s.heap[x.base]? = some cell → cell.vm.isStatics = false)
    (htext : (text == notModelled) = false) (hlimit : ¬ (stringBytes (stringToUtf16 text)).size > e.platform.arrayLengthLimit) (hheap : ¬ (stringBytes (stringToUtf16 text)).size * componentBytes .byte > e.platform.maxHeapBytes)
    {g : JFrame} (hg : g.method = m₀) (hsize : g.locals.size = c.maxLocals) {nf : NFrame} (hnw : nf.words = 0)
    (hRframes : names.length + 5 < R.frames) (hRlocals : 2 * g.monitorRoom + (g.stack.map fun v => v.category).sum + 10240 ≤ R.locals) (hshort : 13 * names.length + 55 ≤ 10240)
    (hRcells : cells + 3 ≤ R.cells) (hRslots : slots + ((stringBytes (stringToUtf16 text)).size + 4 + 6) ≤ R.slots) :
    ∃ W : State, Stand p l e R s m₀ args below meth c W locs (cells + 3) (slots + ((stringBytes (stringToUtf16 text)).size + 4 + 6)) ∧ (∀ i, i < T'.heap.size → W.heap[i]? = T'.heap[i]?) ∧
      (∃ cell, W.heap[T'.heap.size + 2]? = some cell ∧ s.vm.findClass cls = some cell.cls ∧ cell.vm = .none) ∧
      ∀ target, Steps p.tables e below (W.setFrames (.throwing (T'.heap.size + 2) :: .native nf :: .java g :: below)) target → Steps p.tables e below (T'.setFrames (.throwNew cls (some text) none :: .native nf :: .java g :: below)) target := by
  have howns : e.platform.frameOwnsMonitors = true := by rw [X.admits.platform]
  have hfin : e.platform.finalization = false := by rw [X.admits.platform]
  have hpl : e.platform.magicAccessors = ({} : Platform).magicAccessors := by rw [X.admits.platform]
  have a : ∀ x, x ∈ Bundle.messageArmAtoms cls names → x.holds args s none s [] = true := fun x hx => h x hx
  obtain ⟨T, Z0, L, -, Y⟩ := ThrowableC.of_atoms (args := args) howns hfin hpl (fun x hx => h x (by simp [Bundle.messageArmAtoms, hx]))
  obtain ⟨Z, M, LZ, LM, hnZ⟩ := Init0T.ofS_atoms (args := args) hpl L Y (fun x hx => h x (by simp [Bundle.messageArmAtoms, hx]))
  obtain ⟨P1, Ps, hlen, L1, hL, hP1m, hlink1, hlink⟩ := Bundle.chainS (args := args) hpl hnZ names cls hcls hnames (fun x hx => h x (by simp [Bundle.messageArmAtoms, hx]))
  obtain ⟨Zs, LZs, hn4, hfitv, hfitc⟩ := StringT.of_atoms (args := args) (fun x hx => h x (by simp [Bundle.messageArmAtoms, hx]))
  have hfound : s.vm.findClass cls = some P1.m.cls := findClass_of_methodNamed hP1m
  obtain ⟨c1, kX, hc1, hk, hord, -, -, hn6⟩ := Cond.instantiable_spec (a (.instantiable cls 6) (by simp [Bundle.messageArmAtoms]))
  cases Option.some.inj (hc1.symm.trans hfound)
  have hinit := Cond.initialized_spec hfound hk (a (.initialized cls) (by simp [Bundle.messageArmAtoms]))
  have hctor : kX.findMethod "<init>" "(Ljava/lang/String;)V" = some P1.m.idx := findMethod_of_methodNamed hP1m hk
  have hsel0 : selectMethod e.platform s.vm P1.m.cls T.fill0 = .method T.fill0 := by
    obtain ⟨c2, r2, m2, q1, q2, q3, q4, -⟩ := Cond.selects_spec (a (.selects cls Bundle.tFill0 Bundle.tFill0) (by simp [Bundle.messageArmAtoms]))
    cases Option.some.inj (q1.symm.trans hfound)
    cases Option.some.inj (q2.symm.trans (State.methodFound?_of_named Y.fill0 (by decide)))
    cases Option.some.inj (q3.symm.trans Y.fill0)
    rw [Launch.admits_selectMethod X.admits]
    exact q4
  have hselF : selectMethod e.platform s.vm P1.m.cls T.fill = .method T.fill := by
    obtain ⟨c2, r2, m2, q1, q2, q3, q4, -⟩ := Cond.selects_spec (a (.selects cls Bundle.tFill Bundle.tFill) (by simp [Bundle.messageArmAtoms]))
    cases Option.some.inj (q1.symm.trans hfound)
    cases Option.some.inj (q2.symm.trans (State.methodFound?_of_named Y.fill (by decide)))
    cases Option.some.inj (q3.symm.trans Y.fill)
    rw [Launch.admits_selectMethod X.admits]
    exact q4
  obtain ⟨cellS0, hcS0, hiss⟩ := Y.statics
  obtain ⟨u0, hu0⟩ := Cond.staticRefV Y.unassigned L.unassignedStatic L.statics hcS0 hiss (a (.isRef (.static Bundle.tN "UNASSIGNED_STACK" Bundle.steD)) (by simp [Bundle.messageArmAtoms]))
  obtain ⟨sen, hsen⟩ := Cond.staticRefV Y.sentinel L.sentinelStatic L.statics hcS0 hiss (a (.isRef (.static Bundle.tN "SUPPRESSED_SENTINEL" Bundle.listD)) (by simp [Bundle.messageArmAtoms]))
  obtain ⟨ci198, i198, fB, hk198, hg198, ha198, hsB, -, hnB, htB, hffB⟩ := Cond.ownField (t := .object "java/lang/Object") Y.found L.cls (by decide +kernel) (a (.fieldLink Bundle.tN 198 Bundle.tN "backtrace" "Ljava/lang/Object;") (by simp [Bundle.messageArmAtoms])) (a (.lays Bundle.tN Bundle.tN "backtrace" "Ljava/lang/Object;") (by simp [Bundle.messageArmAtoms])) e.platform hpl
  obtain ⟨cellS, hcS', heS, -, hkeep⟩ := X.same.2.2.2.2.2 T.aS cellS0 hcS0
  have hcellS : T'.heap[T.aS]? = some cellS := hcS'
  have hout' : ∀ i, (⟨T.aS, i⟩ : Loc) ∉ locs := fun i hmem => by
    have := hlocs _ hmem cellS0 hcS0
    rw [hiss] at this
    cases this
  have hknownS : cellS.vm ≠ .unknown := by
    rw [heS]
    intro hu
    rw [show cellS0.vm = .unknown from hu] at hiss
    cases hiss
  obtain ⟨iM, hffM⟩ := Y.msg
  obtain ⟨tyC, dC, hdC, hdnC⟩ := Cond.laysAt hfound hk Y.cause (a (.lays cls Bundle.tN "cause" "Ljava/lang/Throwable;") (by simp [Bundle.messageArmAtoms]))
  obtain ⟨tyS, dS, hdS, hdnS⟩ := Cond.laysAt hfound hk Y.stack (a (.lays cls Bundle.tN "stackTrace" Bundle.steD) (by simp [Bundle.messageArmAtoms]))
  obtain ⟨tyP, dP, hdP, hdnP⟩ := Cond.laysAt hfound hk Y.supp (a (.lays cls Bundle.tN "suppressedExceptions" Bundle.listD) (by simp [Bundle.messageArmAtoms]))
  obtain ⟨tyM, dM, hdM, hdnM⟩ := Cond.laysAt hfound hk hffM (a (.lays cls Bundle.tN "detailMessage" "Ljava/lang/String;") (by simp [Bundle.messageArmAtoms]))
  obtain ⟨tyB, dB, hdB, hdnB⟩ := Cond.laysAt hfound hk hffB (a (.lays cls Bundle.tN "backtrace" "Ljava/lang/Object;") (by simp [Bundle.messageArmAtoms]))
  have bC := Cond.laysApart hdB hdC hdnB hdnC (by rw [hnB, Y.causeName]; decide)
  have bS := Cond.laysApart hdB hdS hdnB hdnS (by rw [hnB, Y.stackName]; decide)
  have bP := Cond.laysApart hdB hdP hdnB hdnP (by rw [hnB, Y.suppName]; decide)
  have hskip : SkipFacts T e.platform s (fun u => u) u0 ((preparedCellV T.toThrowableT (freshCell P1.m.cls kX) (T'.heap.size + 2) u0 sen).withEntry T'.cur) :=
    ⟨{ ci198 := ci198, i198 := i198, fBack := fB }, ⟨hk198, hg198, ha198, hsB⟩, by
      have := fresh_default (c := P1.m.cls) tyB
      rw [htB] at this
      simpa [preparedCellV, Cell.setSlot, Cell.withEntry, Array.getElem?_setIfInBounds, bC, bS, bP, bC.symm, bS.symm, bP.symm, defaultValue] using this, fun _ _ => rfl⟩
  have hat : At T' g.method c below := by rw [hg]; exact X.here
  obtain ⟨g₀, hfr0⟩ := X.frames_eq
  have hcur : T'.cur < T'.threads.size := State.cur_lt_of_frames hfr0
  have hov : jOv T' (.native nf :: .java g :: below) below := ⟨⟨hat.running, hat.runnable, hat.alone⟩, hcur, [.native nf, .java g], rfl⟩
  have hB2 : (stackUse (.native nf :: .java g :: below)).2 = (stackUse (.java g :: below)).2 := by rw [stackUse_light _ _ (fun f hf => by cases hf) hnw]
  have hB3 : (stackUse (.throwNew cls (some text) none :: .native nf :: .java g :: below)).2 = (stackUse (.java g :: below)).2 := by rw [stackUse_light _ _ (fun f hf => by cases hf) rfl]; exact hB2
  have hA := X.stackAbove hsize hRlocals
  rw [X.tail] at hA
  have hbb : ((((T'.setFrames (.throwNew cls (some text) none :: .native nf :: .java g :: below)).threads[(T'.setFrames (.throwNew cls (some text) none :: .native nf :: .java g :: below)).cur]?).map (·.stackBytes)).getD 0) = T'.me.stackBytes := by
    rw [← State.stackBytes_setFrames T' (.throwNew cls (some text) none :: .native nf :: .java g :: below)]
    exact State.stackBytes_me (T'.setFrames (.throwNew cls (some text) none :: .native nf :: .java g :: below))
  have hlimit2 : (e.platform.stackLimits T'.me).2 = (e.platform.limitsFor T'.me.stackBytes).2 := rfl
  have hbeyond : e.platform.stackBeyond ((((T'.setFrames (.throwNew cls (some text) none :: .native nf :: .java g :: below)).threads[(T'.setFrames (.throwNew cls (some text) none :: .native nf :: .java g :: below)).cur]?).map (·.stackBytes)).getD 0) (T'.setFrames (.throwNew cls (some text) none :: .native nf :: .java g :: below)).frames = false := by
    rw [hbb, State.frames_setFrames _ hcur]
    unfold Platform.stackBeyond
    rw [hB3]
    exact decide_eq_false (by omega)
  have hfreeW : e.platform.vmThrowRoom ≤ e.platform.stackFree ((((T'.setFrames (.throwNew cls (some text) none :: .native nf :: .java g :: below)).threads[(T'.setFrames (.throwNew cls (some text) none :: .native nf :: .java g :: below)).cur]?).map (·.stackBytes)).getD 0) (T'.setFrames (.throwNew cls (some text) none :: .native nf :: .java g :: below)).frames := by
    rw [hbb, State.frames_setFrames _ hcur, Launch.admits_vmThrowRoom X.admits]
    unfold Platform.stackFree
    rw [hB3]
    omega
  have hslots : T'.slotsUsed + (stringBytes (stringToUtf16 text)).size + Zs.kS.instanceTypes.size + kX.instanceTypes.size ≤ e.platform.maxSlots := by have := X.slotsAbove hRslots; omega
  obtain ⟨kX', hk', he'⟩ := X.warmed.alike.2.2 _ _ hk
  have hty : kX'.instanceTypes = kX.instanceTypes := by rw [he']
  have hfresh : freshCell P1.m.cls kX' = (freshCell P1.m.cls kX) := by
    show ({ cls := P1.m.cls, slots := kX'.instanceTypes.map defaultValue, vm := .none } : Cell) = _
    rw [hty]
  obtain ⟨kS', kB', LZ', htyS⟩ := LZs.warmer X.warmed.alike
  have hsameT : withThrown T' { Zs with kS := kS', kB := kB' } text P1.m.cls kX' = (withThrown T' Zs text P1.m.cls kX) := by
    rw [← withThrown_warmer T' Zs (kB' := kB') htyS text P1.m.cls kX]
    show (withString T' _ _ _ _ _ _).pushCell (freshCell P1.m.cls kX') = (withString T' _ _ _ _ _ _).pushCell (freshCell P1.m.cls kX)
    rw [hfresh]
  have hfs : T'.fitsSlot = s.fitsSlot := (show T'.fitsSlot = (s.setVm T'.vm).fitsSlot from rfl).trans (State.fitsSlot_setVm X.warmed.alike)
  obtain ⟨w1, w2, w3, w4, w5, -, w7⟩ := withThrown_facts e.platform T' Zs text P1.m.cls kX
  have hltS : T.aS < T'.heap.size := (Array.getElem?_eq_some_iff.mp hcellS).1
  have hWat : At (withThrown T' Zs text P1.m.cls kX) g.method c below := by simpa [withThrown, withString] using hat
  have hWcur : (withThrown T' Zs text P1.m.cls kX).cur = T'.cur := by simp [withThrown, withString]
  have hWov : jOv (withThrown T' Zs text P1.m.cls kX) (.native nf :: .java g :: below) below := ⟨⟨hWat.running, hWat.runnable, hWat.alone⟩, State.cur_lt_of_frames (w2.trans hfr0), [.native nf, .java g], rfl⟩
  have hW0 : s.WarmedH (withThrown T' Zs text P1.m.cls kX).vm := by rw [w1]; exact X.warmed
  generalize hWW : withThrown T' Zs text P1.m.cls kX = V0 at hsameT w1 w2 w3 w4 w5 w7 hWat hWcur hWov hW0
  have core : ∃ vm', s.WarmedH vm' ∧ ∀ target, Steps p.tables e below (((V0.setVm vm').setCell (T'.heap.size + 2) ((((preparedCellV T.toThrowableT (freshCell P1.m.cls kX) (T'.heap.size + 2) u0 sen).withEntry T'.cur).setSlot T.fStack.slot u0.v).left.setSlot T.fMsg.slot (.ref (T'.heap.size + 1)))).setFrames (.throwing (T'.heap.size + 2) :: .native nf :: .java g :: below)) target → Steps p.tables e below (doInvoke e (V0.setFrames (.thenThrow (T'.heap.size + 2) :: .native nf :: .java g :: below)) [] P1.m #[.ref (T'.heap.size + 2), .ref (T'.heap.size + 1)]).1 target := by
    have hmW := hW0.methodAt L1.method
    obtain ⟨hfN, hI, hfI⟩ := jOvIn hWov (T'.heap.size + 2) (passJ P1.m (T'.heap.size + 2) (.ref (T'.heap.size + 1)) 0 []) rfl hmW L1.code (hW0.plainAt L1.plain)
    obtain ⟨vm1, hW1, st1⟩ := Steps.invokeInitCold (tb := p.tables) (s₀ := s) (U := ((V0.setFrames (.thenThrow (T'.heap.size + 2) :: .native nf :: .java g :: below)).pushFrame (.java (passJ P1.m (T'.heap.size + 2) (.ref (T'.heap.size + 1)) 0 [])))) (f := passJ P1.m (T'.heap.size + 2) (.ref (T'.heap.size + 1)) 2 [.ref (T'.heap.size + 1), .ref (T'.heap.size + 2)]) (args := [.ref (T'.heap.size + 1)]) (rest := []) (a := T'.heap.size + 2) hI hexec L1.at2 hW0 L1.links L1.right L1.notHandle L1.cls L1.file L1.pool
      L1.supClass L1.supMethod L1.supName L1.supStatic L1.supAbstract L1.supFound L1.supParams.symm rfl
    have hI1 : At (((V0.setVm vm1).setFrames (.thenThrow (T'.heap.size + 2) :: .native nf :: .java g :: below)).pushFrame (.java (passJ P1.m (T'.heap.size + 2) (.ref (T'.heap.size + 1)) 0 []))) P1.m P1.code below := hI.setVm (hW0.alike.symm.trans hW1.alike)
    have hov1 : jOv (V0.setVm vm1) (.native nf :: .java g :: below) below := hWov
    have hlimN : e.platform.stackLimits (V0.setFrames (.thenThrow (T'.heap.size + 2) :: .native nf :: .java g :: below)).me = e.platform.stackLimits T'.me := by rw [State.stackLimits_setFrames]; exact w7
    have hfrA := X.framesAbove hRframes
    rw [hfr0, List.length_cons] at hfrA
    have hroom := roomAbove (pl := e.platform) (u := V0.setFrames (.thenThrow (T'.heap.size + 2) :: .native nf :: .java g :: below)) (vars := 2) (pushed := [.thenThrow (T'.heap.size + 2)]) (base := .native nf :: .java g :: below) (free := 13 * Ps.length + 55) (lim := e.platform.stackLimits T'.me) hfN hlimN
      (by simp only [List.length_cons, List.length_nil]; omega) (by rw [hB2]; omega) (by rw [stackUse_light _ _ (fun f hf => by cases hf) rfl, stackUse_nil]; show 0 + 2 + 11 ≤ _; omega)
    obtain ⟨-, -, hXfr⟩ := jOvIn hov1 (T'.heap.size + 2) (passJ P1.m (T'.heap.size + 2) (.ref (T'.heap.size + 1)) 0 []) rfl (hW1.methodAt L1.method) L1.code (hW1.plainAt (U := V0.setVm vm1) L1.plain)
    have hXvm : ∀ w, (((V0.setVm vm1).setFrames (.thenThrow (T'.heap.size + 2) :: .native nf :: .java g :: below)).pushFrame (.java (passJ P1.m (T'.heap.size + 2) (.ref (T'.heap.size + 1)) 0 []))).setVm w = (((V0.setVm w).setFrames (.thenThrow (T'.heap.size + 2) :: .native nf :: .java g :: below)).pushFrame (.java (passJ P1.m (T'.heap.size + 2) (.ref (T'.heap.size + 1)) 0 []))) := fun w => by rw [State.pushFrame_setVm, State.setFrames_setVm, State.setVm_twice]
    have hXc : (((V0.setVm vm1).setFrames (.thenThrow (T'.heap.size + 2) :: .native nf :: .java g :: below)).pushFrame (.java (passJ P1.m (T'.heap.size + 2) (.ref (T'.heap.size + 1)) 0 []))).heap[T'.heap.size + 2]? = some (freshCell P1.m.cls kX) := w4
    have hXS : (((V0.setVm vm1).setFrames (.thenThrow (T'.heap.size + 2) :: .native nf :: .java g :: below)).pushFrame (.java (passJ P1.m (T'.heap.size + 2) (.ref (T'.heap.size + 1)) 0 []))).heap[T.aS]? = some cellS := (w5 _ hltS).trans hcellS
    have hXlim : e.platform.stackLimits (((V0.setVm vm1).setFrames (.thenThrow (T'.heap.size + 2) :: .native nf :: .java g :: below)).pushFrame (.java (passJ P1.m (T'.heap.size + 2) (.ref (T'.heap.size + 1)) 0 []))).me = e.platform.stackLimits T'.me := by rw [State.stackLimits_pushFrame, State.stackLimits_setFrames]; exact w7
    obtain ⟨vm2, hW2, st2⟩ := Steps.initThrowableSColdByV p (V := (((V0.setVm vm1).setFrames (.thenThrow (T'.heap.size + 2) :: .native nf :: .java g :: below)).pushFrame (.java (passJ P1.m (T'.heap.size + 2) (.ref (T'.heap.size + 1)) 0 [])))) (g := passJ P1.m (T'.heap.size + 2) (.ref (T'.heap.size + 1)) 2 []) (c := P1.code) (self := T'.heap.size + 2) hI1 hexec T L Z LZ M LM hW1 (t := T'.cur) hWcur (Nn := fun u => u) heapOnly_id (fun _ _ => rfl) (fun _ => rfl) (fun u x y => setCell_twice _ _ _ _) (fun _ => Nat.le_refl _) (msg := .ref (T'.heap.size + 1)) rfl hXc (by intro k hk'; cases hk') (by intro hk'; cases hk') rfl hsel0 hXS (Nat.ne_of_lt (Nat.lt_of_lt_of_le hltS (Nat.le_add_right _ 2))) hknownS (by rw [hkeep _ (hout' _)]; exact hu0) (Takes.of_laid hk hord tyS (by rw [Y.stackType]; exact fits_refV_array _ u0))
      (cN := ((preparedCellV T.toThrowableT (freshCell P1.m.cls kX) (T'.heap.size + 2) u0 sen).withEntry T'.cur)) (fun _ hu => hu) (fun _ hu => hu) rfl rfl rfl (by simp [preparedCellV, Cell.setSlot, Cell.withEntry]) hskip (fun _ _ hA hW _ hroom _ hrest => L.nativeOff p htr hA hW hroom hrest) hselF (by rw [hkeep _ (hout' _)]; exact hsen) (Takes.of_laid hk hord tyC (by rw [Y.causeType]; rfl)) (Takes.of_laid hk hord tyP (by rw [Y.suppType]; exact fits_refV_object _ sen)) (Takes.of_laid hk hord tyM (by rw [Y.msgType]; rfl)) Y.objLocals Ps hL hlink (ig := .invokespecial P1.index) (len := 3) [] hXlim
      (by rw [hXfr]; simp only [List.length_cons]; omega)
      (by rw [hXfr, List.tail_cons, stackUse_java, stackUse_light _ _ (fun f hf => by cases hf) rfl]
          show (stackUse (.native nf :: .java g :: below)).2 + (2 + 11 + 2 * 0 + operandWords []) + 13 * Ps.length + 42 ≤ _
          rw [hB2]
          simp only [operandWords, List.foldl_nil]
          omega)
      L1.at2
    refine ⟨vm2, hW2, fun target hrest => ?_⟩
    rw [(doInvoke_java (s := (V0.setFrames (.thenThrow (T'.heap.size + 2) :: .native nf :: .java g :: below))) (e := e) (acts := []) (args := #[.ref (T'.heap.size + 2), .ref (T'.heap.size + 1)]) (meth := P1.meth) (code := P1.code) hmW L1.code L1.locks (by rw [L1.locals]; exact hroom)).1, L1.locals]
    show Steps p.tables e below ((V0.setFrames (.thenThrow (T'.heap.size + 2) :: .native nf :: .java g :: below)).pushFrame (.java (passJ P1.m (T'.heap.size + 2) (.ref (T'.heap.size + 1)) 0 []))) target
    rw [← State.setTop_self (s := ((V0.setFrames (.thenThrow (T'.heap.size + 2) :: .native nf :: .java g :: below)).pushFrame (.java (passJ P1.m (T'.heap.size + 2) (.ref (T'.heap.size + 1)) 0 [])))) (State.topJava?_of_frames hfI)]
    jvm_step hI [hexec, L1.at0, Value.isRef]
    jvm_step hI [hexec, L1.at1, Value.isRef]
    refine st1 target ?_
    rw [← hlink1] at st2
    refine st2 target ?_
    rw [hXvm]
    have hov2 : jOv (V0.setVm vm2) (.native nf :: .java g :: below) below := hWov
    exact jOvRet hov2 hexec (H := fun u => u.setCell (T'.heap.size + 2) ((((preparedCellV T.toThrowableT (freshCell P1.m.cls kX) (T'.heap.size + 2) u0 sen).withEntry T'.cur).setSlot T.fStack.slot u0.v).left.setSlot T.fMsg.slot (.ref (T'.heap.size + 1)))) (heapOnly_id.thenSetCell _ _) (T'.heap.size + 2) (x := passJ P1.m (T'.heap.size + 2) (.ref (T'.heap.size + 1)) 0 []) (q := 5) rfl rfl rfl rfl (hW2.methodAt L1.method) L1.code (hW2.plainAt (U := V0.setVm vm2) L1.plain) L1.locks L1.at5 hrest
  obtain ⟨vm', hW', st0⟩ := core
  subst hWW
  have st : ∀ target, Steps p.tables e below ((((withThrown T' Zs text P1.m.cls kX).setVm vm').setCell (T'.heap.size + 2) ((((preparedCellV T.toThrowableT (freshCell P1.m.cls kX) (T'.heap.size + 2) u0 sen).withEntry T'.cur).setSlot T.fStack.slot u0.v).left.setSlot T.fMsg.slot (.ref (T'.heap.size + 1)))).setFrames (.throwing (T'.heap.size + 2) :: .native nf :: .java g :: below)) target → Steps p.tables e below (T'.setFrames (.throwNew cls (some text) none :: .native nf :: .java g :: below)) target := by
    intro target hrest
    have hf0 := hov.fr (.throwNew cls (some text) none :: .native nf :: .java g :: below)
    refine Steps.head (hov.go _) ⟨[.throwNew cls (some text) none, .native nf, .java g], by rw [hf0]; rfl, by simp, by simp⟩ ?_
    rw [stepThread_throwNew hf0, stepThrowNew_message (s := T'.setFrames (.throwNew cls (some text) none :: .native nf :: .java g :: below)) (c := P1.m.cls) (k := kX') (i := P1.m.idx) { Zs with kS := kS', kB := kB' } LZ' hsoe hoom (by show T'.vm.findClass cls = _; rw [X.warmed.alike.findClass]; exact hfound) hk' (by rw [he']; exact hinit) (by rw [he']; exact hord) (Launch.admits_hotImplicitExceptions X.admits) hbeyond hfreeW htext (by rw [he']; exact hctor) hlimit hheap (X.cellsAbove hRcells) (by show T'.slotsUsed + _ + kS'.instanceTypes.size + kX'.instanceTypes.size ≤ _; rw [htyS, hty]; exact hslots) (by show T'.fitsSlot _ _ _ _ = true; rw [hfs]; exact hfitv _) (by show T'.fitsSlot _ _ _ _ = true; rw [hfs]; exact hfitc _), withThrown_setFrames, State.setFrames_setFrames, hsameT]
    exact st0 target hrest
  rw [plainBareV_eq T.toThrowableT (T'.heap.size + 2) u0 sen (.ref (T'.heap.size + 1)) T'.cur rfl rfl] at st
  have X3 := ((X.pushed (bytesOf Zs.cB (stringToUtf16 text))).pushed (stringAt Zs.cS Zs.kS Zs.fv Zs.fc (stringToUtf16 text) T'.heap.size)).pushed (freshCell P1.m.cls kX)
  rw [← withString_eq] at X3
  have X4 := X3.noted hW'
  have ha : (T'.heap.size + 2) < ((withThrown T' Zs text P1.m.cls kX).setVm vm').heap.size := by show _ < (withThrown T' Zs text P1.m.cls kX).heap.size; rw [w3]; omega
  have hcell : ((withThrown T' Zs text P1.m.cls kX).setVm vm').heap[(T'.heap.size + 2)]? = some (freshCell P1.m.cls kX) := w4
  have X5 := ((((X4.stored hcell T.fCause.slot (.ref (T'.heap.size + 2))).storedAgain ha T.fStack.slot u0.v).storedAgain ha T.fSupp.slot sen.v).storedAgain ha T.fStack.slot u0.v).storedAgain ha T.fMsg.slot (.ref (T'.heap.size + 1))
  have b1 : (bytesOf Zs.cB (stringToUtf16 text)).slots.size = (stringBytes (stringToUtf16 text)).size := by
    rw [(Cell.writeAll_facts _ _).2.2]
    simp [bytes0]
  have b2 : (stringAt Zs.cS Zs.kS Zs.fv Zs.fc (stringToUtf16 text) T'.heap.size).slots.size = 4 := by simp [string0, Cell.setSlot, hn4]
  have b3 : (freshCell P1.m.cls kX).slots.size = 6 := by simp [hn6]
  have hself := heapAt_setCell_self (s := (withThrown T' Zs text P1.m.cls kX).setVm vm') (plainBareV T.toThrowableT (freshCell P1.m.cls kX) (T'.heap.size + 2) u0 sen (.ref (T'.heap.size + 1))) ha
  refine ⟨((withThrown T' Zs text P1.m.cls kX).setVm vm').setCell (T'.heap.size + 2) (plainBareV T.toThrowableT (freshCell P1.m.cls kX) (T'.heap.size + 2) u0 sen (.ref (T'.heap.size + 1))), ?_, fun i hi => ?_, ⟨_, hself, hfound, rfl⟩, fun target hrest => ?_⟩
  · refine ⟨X5.admits, X5.cas, X5.clock, X5.frames, X5.room, X5.hears, X5.method, X5.code, X5.here, X5.tail, X5.warmed, X5.limits, X5.bytes, ?_⟩
    refine X5.same.weaken (fun y hy hlt => ?_) (Nat.le_refl _) (by rw [b1, b2, b3]; omega)
    simp only [List.append_assoc, List.cons_append, List.nil_append] at hy
    rcases List.mem_append.mp hy with h1 | h1
    · exact h1
    · exfalso
      have hb : y.base = T'.heap.size + 2 := by
        simp only [List.mem_cons, List.not_mem_nil, or_false] at h1
        rcases h1 with rfl | rfl | rfl | rfl | rfl <;> rfl
      have hge : s.heap.size ≤ T'.heap.size := X.same.2.1
      rw [hb] at hlt
      exact Nat.not_lt.mpr (Nat.le_trans hge (Nat.le_add_right _ 2)) hlt
  · rw [heapAt_setCell_ne _ (Nat.ne_of_gt (Nat.lt_of_lt_of_le hi (Nat.le_add_right _ 2)))]
    exact w5 i hi
  · exact st target hrest
end THN
section NPN
variable {p : Program} {l : Launch} {e : Env} {R : Room} {s : State} {m : MethodId} {args : Array Value} {below : List Frame} {meth : Method} {c : Code} {T' : State} {locs : List Loc} {cells slots : Nat}
set_option maxHeartbeats 4000000 in
theorem jNpeN (X : Stand p l e R s m args below meth c T' locs cells slots) (hexec : p.tables.exec = Jvm.exec) (htr : e.platform.stackTraces = false) {n : Nat} (h : ∀ a ∈ Bundle.npeArmAtoms n, a.before args s = true)
    (hlocs : ∀ x ∈ locs, ∀ cell, s.heap[x.base]? = some cell → cell.vm.isStatics = false)
    {g : JFrame} (hg : g.method = m) (hsize : g.locals.size = c.maxLocals) {nf : NFrame} (hnw : nf.words = 0)
    (hRframes : 8 < R.frames) (hRlocals : 2 * g.monitorRoom + (g.stack.map fun v => v.category).sum + 10240 ≤ R.locals) (hRcells : cells + 1 ≤ R.cells) (hRslots : slots + n ≤ R.slots) :
    ∃ W : State, Stand p l e R s m args below meth c W locs (cells + 1) (slots + n) ∧ (∀ i, i < T'.heap.size → W.heap[i]? = T'.heap[i]?) ∧
      (∃ cell, W.heap[T'.heap.size]? = some cell ∧ s.vm.findClass "java/lang/NullPointerException" = some cell.cls ∧ cell.vm = .none) ∧
      ∀ target, Steps p.tables e below (W.setFrames (.throwing T'.heap.size :: .native nf :: .java g :: below)) target → Steps p.tables e below (T'.setFrames (.throwNew "java/lang/NullPointerException" none none :: .native nf :: .java g :: below)) target := by
  have howns : e.platform.frameOwnsMonitors = true := by rw [X.admits.platform]
  have hfin : e.platform.finalization = false := by rw [X.admits.platform]
  have hpl : e.platform.magicAccessors = ({} : Platform).magicAccessors := by rw [X.admits.platform]
  have hpl2 : e.platform.arrayCloneIsPublic = true := by rw [X.admits.platform]
  have a : ∀ x, x ∈ Bundle.npeArmAtoms n → x.holds args s none s [] = true := fun x hx => h x hx
  obtain ⟨T, Z, L, LZ, Y⟩ := ThrowableC.of_atoms (args := args) howns hfin hpl (fun x hx => h x (by simp [Bundle.npeArmAtoms, hx]))
  obtain ⟨N, LN, hcN, hnNF, hordN, hffS⟩ := NpeC.of_atoms (args := args) hpl hpl2 L Y (fun x hx => h x (by simp [Bundle.npeArmAtoms, hx]))
  obtain ⟨P1, L1, hP1m, hP1s⟩ := PassC.of_atoms (args := args) (s := s) hpl (X := Bundle.nN) (Y := Bundle.rN) (by decide) (by decide) LibCode.NullPointerException.Init0.at_0 LibCode.NullPointerException.Init0.at_1 LibCode.NullPointerException.Init0.at_4 (fun x hx => h x (by simp [Bundle.npeArmAtoms, hx]))
  obtain ⟨PR, LR, hPRm, hPRs⟩ := PassC.of_atoms (args := args) (s := s) hpl (X := Bundle.rN) (Y := Bundle.eN) (by decide) (by decide) LibCode.RuntimeException.Init0.at_0 LibCode.RuntimeException.Init0.at_1 LibCode.RuntimeException.Init0.at_4 (fun x hx => h x (by simp [Bundle.npeArmAtoms, hx]))
  obtain ⟨PE, LEx, hPEm, hPEs⟩ := PassC.of_atoms (args := args) (s := s) hpl (X := Bundle.eN) (Y := Bundle.tN) (by decide) (by decide) LibCode.Exception.Init0.at_0 LibCode.Exception.Init0.at_1 LibCode.Exception.Init0.at_4 (fun x hx => h x (by simp [Bundle.npeArmAtoms, hx]))
  have hfound : s.vm.findClass Bundle.nN = some P1.m.cls := findClass_of_methodNamed hP1m
  have ecls : N.cN = P1.m.cls := Option.some.inj (hcN.symm.trans hfound)
  have hk : s.vm.classes[P1.m.cls]? = some N.kN := by rw [← ecls]; exact LN.cls
  have hinit := Cond.initialized_spec hfound hk (a (.initialized Bundle.nN) (by simp [Bundle.npeArmAtoms]))
  have hctor : N.kN.findMethod "<init>" "()V" = some P1.m.idx := findMethod_of_methodNamed hP1m hk
  obtain ⟨c1, k1, hc1, hk1, -, -, -, hn⟩ := Cond.instantiable_spec (a (.instantiable Bundle.nN n) (by simp [Bundle.npeArmAtoms]))
  cases Option.some.inj (hc1.symm.trans hfound)
  cases Option.some.inj (hk1.symm.trans hk)
  have hlink1 : P1.sup = PR.m := Option.some.inj (hP1s.symm.trans hPRm)
  have hlinkR : PR.sup = PE.m := Option.some.inj (hPRs.symm.trans hPEm)
  have hlinkE : PE.sup = Z.m T.toThrowableT := Option.some.inj (hPEs.symm.trans Y.init0)
  have hsel0 : selectMethod e.platform s.vm P1.m.cls T.fill0 = .method T.fill0 := by
    obtain ⟨c2, r2, m2, q1, q2, q3, q4, -⟩ := Cond.selects_spec (a (.selects Bundle.nN Bundle.tFill0 Bundle.tFill0) (by simp [Bundle.npeArmAtoms]))
    cases Option.some.inj (q1.symm.trans hfound)
    cases Option.some.inj (q2.symm.trans (State.methodFound?_of_named Y.fill0 (by decide)))
    cases Option.some.inj (q3.symm.trans Y.fill0)
    rw [Launch.admits_selectMethod X.admits]; exact q4
  have hselF : selectMethod e.platform s.vm P1.m.cls T.fill = .method N.fill := by
    obtain ⟨c2, r2, m2, q1, q2, q3, q4, -⟩ := Cond.selects_spec (a (.selects Bundle.nN Bundle.tFill Bundle.nFill) (by simp [Bundle.npeArmAtoms]))
    cases Option.some.inj (q1.symm.trans hfound)
    cases Option.some.inj (q2.symm.trans (State.methodFound?_of_named Y.fill (by decide)))
    cases Option.some.inj (q3.symm.trans hnNF)
    rw [Launch.admits_selectMethod X.admits]; exact q4
  obtain ⟨cellS0, hcS0, hiss⟩ := Y.statics
  obtain ⟨u0, hu0⟩ := Cond.staticRefV Y.unassigned L.unassignedStatic L.statics hcS0 hiss (a (.isRef (.static Bundle.tN "UNASSIGNED_STACK" Bundle.steD)) (by simp [Bundle.npeArmAtoms]))
  obtain ⟨sen, hsen⟩ := Cond.staticRefV Y.sentinel L.sentinelStatic L.statics hcS0 hiss (a (.isRef (.static Bundle.tN "SUPPRESSED_SENTINEL" Bundle.listD)) (by simp [Bundle.npeArmAtoms]))
  obtain ⟨ci198, i198, fB, hk198, hg198, ha198, hsB, -, hnB, htB, hffB⟩ := Cond.ownField (t := .object "java/lang/Object") Y.found L.cls (by decide +kernel) (a (.fieldLink Bundle.tN 198 Bundle.tN "backtrace" Bundle.objD) (by simp [Bundle.npeArmAtoms])) (a (.lays Bundle.tN Bundle.tN "backtrace" Bundle.objD) (by simp [Bundle.npeArmAtoms])) e.platform hpl
  obtain ⟨cellS, hcS', heS, -, hkeep⟩ := X.same.2.2.2.2.2 T.aS cellS0 hcS0
  have hcellS : T'.heap[T.aS]? = some cellS := hcS'
  have hout' : ∀ i, (⟨T.aS, i⟩ : Loc) ∉ locs := fun i hmem => by
    have := hlocs _ hmem cellS0 hcS0
    rw [hiss] at this; cases this
  have hknownS : cellS.vm ≠ .unknown := by
    rw [heS]; intro hu
    rw [show cellS0.vm = .unknown from hu] at hiss
    cases hiss
  obtain ⟨tyC, dC, hdC, hdnC⟩ := Cond.laysAt hfound hk Y.cause (a (.lays Bundle.nN Bundle.tN "cause" "Ljava/lang/Throwable;") (by simp [Bundle.npeArmAtoms]))
  obtain ⟨tyS, dS, hdS, hdnS⟩ := Cond.laysAt hfound hk Y.stack (a (.lays Bundle.nN Bundle.tN "stackTrace" Bundle.steD) (by simp [Bundle.npeArmAtoms]))
  obtain ⟨tyP, dP, hdP, hdnP⟩ := Cond.laysAt hfound hk Y.supp (a (.lays Bundle.nN Bundle.tN "suppressedExceptions" Bundle.listD) (by simp [Bundle.npeArmAtoms]))
  obtain ⟨tyX, dX, hdX, hdnX⟩ := Cond.laysAt hfound hk hffS (a (.lays Bundle.nN Bundle.nN "extendedMessageState" "I") (by simp [Bundle.npeArmAtoms, Bundle.npeAtoms]))
  have hnX : N.fState.name = "extendedMessageState" := (State.fieldFound?_type hffS (t := .int) (by decide +kernel)).1
  obtain ⟨tyB, dB, hdB, hdnB⟩ := Cond.laysAt hfound hk hffB (a (.lays Bundle.nN Bundle.tN "backtrace" Bundle.objD) (by simp [Bundle.npeArmAtoms]))
  have bC := Cond.laysApart hdB hdC hdnB hdnC (by rw [hnB, Y.causeName]; decide)
  have bS := Cond.laysApart hdB hdS hdnB hdnS (by rw [hnB, Y.stackName]; decide)
  have bP := Cond.laysApart hdB hdP hdnB hdnP (by rw [hnB, Y.suppName]; decide)
  have bX := Cond.laysApart hdB hdX hdnB hdnX (by rw [hnB, hnX]; decide)
  have hskip : SkipFacts T e.platform s (fun u => u) u0 ((npeCell N.toNpeT (preparedCellV T.toThrowableT (freshCell P1.m.cls N.kN) T'.heap.size u0 sen) T'.cur).withEntry T'.cur) :=
    ⟨{ ci198 := ci198, i198 := i198, fBack := fB }, ⟨hk198, hg198, ha198, hsB⟩, by
      have := fresh_default (c := P1.m.cls) tyB
      rw [htB] at this
      simpa [npeCell, preparedCellV, Cell.setSlot, Cell.withEntry, Array.getElem?_setIfInBounds, bC, bS, bP, bX, bC.symm, bS.symm, bP.symm, bX.symm, defaultValue] using this, fun _ _ => rfl⟩
  have hat : At T' g.method c below := by rw [hg]; exact X.here
  obtain ⟨g₀, hfr0⟩ := X.frames_eq
  have hcur : T'.cur < T'.threads.size := State.cur_lt_of_frames hfr0
  have hov : jOv T' (.native nf :: .java g :: below) below := ⟨⟨hat.running, hat.runnable, hat.alone⟩, hcur, [.native nf, .java g], rfl⟩
  have hB2 : (stackUse (.native nf :: .java g :: below)).2 = (stackUse (.java g :: below)).2 := by rw [stackUse_light _ _ (fun f hf => by cases hf) hnw]
  have hB3 : (stackUse (.throwNew "java/lang/NullPointerException" none none :: .native nf :: .java g :: below)).2 = (stackUse (.java g :: below)).2 := by rw [stackUse_light _ _ (fun f hf => by cases hf) rfl]; exact hB2
  have hA := X.stackAbove hsize hRlocals
  rw [X.tail] at hA
  have hbb : ((((T'.setFrames (.throwNew "java/lang/NullPointerException" none none :: .native nf :: .java g :: below)).threads[(T'.setFrames (.throwNew "java/lang/NullPointerException" none none :: .native nf :: .java g :: below)).cur]?).map (·.stackBytes)).getD 0) = T'.me.stackBytes := by
    rw [← State.stackBytes_setFrames T' (.throwNew "java/lang/NullPointerException" none none :: .native nf :: .java g :: below)]
    exact State.stackBytes_me (T'.setFrames (.throwNew "java/lang/NullPointerException" none none :: .native nf :: .java g :: below))
  have hlimit2 : (e.platform.stackLimits T'.me).2 = (e.platform.limitsFor T'.me.stackBytes).2 := rfl
  have hbeyond : e.platform.stackBeyond ((((T'.setFrames (.throwNew "java/lang/NullPointerException" none none :: .native nf :: .java g :: below)).threads[(T'.setFrames (.throwNew "java/lang/NullPointerException" none none :: .native nf :: .java g :: below)).cur]?).map (·.stackBytes)).getD 0) (T'.setFrames (.throwNew "java/lang/NullPointerException" none none :: .native nf :: .java g :: below)).frames = false := by
    rw [hbb, State.frames_setFrames _ hcur]
    unfold Platform.stackBeyond
    rw [hB3]
    exact decide_eq_false (by omega)
  have hfreeW : e.platform.vmThrowRoom ≤ e.platform.stackFree ((((T'.setFrames (.throwNew "java/lang/NullPointerException" none none :: .native nf :: .java g :: below)).threads[(T'.setFrames (.throwNew "java/lang/NullPointerException" none none :: .native nf :: .java g :: below)).cur]?).map (·.stackBytes)).getD 0) (T'.setFrames (.throwNew "java/lang/NullPointerException" none none :: .native nf :: .java g :: below)).frames := by
    rw [hbb, State.frames_setFrames _ hcur, Launch.admits_vmThrowRoom X.admits]
    unfold Platform.stackFree
    rw [hB3]
    omega
  have hslots : T'.slotsUsed + N.kN.instanceTypes.size ≤ e.platform.maxSlots := X.slotsAbove (by rw [hn]; exact hRslots)
  obtain ⟨kX', hk', he'⟩ := X.warmed.alike.2.2 _ _ hk
  have hty : kX'.instanceTypes = N.kN.instanceTypes := by rw [he']
  have hfresh : freshCell P1.m.cls kX' = (freshCell P1.m.cls N.kN) := by
    show ({ cls := P1.m.cls, slots := kX'.instanceTypes.map defaultValue, vm := .none } : Cell) = _
    rw [hty]
  have hltS : T.aS < T'.heap.size := (Array.getElem?_eq_some_iff.mp hcellS).1
  have hWov : jOv (T'.pushCell (freshCell P1.m.cls N.kN)) (.native nf :: .java g :: below) below := hov
  have w5 : (T'.pushCell (freshCell P1.m.cls N.kN)).heap[T.aS]? = some cellS := by
    rw [← hcellS]
    simp [State.pushCell, Array.getElem?_push, Nat.ne_of_lt hltS]
  have w4 : (T'.pushCell (freshCell P1.m.cls N.kN)).heap[T'.heap.size]? = some (freshCell P1.m.cls N.kN) := State.heap_pushCell_size T' (freshCell P1.m.cls N.kN)
  have hW0 : s.WarmedH (T'.pushCell (freshCell P1.m.cls N.kN)).vm := X.warmed
  have w7 : e.platform.stackLimits (T'.pushCell (freshCell P1.m.cls N.kN)).me = e.platform.stackLimits T'.me := rfl
  have hWcur : (T'.pushCell (freshCell P1.m.cls N.kN)).cur = T'.cur := rfl
  generalize hWW : T'.pushCell (freshCell P1.m.cls N.kN) = V0 at hWov w5 w4 hW0 w7 hWcur
  have core : ∃ vm', s.WarmedH vm' ∧ ∀ target, Steps p.tables e below (((V0.setVm vm').setCell T'.heap.size (((npeCell N.toNpeT (preparedCellV T.toThrowableT (freshCell P1.m.cls N.kN) T'.heap.size u0 sen) T'.cur).withEntry T'.cur).setSlot T.fStack.slot u0.v).left.left).setFrames (.throwing T'.heap.size :: .native nf :: .java g :: below)) target → Steps p.tables e below (doInvoke e (V0.setFrames (.thenThrow T'.heap.size :: .native nf :: .java g :: below)) [] P1.m #[.ref T'.heap.size]).1 target := by
    have hmW := hW0.methodAt L1.method
    obtain ⟨hfN, hI, hfI⟩ := jOvIn hWov T'.heap.size (pass0J P1.m T'.heap.size 0 []) rfl hmW L1.code (hW0.plainAt L1.plain)
    obtain ⟨vm1, hW1, st1⟩ := Steps.invokeInitCold (tb := p.tables) (s₀ := s) (U := ((V0.setFrames (.thenThrow T'.heap.size :: .native nf :: .java g :: below)).pushFrame (.java (pass0J P1.m T'.heap.size 0 [])))) (f := pass0J P1.m T'.heap.size 1 [.ref T'.heap.size]) (args := []) (rest := []) (a := T'.heap.size) hI hexec L1.at1 hW0 L1.links L1.right L1.notHandle L1.cls L1.file L1.pool
      L1.supClass L1.supMethod L1.supName L1.supStatic L1.supAbstract L1.supFound L1.supParams.symm rfl
    have hI1 : At (((V0.setVm vm1).setFrames (.thenThrow T'.heap.size :: .native nf :: .java g :: below)).pushFrame (.java (pass0J P1.m T'.heap.size 0 []))) P1.m P1.code below := hI.setVm (hW0.alike.symm.trans hW1.alike)
    have hov1 : jOv (V0.setVm vm1) (.native nf :: .java g :: below) below := hWov
    have hlimN : e.platform.stackLimits (V0.setFrames (.thenThrow T'.heap.size :: .native nf :: .java g :: below)).me = e.platform.stackLimits T'.me := by rw [State.stackLimits_setFrames]; exact w7
    have hfrA := X.framesAbove hRframes
    rw [hfr0, List.length_cons] at hfrA
    have hroom := roomAbove (pl := e.platform) (u := V0.setFrames (.thenThrow T'.heap.size :: .native nf :: .java g :: below)) (vars := 1) (pushed := [.thenThrow T'.heap.size]) (base := .native nf :: .java g :: below) (free := 13 * 2 + 68) (lim := e.platform.stackLimits T'.me) hfN hlimN
      (by simp only [List.length_cons, List.length_nil]; omega) (by rw [hB2]; omega) (by rw [stackUse_light _ _ (fun f hf => by cases hf) rfl, stackUse_nil]; show 0 + 1 + 11 ≤ _; omega)
    obtain ⟨-, -, hXfr⟩ := jOvIn hov1 T'.heap.size (pass0J P1.m T'.heap.size 0 []) rfl (hW1.methodAt L1.method) L1.code (hW1.plainAt (U := V0.setVm vm1) L1.plain)
    have hXvm : ∀ w, (((V0.setVm vm1).setFrames (.thenThrow T'.heap.size :: .native nf :: .java g :: below)).pushFrame (.java (pass0J P1.m T'.heap.size 0 []))).setVm w = (((V0.setVm w).setFrames (.thenThrow T'.heap.size :: .native nf :: .java g :: below)).pushFrame (.java (pass0J P1.m T'.heap.size 0 []))) := fun w => by rw [State.pushFrame_setVm, State.setFrames_setVm, State.setVm_twice]
    have hXc : (((V0.setVm vm1).setFrames (.thenThrow T'.heap.size :: .native nf :: .java g :: below)).pushFrame (.java (pass0J P1.m T'.heap.size 0 []))).heap[T'.heap.size]? = some (freshCell P1.m.cls N.kN) := w4
    have hXS : (((V0.setVm vm1).setFrames (.thenThrow T'.heap.size :: .native nf :: .java g :: below)).pushFrame (.java (pass0J P1.m T'.heap.size 0 []))).heap[T.aS]? = some cellS := w5
    have hXlim : e.platform.stackLimits (((V0.setVm vm1).setFrames (.thenThrow T'.heap.size :: .native nf :: .java g :: below)).pushFrame (.java (pass0J P1.m T'.heap.size 0 []))).me = e.platform.stackLimits T'.me := by rw [State.stackLimits_pushFrame, State.stackLimits_setFrames]; exact w7
    obtain ⟨vm2, hW2, st2⟩ := Steps.initNpe0ColdByV p (V := (((V0.setVm vm1).setFrames (.thenThrow T'.heap.size :: .native nf :: .java g :: below)).pushFrame (.java (pass0J P1.m T'.heap.size 0 [])))) (g := pass0J P1.m T'.heap.size 1 []) (c := P1.code) (self := T'.heap.size) hI1 hexec T L Z LZ N LN hW1 (t := T'.cur) hWcur (Nn := fun u => u) heapOnly_id (fun _ _ => rfl) (fun _ => rfl) (fun u x y => setCell_twice _ _ _ _) (fun _ => Nat.le_refl _) hXc (by intro k hk'; cases hk') (by intro hk'; cases hk') rfl hk hsel0 hXS (Nat.ne_of_lt hltS) hknownS (by rw [hkeep _ (hout' _)]; exact hu0) (by rw [fresh_default tyX, LN.stateInt]; rfl) (Cond.laysApart hdC hdX hdnC hdnX (by rw [Y.causeName, hnX]; decide)) (Cond.laysApart hdS hdX hdnS hdnX (by rw [Y.stackName, hnX]; decide)) (Cond.laysApart hdP hdX hdnP hdnX (by rw [Y.suppName, hnX]; decide)) (Takes.of_laid hk hordN tyS (by rw [Y.stackType]; exact fits_refV_array _ u0)) (Takes.of_laid hk hordN tyX (by rw [LN.stateInt]; rfl))
      (cN := ((npeCell N.toNpeT (preparedCellV T.toThrowableT (freshCell P1.m.cls N.kN) T'.heap.size u0 sen) T'.cur).withEntry T'.cur)) (fun _ hu => hu) (fun _ hu => hu) rfl rfl rfl (by simp [npeCell, preparedCellV, Cell.setSlot, Cell.withEntry]) hskip (fun _ _ hA hW _ hroom _ hrest => L.nativeOff p htr hA hW hroom hrest) hselF (by rw [hkeep _ (hout' _)]; exact hsen) (Takes.of_laid hk hordN tyC (by rw [Y.causeType]; rfl)) (Takes.of_laid hk hordN tyP (by rw [Y.suppType]; exact fits_refV_object _ sen)) Y.objLocals [PR, PE] (fun P hP => by
        simp only [List.mem_cons, List.not_mem_nil, or_false] at hP
        rcases hP with rfl | rfl
        · exact LR
        · exact LEx) ⟨hlinkR, hlinkE, trivial⟩ (ig := .invokespecial P1.index) (len := 3) [] hXlim
      (by rw [hXfr]; simp only [List.length_cons, List.length_nil]; omega)
      (by rw [hXfr, List.tail_cons, stackUse_java, stackUse_light _ _ (fun f hf => by cases hf) rfl]
          show (stackUse (.native nf :: .java g :: below)).2 + (1 + 11 + 2 * 0 + operandWords []) + 13 * 2 + 55 ≤ _
          rw [hB2]
          simp only [operandWords, List.foldl_nil]
          omega)
      L1.at1
    refine ⟨vm2, hW2, fun target hrest => ?_⟩
    rw [(doInvoke_java (s := (V0.setFrames (.thenThrow T'.heap.size :: .native nf :: .java g :: below))) (e := e) (acts := []) (args := #[.ref T'.heap.size]) (meth := P1.meth) (code := P1.code) hmW L1.code L1.locks (by rw [L1.locals]; exact hroom)).1, L1.locals]
    show Steps p.tables e below ((V0.setFrames (.thenThrow T'.heap.size :: .native nf :: .java g :: below)).pushFrame (.java (pass0J P1.m T'.heap.size 0 []))) target
    rw [← State.setTop_self (s := ((V0.setFrames (.thenThrow T'.heap.size :: .native nf :: .java g :: below)).pushFrame (.java (pass0J P1.m T'.heap.size 0 [])))) (State.topJava?_of_frames hfI)]
    jvm_step hI [hexec, L1.at0, Value.isRef]
    refine st1 target ?_
    have st2' := st2 target
    rw [show firstOf (Z.m T.toThrowableT) ([PR, PE].map (·.toPassT)) = P1.sup from hlink1.symm] at st2'
    refine st2' ?_
    rw [hXvm]
    have hov2 : jOv (V0.setVm vm2) (.native nf :: .java g :: below) below := hWov
    exact jOvRet hov2 hexec (H := fun u => u.setCell T'.heap.size (((npeCell N.toNpeT (preparedCellV T.toThrowableT (freshCell P1.m.cls N.kN) T'.heap.size u0 sen) T'.cur).withEntry T'.cur).setSlot T.fStack.slot u0.v).left.left) (heapOnly_id.thenSetCell _ _) T'.heap.size (x := pass0J P1.m T'.heap.size 0 []) (q := 4) rfl rfl rfl rfl (hW2.methodAt L1.method) L1.code (hW2.plainAt (U := V0.setVm vm2) L1.plain) L1.locks L1.at4 hrest
  obtain ⟨vm', hW', st0⟩ := core
  subst hWW
  have st : ∀ target, Steps p.tables e below ((((T'.pushCell (freshCell P1.m.cls N.kN)).setVm vm').setCell T'.heap.size (((npeCell N.toNpeT (preparedCellV T.toThrowableT (freshCell P1.m.cls N.kN) T'.heap.size u0 sen) T'.cur).withEntry T'.cur).setSlot T.fStack.slot u0.v).left.left).setFrames (.throwing T'.heap.size :: .native nf :: .java g :: below)) target → Steps p.tables e below (T'.setFrames (.throwNew "java/lang/NullPointerException" none none :: .native nf :: .java g :: below)) target := by
    intro target hrest
    have hf0 := hov.fr (.throwNew "java/lang/NullPointerException" none none :: .native nf :: .java g :: below)
    refine Steps.head (hov.go _) ⟨[.throwNew "java/lang/NullPointerException" none none, .native nf, .java g], by rw [hf0]; rfl, by simp, by simp⟩ ?_
    rw [stepThread_throwNew hf0, stepThrowNew_plain (s := T'.setFrames (.throwNew "java/lang/NullPointerException" none none :: .native nf :: .java g :: below)) (c := P1.m.cls) (k := kX') (i := P1.m.idx) (by decide) (by decide) (by show T'.vm.findClass _ = _; rw [X.warmed.alike.findClass]; exact hfound) hk' (by rw [he']; exact hinit) (by rw [he']; exact hordN) (Launch.admits_hotImplicitExceptions X.admits) hbeyond hfreeW (by rw [he']; exact hctor) (X.cellsAbove hRcells) (by rw [hty]; exact hslots), State.pushCell_setFrames, State.setFrames_setFrames, hfresh]
    exact st0 target hrest
  rw [npeBareV_eq T.toThrowableT N.toNpeT T'.heap.size u0 sen T'.cur rfl rfl] at st
  have X2 := (X.pushed (freshCell P1.m.cls N.kN)).noted hW'
  have hsz : ((T'.pushCell (freshCell P1.m.cls N.kN)).setVm vm').heap.size = T'.heap.size + 1 := State.heap_size_pushCell _ _
  have ha : T'.heap.size < ((T'.pushCell (freshCell P1.m.cls N.kN)).setVm vm').heap.size := by rw [hsz]; omega
  have hcell : ((T'.pushCell (freshCell P1.m.cls N.kN)).setVm vm').heap[T'.heap.size]? = some (freshCell P1.m.cls N.kN) := State.heap_pushCell_size T' (freshCell P1.m.cls N.kN)
  have X3 := ((((X2.stored hcell T.fCause.slot (.ref T'.heap.size)).storedAgain ha T.fStack.slot u0.v).storedAgain ha T.fSupp.slot sen.v).storedAgain ha N.fState.slot (.int 1)).storedAgain ha T.fStack.slot u0.v
  have hsz8 : (freshCell P1.m.cls N.kN).slots.size = n := by simp [hn]
  refine ⟨((T'.pushCell (freshCell P1.m.cls N.kN)).setVm vm').setCell T'.heap.size (npeBareV T.toThrowableT N.toNpeT (freshCell P1.m.cls N.kN) T'.heap.size u0 sen), ?_, fun i hi => ?_, ⟨_, heapAt_setCell_self (s := (T'.pushCell (freshCell P1.m.cls N.kN)).setVm vm') _ ha, hfound, rfl⟩, fun target hrest => ?_⟩
  · refine ⟨X3.admits, X3.cas, X3.clock, X3.frames, X3.room, X3.hears, X3.method, X3.code, X3.here, X3.tail, X3.warmed, X3.limits, X3.bytes, ?_⟩
    refine X3.same.weaken (fun y hy hlt => ?_) (Nat.le_refl _) (by rw [hsz8]; exact Nat.le_refl _)
    simp only [List.append_assoc, List.cons_append, List.nil_append] at hy
    rcases List.mem_append.mp hy with h1 | h1
    · exact h1
    · exfalso
      have hb : y.base = T'.heap.size := by
        simp only [List.mem_cons, List.not_mem_nil, or_false] at h1
        rcases h1 with rfl | rfl | rfl | rfl | rfl <;> rfl
      have hge : s.heap.size ≤ T'.heap.size := X.same.2.1
      rw [hb] at hlt
      exact Nat.not_lt.mpr hge hlt
  · rw [heapAt_setCell_ne _ (Nat.ne_of_gt hi)]
    show (T'.heap.push _)[i]? = _
    rw [Array.getElem?_push, if_neg (Nat.ne_of_lt hi)]
  · exact st target hrest
end NPN
