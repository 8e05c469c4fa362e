/-! calls of methods with handlers; calls of methods that throw, caught here -/
set_option maxRecDepth 100000
section CVW
variable {p : Program} {l : Launch} {e : Env} {R : Room} {s : State} {m : MethodId} {args : Array Value} {below : List Frame} {meth : Method} {c : Code} {locs : List Loc} {cells slots : Nat}
theorem jcallVW {T : State} (X : Stand p l e R s m args below meth c T locs cells slots) (hexec : p.tables.exec = Jvm.exec) {own C : String} {index : Nat} {y : MethodName} {bytes : ByteArray} {maxL : Nat} {ret : Option FieldType} {hh : List (Nat × Nat × Nat × Nat)}
    (hown : s.vm.findClass own = some m.cls) (hlink : (Cond.methodLink own index y).before args s = true) (hinst : (Cond.instanceMethod y).before args s = true) (hsel : (Cond.selects C y y).before args s = true)
    (hcode : (Cond.codeWith y bytes maxL ret hh).before args s = true) (hy : y.cls ≠ "java/lang/invoke/MethodHandle" ∧ y.cls ≠ "java/lang/invoke/VarHandle")
    {W : Nat} {Pre : Pt → Array Value → Prop} {Post : Pt → Array Value → Option Value → Pt → Prop} (hK : Back l R p e below s args y 3 W Pre Post)
    {b : Addr} {cellB : Cell} (hcell : T.heap[b]? = some cellB) (hobj : cellB.vm.isStatics = false) (hcls : s.vm.findClass C = some cellB.cls)
    {g : JFrame} (hg : g.method = m) (hsize : g.locals.size = c.maxLocals) {argsL rest : List Value} (hlen : ∀ sig, parseMethodDescriptor y.desc = some sig → argsL.length = sig.parameters.length)
    (hstack : g.stack = argsL.reverse ++ .ref b :: rest) (hW : 2 * g.monitorRoom + (rest.map fun v => v.category).sum ≤ W) (hdg : decode c.code g.pc = .ok (.invokevirtual index, 3))
    (hpre : ∀ vm₁, s.WarmedH vm₁ → Pre ⟨T.setVm vm₁, locs, cells, slots⟩ (Value.ref b :: argsL).toArray) :
    ∃ (v : Option Value) (vm₁ : Vm) (B : Pt), s.WarmedH vm₁ ∧ Stand p l e R s m args below meth c B.U B.locs B.cells B.slots ∧ Post ⟨T.setVm vm₁, locs, cells, slots⟩ (Value.ref b :: argsL).toArray v B ∧
      ∀ target, Steps p.tables e below (B.U.setTop { g with pc := g.pc + 3, stack := v.toList ++ rest }) target → Steps p.tables e below (T.setTop g) target := by
  obtain ⟨mk, methM, hnamed, hmethM, hstM, habM⟩ := Cond.instanceMethod_spec hinst
  obtain ⟨m9, methM', cM, hn9, hmethM', -, -, -, -, -, -, hsigM⟩ := Cond.codeWith_spec hcode
  cases hnamed.symm.trans hn9
  cases hmethM.symm.trans hmethM'
  obtain ⟨c2, r2, m2, q1, q2, q3, q4, kP, hkP, hkPi⟩ := Cond.selects_spec hsel
  cases hcls.symm.trans q1
  cases (State.methodFound?_of_named hnamed hy).symm.trans q2
  cases hnamed.symm.trans q3
  have hselP : selectMethod e.platform s.vm cellB.cls mk = .method mk := by rw [Launch.admits_selectMethod X.admits]; exact q4
  obtain ⟨vm₁, X₁, hstep₁⟩ := X.invokevirtual hexec hown hlink hnamed hmethM hstM hkP hkPi hy (a := b) (cell := cellB) hcell
    (fun z h => by rw [h] at hobj; cases hobj) hselP hmethM habM hkP hkPi (g := g) hg (argsL := argsL) (rest := rest) (hlen _ hsigM) hstack hdg
  obtain ⟨v, B, X', hpost, hsteps⟩ := hK m meth c ⟨T.setVm vm₁, locs, cells, slots⟩ { g with stack := rest } (.invokevirtual index) mk (Value.ref b :: argsL).toArray X₁ hg hsize hdg hW (X₁.named hnamed) (hpre vm₁ X₁.warmed)
  exact ⟨v, vm₁, B, X₁.warmed, X', hpost, fun target h => hstep₁ _ fun acts => by rw [doInvoke_state]; exact hsteps.trans h⟩
theorem jrunVW {H : Heap} {cc bytes : ByteArray} {nL maxL index n mc ms : Nat} {own C : String} {y : MethodName} {ret : Option FieldType} {hh : List (Nat × Nat × Nat × Nat)} {Ts ws ws' : List Cond} {rm : Room} {Pc : Array Value → State → Prop} {Qc : Array Value → State → Outcome → State → Prop} {free : Addr → Prop} {b : Addr} {As rest : List Value} {g : JFrame} (S : CallFix p m c cc nL s args Ts own) (hM : Met l y ws rm Pc Qc mc ms free) (hT : GoodIn Ts (wsV own index C y ws)) (hw : ws = Cond.codeWith y bytes maxL ret hh :: ws') (hrc : rm.cells = mc) (hrs : rm.slots = ms)
    (hd : y.cls = C ∧ y.cls ≠ "java/lang/invoke/MethodHandle" ∧ y.cls ≠ "java/lang/invoke/VarHandle" ∧ (parseMethodDescriptor y.desc).map (fun d => d.parameters.length) = some n) (hR : rm.frames + 1 ≤ R.frames ∧ 8 + (maxL + 11) + rm.locals ≤ R.locals) (hp : PreV s H C b Pc As)
    (hg : g.method = m) (hn : As.length = n) (hsize : g.locals.size = nL) (hstack : g.stack = As.reverse ++ .ref b :: rest) (hW : 2 * g.monitorRoom + (rest.map fun v => v.category).sum ≤ 8) (hdg : decode cc g.pc = .ok (.invokevirtual index, 3)) (hf : cells + mc ≤ R.cells ∧ slots + ms ≤ R.slots) :
    va_Run p l e R s m args below meth c H locs cells slots mc ms g rest (Qc (Value.ref b :: As).toArray) (free) := by
  obtain ⟨hx, hb, hml, ho, hts⟩ := S
  obtain ⟨hC, hd⟩ := hd
  subst hC
  have ok : ∀ w ∈ wsV own index y.cls y ws, w.before args s = true := fun w h => hts w (hT w h).1
  have hG : GoodIn Ts ws := fun w h => hT w (by unfold wsV; exact List.mem_append_right _ h)
  have hc : Cond.codeWith y bytes maxL ret hh ∈ ws := by rw [hw]; exact List.mem_cons_self
  have hini : (Cond.initialized y.cls).before args s = true := ok _ (by simp [wsV])
  have hK : Back l R p e below s args y 3 8 (PreOf R mc ms Pc) (PostOf Qc mc ms free) := va_backW (hh := hh) (bytes := bytes) (maxL := maxL) (ret := ret) hM hp.1 hrc hrs hR.1 hR.2 (pay_in hts hG) hc (fun a' U hW => word_at hW (Or.inl (by first | rfl | simp [Cond.onTables, Cond.keeps, Cond.steady])) hini)
  obtain ⟨-, ⟨cellB, hcB, hoB, hclB⟩, hPc⟩ := hp
  have hlen : ∀ sig, parseMethodDescriptor y.desc = some sig → n = sig.parameters.length := fun sig h => by
    have h2 := hd.2.2
    rw [h] at h2
    exact (Option.some.inj h2).symm
  intro T hT X
  obtain ⟨v, vm₁, ⟨U', l2, c2, s2⟩, hW₁, X', ⟨g', mk, t, L, e1, e2, hq, h1, hL, h2, h3⟩, st⟩ := jcallVW X hx (C := y.cls) (bytes := bytes) (maxL := maxL) (ret := ret) (hh := hh) ho (ok (.methodLink own index y) (by simp [wsV])) (ok (.instanceMethod y) (by simp [wsV])) (ok (.selects y.cls y y) (by simp [wsV])) (hts _ (hG _ hc).1) ⟨hd.1, hd.2.1⟩ hK (by rw [hT]; exact hcB) hoB hclB hg (hsize.trans hml.symm) (argsL := As) (rest := rest) (fun sig h => hn.trans (hlen sig h)) hstack hW (by rw [hb]; exact hdg)
    (fun vm₁ hW₁ => ⟨hf.1, hf.2, hPc (T.setVm vm₁) hT hW₁⟩)
  dsimp only [Pt.U, Pt.locs, Pt.cells, Pt.slots] at X' e1 e2 h1 h2 h3 st
  subst h1; subst h2; subst h3
  exact ⟨v, (T.setVm vm₁).calling g' mk (Value.ref b :: As).toArray, t, U', L, hT, X', hL, e1, e2, hq, st⟩
end CVW
section JC
variable {X : jX} {cc : ByteArray} {nL : Nat} {y : MethodName} {k n pc : Nat} {lv : List (Option Value)} {st : List Value} {hp hp1 : jH} {F L MC MS : Nat} {D : va_G} {l : Launch} {y' : MethodName} {bytes : ByteArray} {maxL ix nA : Nat} {ret : Option FieldType} {rm : Room} {As S : List Value} {b : Nat} {r : Option Value}
/-- invokevirtual of a method with handlers -/
theorem J.callVW {C : String} {T : u_T} {N : Nat} {hh : List (Nat × Nat × Nat × Nat)} (ci : Nat) (hDl : jDl X D l) (hRm : jRoom X F L MC MS) (hM : jM D l y' (wsW_ y' bytes maxL ret hh) rm hp (.ref b :: As) r hp1) (hT : GoodIn lw_all (wsV y.cls ix C y' (wsW_ y' bytes maxL ret hh))) (hd9 : y'.cls = C ∧ y'.cls ≠ "java/lang/invoke/MethodHandle" ∧ y'.cls ≠ "java/lang/invoke/VarHandle" ∧ (parseMethodDescriptor y'.desc).map (fun d => d.parameters.length) = some nA) (hc : jcl[ci]? = some (C, T, N)) (hb0 : ∃ u, jis hp b ci = some u) (hnA : As.length = nA) (hfr : rm.frames + 1 ≤ F) (hlo : 8 + (maxL + 11) + rm.locals ≤ L) {k2 n2 : Nat} (hk2 : k + rm.cells ≤ k2) (hn2 : n + rm.slots ≤ n2) (hce : k2 ≤ MC) (hsl : n2 ≤ MS) (hW : (st.map fun v => v.category).sum ≤ 8) (hS0 : S = As.reverse ++ .ref b :: st) (hd : decode cc pc = .ok (.invokevirtual ix, 3)) (kk : J X cc nL y k2 n2 (pc + 3) lv (r.toList ++ st) hp1) : J X cc nL y k n pc lv S hp := by
  obtain ⟨p, l', e, R, s, m, args, below, meth, c, Q, D', ad0, hp0⟩ := X
  intro hx hb hml hown hmn hts hG hZ ad H locs ls hR hL hS
  obtain ⟨rfl, rfl⟩ : l' = l ∧ D' = D := hDl
  have hRm : F ≤ R.frames ∧ L ≤ R.locals ∧ MC ≤ R.cells ∧ MS ≤ R.slots := hRm
  subst hS0
  obtain ⟨u, hu⟩ := hb0
  obtain ⟨fs, h1⟩ := jis_spec hu
  obtain ⟨⟨q, hq, cell, q1, q2, q3, -⟩, -⟩ := hR.1 b _ h1
  have hSt : jS hp st := fun w hw => hS w (List.mem_append_right _ (List.mem_cons_of_mem _ hw))
  have hSA : jS hp (.ref b :: As) := by
    intro w hw
    rcases List.mem_cons.mp hw with h | h
    · exact hS w (by rw [h]; exact List.mem_append_right _ List.mem_cons_self)
    · exact hS w (List.mem_append_left _ (List.mem_reverse.mpr h))
  refine jcall (jrunVW (C := C) (As := As.map (jv ad)) (rest := st.map (jv ad)) (b := ad b) ⟨hx, hb, hml, hown, hts⟩ (hM ad H.size) hT rfl rfl rfl hd9 ⟨Nat.le_trans hfr hRm.1, Nat.le_trans hlo hRm.2.1⟩ ⟨jPc.blind, ⟨cell, q1, by rw [q3]; rfl, by rw [q2]; exact (hG.1.1 ci _ hc).2.1⟩, jPc.at hR hG hZ hSA⟩ rfl (by rw [List.length_map]; exact hnA) hL.1 ?_ (jroomW hW) hd ⟨Nat.le_trans hk2 (Nat.le_trans hce hRm.2.2.1), Nat.le_trans hn2 (Nat.le_trans hsl hRm.2.2.2)⟩) hR hL hSt (fun ad' H1 locs1 hR' hL' hS' => W.widen hk2 hn2 <| kk hx hb hml hown hmn hts hG hZ ad' H1 locs1 ls hR' hL' hS')
  show (As.reverse ++ .ref b :: st).map (jv ad) = _
  simp [jv]
/-- invokestatic of a method that throws, caught here: the handler lays the exception away -/
theorem J.callSC {hh : List (Nat × Nat × Nat × Nat)} {cls : String} {h z : Nat} {lv' : List (Option Value)} (hDl : jDl X D l) (hRm : jRoom X F L MC MS) (hTab : jTab X hh) (hM : jMT D l y' (ws_ y' bytes maxL ret) rm hp As cls hp1) (hT : GoodIn lw_all (va_wsS y.cls ix y' (ws_ y' bytes maxL ret))) (hd9 : y'.cls ≠ "java/lang/invoke/MethodHandle" ∧ y'.cls ≠ "java/lang/invoke/VarHandle" ∧ (parseMethodDescriptor y'.desc).map (fun d => d.parameters.length) = some nA) (hnA : As.length = nA) (hfr : rm.frames + 1 ≤ F) (hlo : 8 + (maxL + 11) + rm.locals ≤ L) {k2 n2 : Nat} (hk2 : k + rm.cells ≤ k2) (hn2 : n + rm.slots ≤ n2) (hce : k2 ≤ MC) (hsl : n2 ≤ MS) (hps : jPs y.cls cls pc hh h) (hW : (st.map fun v => v.category).sum ≤ 8) (hS0 : S = As.reverse ++ st) (hd : decode cc pc = .ok (.invokestatic ix, 3)) (hd2 : decode cc h = .ok (.astore z, 2)) (hz : z < nL) (hl : jkl lv z = lv') (kk : J X cc nL y k2 n2 (h + 2) lv' [] hp1) : J X cc nL y k n pc lv S hp := by
  obtain ⟨p, l', e, R, s, m, args, below, meth, c, Q, D', ad0, hp0⟩ := X
  intro hx hb hml hown hmn hts hG hZ ad H locs ls hR hL hS
  obtain ⟨rfl, rfl⟩ : l' = l ∧ D' = D := hDl
  have hRm : F ≤ R.frames ∧ L ≤ R.locals ∧ MC ≤ R.cells ∧ MS ≤ R.slots := hRm
  have hTab : jNT l' ∧ c.exceptionTable.toList.map (fun x => (x.startPc, x.endPc, x.handlerPc, x.catchType)) = hh := hTab
  subst hS0
  subst hl
  have hSt : jS hp st := fun w hw => hS w (List.mem_append_right _ hw)
  have hSA : jS hp As := fun w h => hS w (List.mem_append_left _ (List.mem_reverse.mpr h))
  obtain ⟨⟨-, -, hfr', hlo', hws, hcw, hcode, hini, hy, hlen, hlink⟩, hstt⟩ := va_cwS (R := R) nA hts hT rfl rfl rfl hd9 ⟨Nat.le_trans hfr hRm.1, Nat.le_trans hlo hRm.2.1⟩
  intro T hT X
  subst hT
  obtain ⟨mk, hnamed⟩ := Cond.code_named hcode
  obtain ⟨methM, cM, hmethM, hcM, -, hlM, -, -, -, hsigM⟩ := Cond.code_spec hnamed hcode
  have hstatic : methM.isStatic = true := Cond.static_spec hnamed hmethM hstt
  obtain ⟨kP, hkP, -⟩ := className_of_methodNamed hnamed
  have hinitP : kP.init = .initialized := Cond.initialized_spec (findClass_of_methodNamed hnamed) hkP hini
  obtain ⟨vm₁, X₁, hstep₁⟩ := X.invokestatic hx hown hlink hnamed hmethM hstatic hkP hinitP hy (g := F0 m pc ls ((As.reverse ++ st).map (jv ad))) rfl (argsL := As.map (jv ad)) (rest := st.map (jv ad)) (by rw [List.length_map, hnA]; exact hlen _ hsigM) (by show (As.reverse ++ st).map (jv ad) = _; simp) (by rw [hb]; exact hd)
  have hdc : decode c.code pc = .ok (.invokestatic ix, 3) := by rw [hb]; exact hd
  have hAt : At (T.setVm vm₁) m c below := X₁.here
  have hnU := X₁.named hnamed
  obtain ⟨kY, hkY, -⟩ := className_of_methodNamed hnU
  have hini' : (Cond.initialized y'.cls).before (As.map (jv ad)).toArray (T.setVm vm₁) = true := word_at X₁.warmed (Or.inl (by first | rfl | simp [Cond.onTables, Cond.keeps, Cond.steady])) hini
  have hinitY : kY.init = .initialized := Cond.initialized_spec (findClass_of_methodNamed hnU) hkY hini'
  have hmU : (T.setVm vm₁).vm.method? mk = some methM := by rw [X₁.warmed.alike.method?]; exact hmethM
  have happ : (headSpec (ws_ y' bytes maxL ret) rm).appliesLoose y' e.platform ((T.setVm vm₁).calling (F0 m pc ls (st.map (jv ad))) mk (As.map (jv ad)).toArray) = true :=
    Spec.appliesLoose_calling (g := F0 m pc ls (st.map (jv ad))) hAt hdc hnU hkY hinitY
      (X₁.room_calling (g := F0 m pc ls (st.map (jv ad))) (R' := rm) (by show ls.size = _; rw [hml]; exact hL.1) hmU hcM hfr' (by
        have := jroomW (ad := ad) (m := m) (pc := pc) (ls := ls) (rest := st.map (jv ad)) hW
        rw [hlM]
        show 2 * (F0 m pc ls (st.map (jv ad))).monitorRoom + ((st.map (jv ad)).map fun v => v.category).sum + (maxL + 11) + rm.locals ≤ _
        omega) (Nat.le_trans hk2 (Nat.le_trans hce hRm.2.2.1)) (Nat.le_trans hn2 (Nat.le_trans hsl hRm.2.2.2))) (atoms_intro fun w hw => hws w hw _ _ X₁.warmed)
  obtain ⟨mid, hmid⟩ := hAt.above
  have hfr2 : ((T.setVm vm₁).setTop (F0 m pc ls (st.map (jv ad)))).frames = (.java (F0 m pc ls (st.map (jv ad))) :: mid) ++ below := by rw [State.frames_setTop' _ hAt.top, hmid]; rfl
  obtain ⟨o, s₂, hsteps, -, hend, ⟨ad', x, cell, rfl, hx1, hx2, hx3, hC, hI, hF, hWr, hE, h9⟩, L', ⟨hW₂, e2, q2, q3, q4, q5, q6⟩, hL'⟩ := Steps.callFree (hM ad T.heap.size) p X₁.admits X₁.cas X₁.clock (acts := []) hfr2 happ (jPc.blind _ _ (F0 m pc ls (st.map (jv ad))) mk (jPc.at hR hG hZ hSA (T.setVm vm₁) rfl X₁.warmed)) trivial
  obtain ⟨g₀, hg0⟩ := Option.isSome_iff_exists.mp hAt.top
  obtain ⟨rr, hr⟩ := State.topJava?_eq_some.mp hg0
  have hend : s₂.frames = .throwing x :: ((T.setVm vm₁).setTop (F0 m pc ls (st.map (jv ad)))).frames := hend
  rw [State.frames_setTop _ hr] at hend
  have e3 : s₂ = ({ ((T.setVm vm₁).calling (F0 m pc ls (st.map (jv ad))) mk (As.map (jv ad)).toArray).setFrames s₂.frames with heap := s₂.heap, slotsUsed := s₂.slotsUsed } : State).setVm s₂.vm := by
    have : s₂ = ({ s₂ with vm := ((T.setVm vm₁).calling (F0 m pc ls (st.map (jv ad))) mk (As.map (jv ad)).toArray).vm } : State).setVm s₂.vm := rfl
    have e2' : ({ s₂ with vm := ((T.setVm vm₁).calling (F0 m pc ls (st.map (jv ad))) mk (As.map (jv ad)).toArray).vm } : State) = ({ ((T.setVm vm₁).calling (F0 m pc ls (st.map (jv ad))) mk (As.map (jv ad)).toArray).setFrames s₂.frames with heap := s₂.heap, slotsUsed := s₂.slotsUsed } : State) := e2
    exact this.trans (congrArg (fun z => State.setVm z s₂.vm) e2')
  have hW' : (T.setVm vm₁).WarmedH s₂.vm := hW₂
  have hs₂ : s₂ = ((({ (T.setVm vm₁) with heap := s₂.heap, slotsUsed := s₂.slotsUsed } : State).setVm s₂.vm).setTop (F0 m pc ls (st.map (jv ad)))).pushFrame (.throwing x) := by
    have hr' : (({ (T.setVm vm₁) with heap := s₂.heap, slotsUsed := s₂.slotsUsed } : State).setVm s₂.vm).frames = .java g₀ :: rr := hr
    refine e3.trans ?_
    rw [hend, State.calling_eq hAt.top, State.setFrames_setFrames, State.pushFrame, State.frames_setTop _ hr', State.setTop_of_frames _ hr', State.setFrames_setFrames]
    rfl
  have hsame : (T.setVm vm₁).sameButNew ({ (T.setVm vm₁) with heap := s₂.heap, slotsUsed := s₂.slotsUsed } : State) L' rm.cells rm.slots := by
    refine ⟨?_, q2, q3, q4, q5, q6⟩
    obtain ⟨t, ht, -⟩ := State.frames_cons hr
    show ({ (T.setVm vm₁) with heap := s₂.heap, slotsUsed := s₂.slotsUsed } : State) = { (T.setVm vm₁).setFrames (T.setVm vm₁).frames with heap := s₂.heap, slotsUsed := s₂.slotsUsed }
    rw [State.setFrames_self ht]
  have X' : Stand p l' e R s m args below meth c (({ (T.setVm vm₁) with heap := s₂.heap, slotsUsed := s₂.slotsUsed } : State).setVm s₂.vm) (locs ++ L') (k + rm.cells) (n + rm.slots) := ⟨X₁.admits, X₁.cas, X₁.clock, X₁.frames, X₁.room, X₁.hears, X₁.method, X₁.code, (X₁.here.setHeapUsed s₂.heap s₂.slotsUsed).setVm hW'.alike, X₁.tail, State.WarmedH.trans X₁.warmed hW', X₁.limits, X₁.bytes, X₁.same.trans (hsame.setVm s.vm)⟩
  have hvm : s.vm.Alike s₂.vm := (State.WarmedH.trans X₁.warmed hW').alike
  have hF' : T.heap.size ≤ s₂.heap.size ∧ ∀ q : Nat, q < T.heap.size → ¬ jF ad hp T.heap.size q → s₂.heap[q]? = T.heap[q]? := hF
  have hsub := jF_sub hR
  have hSS := hR.2.2.1
  have hR' : jR D' s ad0 hp0 ad' hp1 s₂.heap (locs ++ L') := by
    refine ⟨hC.moved hvm.symm, hI, ⟨Nat.le_trans hSS.1 hF'.1, fun q h1 h2 => ?_, fun q hq => ?_⟩, fun i hi h => hsub _ (hWr i hi h), fun i hi => ⟨?_, (hE i (hR.2.2.2.2.1 i hi).2).2⟩, fun i hi h => hR.2.2.2.2.2 i hi (h9 i hi h)⟩
    · rw [hF'.2 q (Nat.lt_of_lt_of_le h1 hSS.1) (fun z => h2 (hsub q z))]
      exact hSS.2.1 q h1 h2
    · rcases List.mem_append.mp hq with h | h
      · exact hSS.2.2 q h
      · exact hsub _ (hL' q h)
    · rw [(hE i (hR.2.2.2.2.1 i hi).2).1]
      exact (hR.2.2.2.2.1 i hi).1
  have hx2' : s.vm.findClass cls = some cell.cls := by
    have : (T.setVm vm₁).vm.findClass cls = some cell.cls := hx2
    rw [X₁.warmed.alike.findClass] at this
    exact this
  obtain ⟨k1, hk1, -⟩ := Vm.findClass_spec hx2'
  obtain ⟨vm', X'', hst3⟩ := jCaught X' hown hx1 (by rw [hx3]; intro k h; cases h) hk1 (g := F0 m pc ls (st.map (jv ad))) rfl (h := h) (jPs_pass hts hG hx2' _ (by rw [hTab.2]; exact hps))
  have hL1 : jL hp1 ad' ls nL lv := hL.move hE
  obtain ⟨t, a1, b1⟩ := lv_astore (H := s₂.heap) (rest := []) (Q := Q) hx hb hd2 hL1.has hz rfl (fun ls' h' => W.widen hk2 hn2 <| kk hx hb hml hown hmn hts hG hZ ad' s₂.heap (locs ++ L') ls' hR' (hL1.kl h') jS.nil) ((({ (T.setVm vm₁) with heap := s₂.heap, slotsUsed := s₂.slotsUsed } : State).setVm s₂.vm).setVm vm') rfl X''
  refine ⟨t, hstep₁ _ fun acts => ?_, b1⟩
  rw [doInvoke_state]
  refine Steps.trans ?_ (hst3 t a1)
  rw [← hs₂]
  exact hsteps
end JC
