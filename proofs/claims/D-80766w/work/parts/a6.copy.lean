/-! System.arraycopy over rows: where it copies, and where it throws -/
set_option maxRecDepth 100000
theorem jint_print {x : Int} (h1 : -10000000000 < x) (h2 : x < 10000000000) : (toString x).toList.length ≤ 11 := by
  show (Int.repr x).toList.length ≤ 11
  cases h : x with
  | ofNat m =>
    rw [h] at h2
    have h2' : (m : Int) < 10000000000 := h2
    have := nat_print (n := m) (by omega)
    show (toString m).toList.length ≤ 11
    omega
  | negSucc m =>
    rw [h] at h1
    have h1' : -(10000000000 : Int) < -((m : Int) + 1) := by simpa [Int.negSucc_eq] using h1
    have := nat_print (n := m.succ) (by omega)
    show ("-" ++ toString m.succ).toList.length ≤ 11
    rw [String.toList_append, List.length_append]
    have h0 : "-".toList.length = 1 := by decide
    omega
theorem jtx_ok {what : String} (h : what.toList.length ≤ 120) : (("arraycopy: " ++ what) == notModelled) = false ∧ (stringBytes (stringToUtf16 ("arraycopy: " ++ what))).size ≤ 600 := by
  constructor
  · rw [beq_eq_false_iff_ne]
    intro h
    have h2 := congrArg String.toList h
    have h3 : ("arraycopy: " ++ what).toList = 'a' :: ("rraycopy: ".toList ++ what.toList) := by
      simp only [String.toList_append]
      rfl
    have h4 : notModelled.toList = '\u0000' :: " a message that is not modelled".toList := by decide
    rw [h3, h4] at h2
    simp at h2
  · have b1 := stringBytes_size_le (stringToUtf16 ("arraycopy: " ++ what))
    have b2 := utf16_size_le ("arraycopy: " ++ what)
    have b3 : ("arraycopy: " ++ what).toList.length = 11 + what.toList.length := by
      rw [String.toList_append, List.length_append]
      rfl
    omega
theorem jkind_len {ty : FieldType} (h : jt3 ty) : (Native.java_lang_System.arraycopy.kindName ty).toList.length ≤ 5 := by
  rcases h with rfl | rfl | rfl <;> decide
section CW
variable {E : CtlPost} {e : Env} {d : Bool} {acts : List Action} {s : State}
theorem jcopyNull {va vb : Value} {srcPos destPos len : Int32} {Q : Option Value → Pre} (hva : va = .null ∨ ∃ x, va = .ref x) (hvb : vb = .null ∨ ∃ x, vb = .ref x) (hn : va = .null ∨ vb = .null)
    (hE : ∀ acts' : List Action, E (.throwNew "java/lang/NullPointerException" none) acts' s) : wp (Native.java_lang_System.arraycopy.sem #[va, .int srcPos, vb, .int destPos, .int len]) Q E e d acts s := by
  rcases hva with rfl | ⟨x, rfl⟩
  · rcases hvb with rfl | ⟨x, rfl⟩
    · simp only [Native.java_lang_System.arraycopy.sem, wp_bind', W.mark, W.throwNew]
      exact hE _
    · simp only [Native.java_lang_System.arraycopy.sem, wp_bind', W.mark, W.throwNew]
      exact hE _
  · rcases hvb with rfl | ⟨x, rfl⟩
    · simp only [Native.java_lang_System.arraycopy.sem, wp_bind', W.mark, W.throwNew]
      exact hE _
    · rcases hn with h | h <;> cases h
theorem jcopyOut {src dst : Addr} {srcPos destPos len : Int32} {cs cd : Cell} {ks kd : Class} {sComp dComp : ClassId} {sType dType : FieldType} {Q : Option Value → Pre}
    (hs : s.heap[src]? = some cs) (hd : s.heap[dst]? = some cd) (hsobj : ∀ k, cs.vm ≠ .statics k) (hdobj : ∀ k, cd.vm ≠ .statics k)
    (hks : s.vm.classes[cs.cls]? = some ks) (hkd : s.vm.classes[cd.cls]? = some kd) (hsk : ks.kind = .array sComp sType) (hdk : kd.kind = .array dComp dType)
    (hty : ((refKind sType != refKind dType) || (!refKind sType && sType != dType)) = false) (h3s : jt3 sType) (h3d : jt3 dType) (hl1 : cs.slots.size < 2 ^ 31) (hl2 : cd.slots.size < 2 ^ 31)
    (hout : srcPos < 0 ∨ destPos < 0 ∨ len < 0 ∨ srcPos.toInt + len.toInt > cs.slots.size ∨ destPos.toInt + len.toInt > cd.slots.size)
    (hE : ∀ (what : String) (acts' : List Action), what.toList.length ≤ 120 → E (.throwNew "java/lang/ArrayIndexOutOfBoundsException" (some ("arraycopy: " ++ what))) acts' s) :
    wp (Native.java_lang_System.arraycopy.sem #[.ref src, .int srcPos, .ref dst, .int destPos, .int len]) Q E e d acts s := by
  have a1 := int32_print srcPos
  have a2 := int32_print destPos
  have a3 := int32_print len
  have b1 := srcPos.toInt_lt
  have b2 := srcPos.le_toInt
  have b3 := destPos.toInt_lt
  have b4 := destPos.le_toInt
  have b5 := len.toInt_lt
  have b6 := len.le_toInt
  have a4 := jint_print (x := srcPos.toInt + len.toInt) (by omega) (by omega)
  have a5 := jint_print (x := destPos.toInt + len.toInt) (by omega) (by omega)
  have c1 := jkind_len h3s
  have c2 := jkind_len h3d
  have c3 := nat_print (n := cs.slots.size) (by omega)
  have c4 := nat_print (n := cd.slots.size) (by omega)
  rw [Native.java_lang_System.arraycopy.sem_refs]
  unfold Native.java_lang_System.arraycopy.behind
  simp only [wp_bind', W.classOf, W.theClass, hs, hd, hks, hkd, Option.some.injEq, exists_eq_left', hsk, hdk]
  refine ⟨hsobj, hdobj, ?_⟩
  unfold refKind at hty
  simp only [hty, Bool.false_eq_true, if_false]
  simp only [wp_bind', W.sizeOf, hs, hd, Option.some.injEq, exists_eq_left']
  have d1 : (toString "source index ").toList.length = 13 := by decide
  have d2 : (toString " out of bounds for ").toList.length = 19 := by decide
  have d3 : (toString "destination index ").toList.length = 18 := by decide
  have d4 : (toString "length ").toList.length = 7 := by decide
  have d5 : (toString " is negative").toList.length = 12 := by decide
  have d6 : (toString "last source index ").toList.length = 18 := by decide
  have d7 : (toString "last destination index ").toList.length = 23 := by decide
  have d8 : (toString "[").toList.length = 1 := by decide
  have d9 : (toString "]").toList.length = 1 := by decide
  have q1 : (toString (toString (Native.java_lang_System.arraycopy.kindName sType) ++ toString "[" ++ toString cs.slots.size ++ toString "]")).toList.length ≤ 17 := by
    show (Native.java_lang_System.arraycopy.kindName sType ++ toString "[" ++ toString cs.slots.size ++ toString "]").toList.length ≤ 17
    simp only [String.toList_append, List.length_append]
    omega
  have q2 : (toString (toString (Native.java_lang_System.arraycopy.kindName dType) ++ toString "[" ++ toString cd.slots.size ++ toString "]")).toList.length ≤ 17 := by
    show (Native.java_lang_System.arraycopy.kindName dType ++ toString "[" ++ toString cd.slots.size ++ toString "]").toList.length ≤ 17
    simp only [String.toList_append, List.length_append]
    omega
  by_cases h1 : srcPos < 0
  · simp only [h1, if_true, wp_bind', W.mark, W.throwNew]
    refine hE _ _ ?_
    rw [String.toList_append, String.toList_append, String.toList_append, List.length_append, List.length_append, List.length_append]
    omega
  by_cases h2 : destPos < 0
  · simp only [h1, h2, if_true, if_false, wp_bind', W.mark, W.throwNew]
    refine hE _ _ ?_
    rw [String.toList_append, String.toList_append, String.toList_append, List.length_append, List.length_append, List.length_append]
    omega
  by_cases h3 : len < 0
  · simp only [h1, h2, h3, if_true, if_false, wp_bind', W.mark, W.throwNew]
    refine hE _ _ ?_
    rw [String.toList_append, String.toList_append, List.length_append, List.length_append]
    omega
  by_cases h4 : srcPos.toInt + len.toInt > cs.slots.size
  · simp only [h1, h2, h3, h4, if_true, if_false, wp_bind', W.mark, W.throwNew]
    refine hE _ _ ?_
    rw [String.toList_append, String.toList_append, String.toList_append, List.length_append, List.length_append, List.length_append]
    omega
  have h5 : destPos.toInt + len.toInt > cd.slots.size := by
    rcases hout with h | h | h | h | h
    · exact absurd h h1
    · exact absurd h h2
    · exact absurd h h3
    · exact absurd h h4
    · exact h
  simp only [h1, h2, h3, h4, h5, if_true, if_false, wp_bind', W.mark, W.throwNew]
  refine hE _ _ ?_
  rw [String.toList_append, String.toList_append, String.toList_append, List.length_append, List.length_append, List.length_append]
  omega
end CW
/-- a native that throws -/
theorem jNatThrow {tb : Tables} {e : Env} {below : List Frame} {s : State} {g : JFrame} {c : Code} (h : At s g.method c below)
    {m : MethodId} {meth : Method} {k : Class} {row : NativeRow} {args : Array Value}
    (hk : s.vm.classes[m.cls]? = some k) (hx : k.methods[m.idx]? = some meth) (hboot : k.loader = none)
    (hnat : meth.isNative = true) (hc : meth.code = none) (hl : meth.locks = false)
    (hrow : NativeRow.find? tb.natives k.name meth.name meth.desc = some row)
    (hroom : e.platform.stackFull (((s.setTop g).threads[(s.setTop g).cur]?).getD { frames := [] }) (s.setTop g).frames (nativeFrameWords k.name meth.name (operandWords args.toList)) = false)
    {cls : String} {P : Option String → Prop}
    (hw : wpRun (row.sem (seenByNative meth args)) (fun _ _ _ => False) (fun c' s' _ => ∃ msg, c' = .throwNew cls msg ∧ P msg ∧ s' = (s.setTop g).pushFrame (.native { method := m, args := seenByNative meth args, locked := none })) e
      ((s.setTop g).pushFrame (.native { method := m, args := seenByNative meth args, locked := none }))) :
    ∃ msg, P msg ∧ ∀ (acts : List Action) (target : State), Steps tb e below (((s.setTop g).pushFrame (.native { method := m, args := seenByNative meth args, locked := none })).pushFrame (.throwNew cls msg none)) target → Steps tb e below (doInvoke e (s.setTop g) acts m args).1 target := by
  have hm : (s.setTop g).vm.method? m = some meth := by
    show s.vm.method? m = some meth
    simp [Vm.method?, hk, hx]
  have hroom' : e.platform.stackFull (((s.setTop g).threads[(s.setTop g).cur]?).getD { frames := [] }) (s.setTop g).frames
      (nativeFrameWords ((((s.setTop g).vm.classes[m.cls]?).map (·.name)).getD "") meth.name (operandWords args.toList)) = false := by
    have : (((s.setTop g).vm.classes[m.cls]?).map (·.name)).getD "" = k.name := by
      show ((s.vm.classes[m.cls]?).map (·.name)).getD "" = k.name
      simp [hk]
    rw [this]; exact hroom
  have hfe := frames_entered (g := g) h.top (.native { method := m, args := seenByNative meth args, locked := none })
  obtain ⟨mid, hmid⟩ := h.above
  have hw := (wpRun_iff_run _ _ _ _ _).mp hw
  cases hr : (row.sem (seenByNative meth args)).run e ((s.setTop g).pushFrame (.native { method := m, args := seenByNative meth args, locked := none })) with
  | ok v s₁ acts₁ => rw [hr] at hw; exact hw.elim
  | ctl x s₁ acts₁ =>
    rw [hr] at hw
    obtain ⟨msg, rfl, hP, rfl⟩ := hw
    refine ⟨msg, hP, fun acts target hrest => ?_⟩
    rw [(Fast.doInvoke_native (s := s.setTop g) (e := e) (acts := acts) (args := args) hm hnat hc hl hroom').1]
    refine Steps.head ⟨h.running, by simpa using h.runnable, by simpa using h.alone⟩
      ⟨.native { method := m, args := seenByNative meth args, locked := none } :: .java g :: mid, by rw [hfe, hmid]; rfl, by simp, by simp⟩ ?_
    rw [stepThread_native (f := { method := m, args := seenByNative meth args, locked := none }) (k := k) (x := meth) (row := row) hfe hk hx hboot hrow rfl]
    show Steps tb e below (afterNative e _ _ ((row.sem (seenByNative meth args)).run e _)).1 target
    rw [hr]
    exact hrest
section CS
variable {p : Program} {l : Launch} {e : Env} {R : Room} {s : State} {m : MethodId} {args : Array Value} {below : List Frame} {meth : Method} {c : Code} {locs : List Loc} {cells slots : Nat}
theorem jCopyT {T : State} (X : Stand p l e R s m args below meth c T locs cells slots) (hexec : p.tables.exec = Jvm.exec) {own : String} {index : Nat} (hown : s.vm.findClass own = some m.cls)
    (hlink : (Cond.methodLink own index arraycopyName).before args s = true) (hnat : (Cond.native arraycopyName).before args s = true) (hstat : (Cond.static arraycopyName).before args s = true)
    (hinit : (Cond.initialized "java/lang/System").before args s = true) {va vb : Value} {sp dp len : Int32} (hva : va = .null ∨ ∃ x, va = .ref x) (hvb : vb = .null ∨ ∃ x, vb = .ref x)
    {g : JFrame} (hg : g.method = m) (hsize : g.locals.size = c.maxLocals) {rest : List Value} (hstack : g.stack = .int len :: .int dp :: vb :: .int sp :: va :: rest)
    (hdg : decode c.code g.pc = .ok (.invokestatic index, 3)) (hframes : 1 ≤ R.frames) (hlocals : 2 * g.monitorRoom + (rest.map fun v => v.category).sum + (nativeFrameWords "java/lang/System" "arraycopy" 5 + 11) ≤ R.locals)
    {cls : String} {P : Option String → Prop}
    (hw : ∀ (vm' : Vm) (F : List Frame), s.vm.Alike vm' → wp (Native.java_lang_System.arraycopy.sem #[va, .int sp, vb, .int dp, .int len]) (fun _ _ _ _ => False) (fun c' _ s' => ∃ msg, c' = .throwNew cls msg ∧ P msg ∧ s' = (T.setVm vm').setFrames F) e false [] ((T.setVm vm').setFrames F)) :
    ∃ (vm' : Vm) (nf : NFrame) (msg : Option String), nf.words = 0 ∧ nf.awaiting = false ∧ nf.locked = none ∧ P msg ∧ Stand p l e R s m args below meth c (T.setVm vm') locs cells slots ∧
      ∀ target, Steps p.tables e below ((T.setVm vm').setFrames (.throwNew cls msg none :: .native nf :: .java { g with stack := rest } :: below)) target → Steps p.tables e below (T.setTop g) target := by
  obtain ⟨r, kS, methS, hnS, hmS, hkS, N⟩ := NativeOf.of_static hnat hstat (ps := [.object "java/lang/Object", .int, .object "java/lang/Object", .int, .int]) (ret := none) (by decide +kernel)
  have hinitS : kS.init = .initialized := Cond.initialized_spec (findClass_of_methodNamed hnS) hkS hinit
  obtain ⟨vm', X', step⟩ := X.invokestatic hexec hown hlink hnS hmS N.static hkS hinitS (by decide) hg (argsL := [va, .int sp, vb, .int dp, .int len]) (rest := rest) (by rw [N.sig]; rfl) hstack hdg
  subst hg
  obtain ⟨kS', N'⟩ := N.alike X'.warmed.alike
  obtain ⟨g₁, hfr⟩ := X'.frames_eq
  have hU : ∀ nf : NFrame, ((T.setVm vm').setTop { g with stack := rest }).pushFrame (.native nf) = (T.setVm vm').setFrames (.native nf :: .java { g with stack := rest } :: below) := fun nf => by
    rw [State.pushFrame, State.frames_setTop _ hfr, State.setTop_of_frames _ hfr, State.setFrames_setFrames]
  have hseen : seenByNative methS #[va, .int sp, vb, .int dp, .int len] = #[va, .int sp, vb, .int dp, .int len] := by
    rcases hva with rfl | ⟨x, rfl⟩ <;> rcases hvb with rfl | ⟨x', rfl⟩ <;> simp [seenByNative, N'.static, N'.sig, narrow]
  have how : operandWords [va, .int sp, vb, .int dp, .int len] = 5 := by
    rcases hva with rfl | ⟨x, rfl⟩ <;> rcases hvb with rfl | ⟨x', rfl⟩ <;> rfl
  obtain ⟨msg, hP, hst⟩ := jNatThrow (tb := p.tables) (e := e) (g := { g with stack := rest }) (row := arraycopyRow) (args := #[va, .int sp, vb, .int dp, .int len]) (cls := cls) (P := P) X'.here N'.cls N'.meth N'.boot N'.native N'.noCode N'.noLock
    (by rw [N'.className, N'.name, N'.desc]; exact arraycopy_row p) (by
      rw [N'.className, N'.name]
      show e.platform.stackFull _ _ (nativeFrameWords "java/lang/System" "arraycopy" (operandWords [va, .int sp, vb, .int dp, .int len])) = false
      rw [how]
      exact X'.notFull (g := { g with stack := rest }) hsize (vars := nativeFrameWords "java/lang/System" "arraycopy" 5) hframes hlocals) (by
      rw [hseen, hU, arraycopyRow_sem]
      exact hw vm' _ X'.warmed.alike)
  refine ⟨vm', _, msg, rfl, rfl, rfl, hP, X', fun target hrest => step target fun acts => ?_⟩
  refine hst acts target ?_
  rw [State.pushFrame, hU, State.frames_setFrames _ (State.cur_lt_of_frames hfr), State.setFrames_setFrames]
  exact hrest
end CS
section JC
variable {X : jX} {cc : ByteArray} {nL : Nat} {y : MethodName} {k n pc : Nat} {lv : List (Option Value)} {st : List Value} {hp : jH} {F L MC MS : Nat}
/-- out of the arrays; caught here -/
theorem J.copyI {a b n1 n2 ix h z : Nat} {f1 f2 : Nat → Int32} {ty : FieldType} {sp dp len : Int32} {hh : List (Nat × Nat × Nat × Nat)} {lv' : List (Option Value)} {k2 m2 : Nat} (hRm : jRoom X F L MC MS) (hTab : jTab X hh) (hlk : Cond.methodLink y.cls ix arraycopyName ∈ lw_all) (hnat : Cond.native arraycopyName ∈ lw_all) (hsta : Cond.static arraycopyName ∈ lw_all) (hini : Cond.initialized "java/lang/System" ∈ lw_all)
    (ha : hp a = some (.inl (ty, n1, .inl f1))) (hb9 : hp b = some (.inl (ty, n2, .inl f2))) (h3 : jt3 ty) (hl1 : n1 < 2 ^ 31) (hl2 : n2 < 2 ^ 31) (hout : sp < 0 ∨ dp < 0 ∨ len < 0 ∨ sp.toInt + len.toInt > (n1 : Int) ∨ dp.toInt + len.toInt > (n2 : Int))
    (hps : jPs y.cls Bundle.idxN pc hh h) (hF : 8 < F) (hLo : (st.map (fun v => v.category)).sum + 10240 ≤ L) (hk2 : k + 3 ≤ k2) (hm2 : n + 610 ≤ m2) (hkM : k2 ≤ MC) (hnM : m2 ≤ MS) (hd : decode cc pc = .ok (.invokestatic ix, 3)) (hd2 : decode cc h = .ok (.astore z, 2)) (hz : z < nL) (hl : jkl lv z = lv')
    (kk : J X cc nL y k2 m2 (h + 2) lv' [] hp) : J X cc nL y k n pc lv (.int len :: .int dp :: .ref b :: .int sp :: .ref a :: st) hp := by
  obtain ⟨p, l, e, R, s, m, args, below, meth, c, Q, D, ad0, hp0⟩ := X
  intro hx hb hml hown hmn hts hG hZ ad H locs ls hR hL hS
  have hRm : F ≤ R.frames ∧ L ≤ R.locals ∧ MC ≤ R.cells ∧ MS ≤ R.slots := hRm
  have hTab : jNT l ∧ c.exceptionTable.toList.map (fun x => (x.startPc, x.endPc, x.handlerPc, x.catchType)) = hh := hTab
  subst hl
  intro T hT S
  subst hT
  have hcat : ((st.map (jv ad)).map fun v => v.category).sum = (st.map (fun v => v.category)).sum := by
    rw [List.map_map]
    congr 1
    exact List.map_congr_left (fun v _ => jv_cat ad v)
  obtain ⟨c1, ce1, hc1, hsl1, hcl1, -, -, ⟨hvm1, q1, hq1, cm1, hqq1⟩, -⟩ := (hR.1 a _ ha).1.arr
  obtain ⟨c2, ce2, hc2, hsl2, hcl2, -, -, ⟨hvm2, q2, hq2, cm2, hqq2⟩, -⟩ := (hR.1 b _ hb9).1.arr
  have hsz1 : ce1.slots.size = n1 := by rw [hsl1]; exact arrV_size _ _ _
  have hsz2 : ce2.slots.size = n2 := by rw [hsl2]; exact arrV_size _ _ _
  have hprim : refKind ty = false := by rcases h3 with rfl | rfl | rfl <;> rfl
  have h18 : nativeFrameWords "java/lang/System" "arraycopy" 5 + 11 ≤ 100 := by decide
  obtain ⟨vm', nf, msg, hnw, hna, hnl, ⟨what, rfl, hwl⟩, S', hst1⟩ := jCopyT (cls := Bundle.idxN) (P := fun msg => ∃ what : String, msg = some ("arraycopy: " ++ what) ∧ what.toList.length ≤ 120) S hx hown (hts _ hlk) (hts _ hnat) (hts _ hsta) (hts _ hini) (va := .ref (ad a)) (vb := .ref (ad b)) (sp := sp) (dp := dp) (len := len) (.inr ⟨_, rfl⟩) (.inr ⟨_, rfl⟩) (g := F0 m pc ls ((.int len :: .int dp :: .ref b :: .int sp :: .ref a :: st).map (jv ad))) rfl (by rw [hml]; exact hL.1) (rest := st.map (jv ad)) rfl (by rw [hb]; exact hd) (by omega) (by
      show 2 * 0 + _ + _ ≤ R.locals
      rw [hcat]
      omega)
    (fun vm' F' hal => by
      obtain ⟨r1, hr1, he1⟩ := hal.2.2 _ _ hq1
      obtain ⟨r2, hr2, he2⟩ := hal.2.2 _ _ hq2
      refine jcopyOut (cs := ce1) (cd := ce2) (sType := ty) (dType := ty) hc1 hc2 hvm1 hvm2 hr1 hr2 (by rw [he1]; exact hqq1) (by rw [he2]; exact hqq2) (by simp [hprim]) h3 h3 (by rw [hsz1]; exact hl1) (by rw [hsz2]; exact hl2) (by rw [hsz1, hsz2]; exact hout) (fun what acts' hw => ⟨_, rfl, ⟨what, rfl, hw⟩, rfl⟩))
  obtain ⟨t1, t2⟩ := jtx_ok hwl
  obtain ⟨W', X', hh1, ⟨ce, he1, he2, he3⟩, hst2⟩ := jMsgN S' hx (hTab.1 e S.admits) (cls := Bundle.idxN) (names := Bundle.idxUp) (text := "arraycopy: " ++ what) (by decide +kernel) (by decide +kernel) (by decide +kernel) (by decide +kernel) (jAtoms hts hG hZ atoms_idx) (jlocs S' hR) t1
    (by rw [Launch.admits_arrayLengthLimit S.admits]; omega) (by rw [Launch.admits_maxHeapBytes S.admits]; show ¬ _ * 1 > _; omega) (g := F0 m pc ls (st.map (jv ad))) rfl (by rw [hml]; exact hL.1) hnw (by show 3 + 5 < R.frames; omega) (by
      show 2 * 0 + _ + 10240 ≤ R.locals
      rw [hcat]
      omega) (by decide) (by omega) (by omega)
  obtain ⟨k1, hk1, -⟩ := Vm.findClass_spec he2
  obtain ⟨vm2, X'', hst3⟩ := jCaught X' hown he1 (by rw [he3]; intro k h; cases h) hk1 (g := F0 m pc ls (st.map (jv ad))) rfl (h := h) (jPs_pass hts hG he2 _ (by rw [hTab.2]; exact hps))
  have hR' : jR D s ad0 hp0 ad hp W'.heap locs := hR.grown (by have := (Array.getElem?_eq_some_iff.mp he1).1; exact Nat.le_of_lt (Nat.lt_of_le_of_lt (Nat.le_add_right _ 2) this)) hh1
  obtain ⟨t, a1, b1⟩ := lv_astore (H := W'.heap) (rest := []) (Q := Q) hx hb hd2 hL.has hz rfl (fun ls' h' => W.widen hk2 (by omega) <| kk hx hb hml hown hmn hts hG hZ ad W'.heap locs ls' hR' (hL.kl h') jS.nil) (W'.setVm vm2) rfl X''
  obtain ⟨g₁, hfr⟩ := X'.frames_eq
  refine ⟨t, hst1 t (hst2 t (jOvNat ⟨⟨X'.here.running, X'.here.runnable, X'.here.alone⟩, State.cur_lt_of_frames hfr, [.native nf, .java (F0 m pc ls (st.map (jv ad)))], rfl⟩ hna hnl ?_)), b1⟩
  have hU : (W'.setTop (F0 m pc ls (st.map (jv ad)))).pushFrame (.throwing ((T.setVm vm').heap.size + 2)) = W'.setFrames (.throwing ((T.setVm vm').heap.size + 2) :: .java (F0 m pc ls (st.map (jv ad))) :: below) := by
    rw [State.pushFrame, State.frames_setTop _ hfr, State.setTop_of_frames _ hfr, State.setFrames_setFrames]
  rw [← hU]
  exact hst3 t a1
/-- a null; caught here -/
theorem J.copyN {va vb : Value} {ix h z : Nat} {sp dp len : Int32} {hh : List (Nat × Nat × Nat × Nat)} {lv' : List (Option Value)} {k2 m2 : Nat} (hRm : jRoom X F L MC MS) (hTab : jTab X hh) (hlk : Cond.methodLink y.cls ix arraycopyName ∈ lw_all) (hnat : Cond.native arraycopyName ∈ lw_all) (hsta : Cond.static arraycopyName ∈ lw_all) (hini : Cond.initialized "java/lang/System" ∈ lw_all)
    (hva : va = .null ∨ ∃ x, va = .ref x) (hvb : vb = .null ∨ ∃ x, vb = .ref x) (hnn : va = .null ∨ vb = .null)
    (hps : jPs y.cls "java/lang/NullPointerException" pc hh h) (hF : 8 < F) (hLo : (st.map (fun v => v.category)).sum + 10240 ≤ L) (hk2 : k + 1 ≤ k2) (hm2 : n + 8 ≤ m2) (hkM : k2 ≤ MC) (hnM : m2 ≤ MS) (hd : decode cc pc = .ok (.invokestatic ix, 3)) (hd2 : decode cc h = .ok (.astore z, 2)) (hz : z < nL) (hl : jkl lv z = lv')
    (kk : J X cc nL y k2 m2 (h + 2) lv' [] hp) : J X cc nL y k n pc lv (.int len :: .int dp :: vb :: .int sp :: va :: st) hp := by
  obtain ⟨p, l, e, R, s, m, args, below, meth, c, Q, D, ad0, hp0⟩ := X
  intro hx hb hml hown hmn hts hG hZ ad H locs ls hR hL hS
  have hRm : F ≤ R.frames ∧ L ≤ R.locals ∧ MC ≤ R.cells ∧ MS ≤ R.slots := hRm
  have hTab : jNT l ∧ c.exceptionTable.toList.map (fun x => (x.startPc, x.endPc, x.handlerPc, x.catchType)) = hh := hTab
  subst hl
  intro T hT S
  subst hT
  have hcat : ((st.map (jv ad)).map fun v => v.category).sum = (st.map (fun v => v.category)).sum := by
    rw [List.map_map]
    congr 1
    exact List.map_congr_left (fun v _ => jv_cat ad v)
  have h18 : nativeFrameWords "java/lang/System" "arraycopy" 5 + 11 ≤ 100 := by decide
  have hva' : jv ad va = .null ∨ ∃ x, jv ad va = .ref x := by rcases hva with rfl | ⟨x, rfl⟩ <;> [exact .inl rfl; exact .inr ⟨_, rfl⟩]
  have hvb' : jv ad vb = .null ∨ ∃ x, jv ad vb = .ref x := by rcases hvb with rfl | ⟨x, rfl⟩ <;> [exact .inl rfl; exact .inr ⟨_, rfl⟩]
  have hnn' : jv ad va = .null ∨ jv ad vb = .null := by rcases hnn with rfl | rfl <;> [exact .inl rfl; exact .inr rfl]
  obtain ⟨vm', nf, msg, hnw, hna, hnl, rfl, S', hst1⟩ := jCopyT (cls := "java/lang/NullPointerException") (P := fun msg => msg = none) S hx hown (hts _ hlk) (hts _ hnat) (hts _ hsta) (hts _ hini) (va := jv ad va) (vb := jv ad vb) (sp := sp) (dp := dp) (len := len) hva' hvb' (g := F0 m pc ls ((.int len :: .int dp :: vb :: .int sp :: va :: st).map (jv ad))) rfl (by rw [hml]; exact hL.1) (rest := st.map (jv ad)) rfl (by rw [hb]; exact hd) (by omega) (by
      show 2 * 0 + _ + _ ≤ R.locals
      rw [hcat]
      omega)
    (fun vm' F' hal => jcopyNull hva' hvb' hnn' (fun acts' => ⟨_, rfl, rfl, rfl⟩))
  obtain ⟨W', X', hh1, ⟨ce, he1, he2, he3⟩, hst2⟩ := jNpeN S' hx (hTab.1 e S.admits) (n := 8) (jAtoms hts hG hZ atoms_npe) (jlocs S' hR) (g := F0 m pc ls (st.map (jv ad))) rfl (by rw [hml]; exact hL.1) hnw (by omega) (by
      show 2 * 0 + _ + 10240 ≤ R.locals
      rw [hcat]
      omega) (by omega) (by omega)
  obtain ⟨k1, hk1, -⟩ := Vm.findClass_spec he2
  obtain ⟨vm2, X'', hst3⟩ := jCaught X' hown he1 (by rw [he3]; intro k h; cases h) hk1 (g := F0 m pc ls (st.map (jv ad))) rfl (h := h) (jPs_pass hts hG he2 _ (by rw [hTab.2]; exact hps))
  have hR' : jR D s ad0 hp0 ad hp W'.heap locs := hR.grown (by have := (Array.getElem?_eq_some_iff.mp he1).1; exact Nat.le_of_lt this) hh1
  obtain ⟨t, a1, b1⟩ := lv_astore (H := W'.heap) (rest := []) (Q := Q) hx hb hd2 hL.has hz rfl (fun ls' h' => W.widen hk2 (by omega) <| kk hx hb hml hown hmn hts hG hZ ad W'.heap locs ls' hR' (hL.kl h') jS.nil) (W'.setVm vm2) rfl X''
  obtain ⟨g₁, hfr⟩ := X'.frames_eq
  refine ⟨t, hst1 t (hst2 t (jOvNat ⟨⟨X'.here.running, X'.here.runnable, X'.here.alone⟩, State.cur_lt_of_frames hfr, [.native nf, .java (F0 m pc ls (st.map (jv ad)))], rfl⟩ hna hnl ?_)), b1⟩
  have hU : (W'.setTop (F0 m pc ls (st.map (jv ad)))).pushFrame (.throwing (T.setVm vm').heap.size) = W'.setFrames (.throwing (T.setVm vm').heap.size :: .java (F0 m pc ls (st.map (jv ad))) :: below) := by
    rw [State.pushFrame, State.frames_setTop _ hfr, State.setTop_of_frames _ hfr, State.setFrames_setFrames]
  rw [← hU]
  exact hst3 t a1
/-- a copy -/
theorem J.copyOk {a b n1 n2 ix : Nat} {f1 f2 : Nat → Int32} {ty : FieldType} {sp dp len : Int32} (hRm : jRoom X F L MC MS) (hlk : Cond.methodLink y.cls ix arraycopyName ∈ lw_all) (hnat : Cond.native arraycopyName ∈ lw_all) (hsta : Cond.static arraycopyName ∈ lw_all) (hini : Cond.initialized "java/lang/System" ∈ lw_all)
    (ha : hp a = some (.inl (ty, n1, .inl f1))) (hb9 : hp b = some (.inl (ty, n2, .inl f2))) (h8 : 8 ≤ b) (h8a : 8 ≤ a) (h3 : jt3 ty) (h1 : ¬ sp < 0) (h2 : ¬ dp < 0) (h4 : ¬ len < 0) (h5 : sp.toNatClampNeg + len.toNatClampNeg ≤ n1) (h6 : dp.toNatClampNeg + len.toNatClampNeg ≤ n2) (hfit : ∀ i, i < len.toNatClampNeg → fits ty (.int (f1 (sp.toNatClampNeg + i))) = true)
    (hF : 1 ≤ F) (hLo : (st.map (fun v => v.category)).sum + 100 ≤ L) (hd : decode cc pc = .ok (.invokestatic ix, 3))
    (kk : J X cc nL y k n (pc + 3) lv st (jset hp b (.inl (ty, n2, .inl (va_cpy f1 f2 sp.toNatClampNeg dp.toNatClampNeg len.toNatClampNeg))))) : J X cc nL y k n pc lv (.int len :: .int dp :: .ref b :: .int sp :: .ref a :: st) hp := by
  obtain ⟨p, l, e, R, s, m, args, below, meth, c, Q, D, ad0, hp0⟩ := X
  intro hx hb hml hown hmn hts hG hZ ad H locs ls hR hL hS
  have hRm : F ≤ R.frames ∧ L ≤ R.locals ∧ MC ≤ R.cells ∧ MS ≤ R.slots := hRm
  have hcat : ((st.map (jv ad)).map fun v => v.category).sum = (st.map (fun v => v.category)).sum := by
    rw [List.map_map]
    congr 1
    exact List.map_congr_left (fun v _ => jv_cat ad v)
  have h18 : nativeFrameWords "java/lang/System" "arraycopy" 5 + 11 ≤ 100 := by decide
  have hprim : refKind ty = false := by rcases h3 with rfl | rfl | rfl <;> rfl
  intro T hT S
  subst hT
  obtain ⟨c1, hc1, hA1, hRA1⟩ := (hR.1 a _ ha).1.ex h8a
  obtain ⟨c2, hc2, hA2, hRA2⟩ := (hR.1 b _ hb9).1.ex h8
  have hc1 : T.heap[ad a]? = some (vp_cell c1 (n1, .inl f1)) := hc1
  have hc2 : T.heap[ad b]? = some (vp_cell c2 (n2, .inl f2)) := hc2
  obtain ⟨-, q1, hq1, cm1, hqq1⟩ := hA1 n1 (fun j => .int (f1 j))
  obtain ⟨-, q2, hq2, cm2, hqq2⟩ := hA2 n2 (fun j => .int (f2 j))
  have nn : ∀ z : Int32, ¬ z < 0 → z.toInt = (z.toNatClampNeg : Int) := by
    intro z hz
    have hz0 : (0 : Int) ≤ z.toInt := by
      have := Int32.not_lt.mp hz
      simpa using Int32.le_iff_toInt_le.mp this
    show z.toInt = ((z.toInt.toNat : Nat) : Int)
    omega
  obtain ⟨vm', X', step⟩ := S.arraycopy hx hown (hts _ hlk) (hts _ hnat) (hts _ hsta) (hts _ hini) (src := ad a) (dst := ad b) (cs := vp_cell c1 (n1, .inl f1)) (cd := vp_cell c2 (n2, .inl f2)) (srcPos := sp) (destPos := dp) (n := len) hc1 hc2
    (fun _ h => by cases h) (fun _ h => by cases h) (fun h => by cases h) (fun h => by cases h) hq1 hq2 hqq1 hqq2 (by simp [hprim]) h1 h2 h4
    (by rw [nn sp h1, nn len h4]; show ¬ _ > ((arrV c1 n1 (fun j => .int (f1 j))).slots.size : Int); rw [arrV_size]; omega)
    (by rw [nn dp h2, nn len h4]; show ¬ _ > ((arrV c2 n2 (fun j => .int (f2 j))).slots.size : Int); rw [arrV_size]; omega)
    (fun vm₁ _ i hi => by
      have e : (vp_cell c1 (n1, .inl f1)).slots.getD (sp.toNatClampNeg + i) .null = .int (f1 (sp.toNatClampNeg + i)) := by
        show (arrV c1 n1 (fun j => .int (f1 j))).slots.getD _ _ = _
        rw [Array.getD_eq_getD_getElem?, arrV_read _ _ (by omega)]
        rfl
      refine ⟨?_, ?_⟩
      · rw [e]
        exact hfit i hi
      · rw [e]
        exact trivial)
    (g := F0 m pc ls ((.int len :: .int dp :: .ref b :: .int sp :: .ref a :: st).map (jv ad))) rfl (by rw [hml]; exact hL.1) (rest := st.map (jv ad)) rfl (by rw [hb]; exact hd) (by omega) (by show 2 * 0 + _ + _ ≤ _; rw [hcat]; omega)
  have e1 : copied (vp_cell c1 (n1, .inl f1)) (vp_cell c2 (n2, .inl f2)) sp dp len = vp_cell c2 (n2, .inl (va_cpy f1 f2 sp.toNatClampNeg dp.toNatClampNeg len.toNatClampNeg)) := va_copied (fun z => .int z) c1 c2 f1 f2 h5
  rw [e1] at X' step
  have hl : ad b < T.heap.size := (Array.getElem?_eq_some_iff.mp hc2).1
  have hlv : hp b ≠ none := by rw [hb9]; exact fun q => by cases q
  have hb0 := hR.2.2.2.1 b hlv h8
  have hR' : jR D s ad0 hp0 ad (jset hp b (.inl (ty, n2, .inl (va_cpy f1 f2 sp.toNatClampNeg dp.toNatClampNeg len.toNatClampNeg)))) ((T.setVm vm').setCell (ad b) (vp_cell c2 (n2, .inl (va_cpy f1 f2 sp.toNatClampNeg dp.toNatClampNeg len.toNatClampNeg)))).heap (locs ++ [⟨ad b, 0⟩]) :=
    hR.put hlv h8 (jAt.mk (cA := c2) (by show (T.heap.setIfInBounds (ad b) _)[ad b]? = _; simp [Array.getElem?_setIfInBounds, hl]; rfl) hA2 hRA2) trivial (by show (T.heap.setIfInBounds (ad b) _).size = _; simp) (fun q hq => by show (T.heap.setIfInBounds (ad b) _)[q]? = _; simp [Array.getElem?_setIfInBounds, Ne.symm hq])
  have hR2 : jR D s ad0 hp0 ad (jset hp b (.inl (ty, n2, .inl (va_cpy f1 f2 sp.toNatClampNeg dp.toNatClampNeg len.toNatClampNeg)))) ((T.setVm vm').setCell (ad b) (vp_cell c2 (n2, .inl (va_cpy f1 f2 sp.toNatClampNeg dp.toNatClampNeg len.toNatClampNeg)))).heap (locs ++ ((vp_cell c1 (n1, .inl f1)).stretch sp.toNatClampNeg len.toNatClampNeg).zipIdx.map fun q => ⟨ad b, dp.toNatClampNeg + q.2⟩) := by
    obtain ⟨r1, r2, r3, r4⟩ := hR'
    refine ⟨r1, r2, ⟨r3.1, r3.2.1, fun q hq => ?_⟩, r4⟩
    rcases List.mem_append.mp hq with h | h
    · exact hR.2.2.1.2.2 q h
    · obtain ⟨z, -, hz⟩ := List.mem_map.mp h
      rw [← hz]
      exact hb0
  obtain ⟨t, a1, b1⟩ := kk hx hb hml hown hmn hts hG hZ ad _ _ ls hR2 (hL.mono fun n => jset_dom) (hS.t.t.t.t.t.mono fun n => jset_dom) _ rfl X'
  exact ⟨t, step t a1, b1⟩
end JC
