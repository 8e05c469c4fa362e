/-! a method with handlers: its head; ends that tell less -/
set_option maxRecDepth 100000
theorem jM.ofH {D : va_G} {l : Launch} {y : MethodName} {cc : ByteArray} {maxL : Nat} {ret : Option FieldType} {hh : List (Nat × Nat × Nat × Nat)} {rm : Room} {hp hp' : jH} {av : List Value} {r : Option Value} {lv0 : List (Option Value)} (hl : jNT l) (hy : plainName y.cls = true) (hlen : (jsl av).length ≤ maxL) (hlv : jlv0 av maxL = lv0)
    (body : ∀ X : jX, jDl X D l → jRoom X rm.frames rm.locals rm.cells rm.slots → jEnds X ret r hp' rm.cells rm.slots → jX0 X hp → jTab X hh → J X cc maxL y 0 0 0 lv0 [] hp) : jM D l y (wsW_ y cc maxL ret hh) rm hp av r hp' := by
  intro ad sz
  refine va_MetW (cc := cc) (maxL := maxL) (ret := ret) (hh := hh) hy rfl ?_
  intro p e s m args below meth c s₁ B hml hv
  obtain ⟨rfl, hsz, hG, hZ, hC, hI, hS⟩ := hv
  subst hsz
  subst hlv
  have hts := atoms_spec (ws := wsW_ y cc maxL ret hh) B.pre
  have htab : c.exceptionTable.toList.map (fun x => (x.startPc, x.endPc, x.handlerPc, x.catchType)) = hh := by
    obtain ⟨m9, meth9, c9, hn9, h1, h2, -, -, h5, -⟩ := Cond.codeWith_spec (hts _ List.mem_cons_self)
    cases B.named.symm.trans hn9
    cases B.method.symm.trans h1
    cases (Stand.of_body B).code.symm.trans h2
    exact h5
  have hts : ∀ w ∈ lw_all, w.before _ s = true := fun w h => hts w (List.mem_cons_of_mem _ h)
  have hb := body (p, l, e, (headSpec (wsW_ y cc maxL ret hh) rm).room, s, m, (av.map (jv ad)).toArray, below, meth, c, MQ below (jQ D ad hp s.heap.size r hp') (av.map (jv ad)).toArray s rm.cells rm.slots (jF ad hp s.heap.size), D, ad, hp) ⟨rfl, rfl⟩ ⟨Nat.le_refl _, Nat.le_refl _, Nat.le_refl _, Nat.le_refl _⟩ ⟨B.returns, B.notSynchronized, rfl⟩ rfl ⟨hl, htab⟩
  rw [lg_entry_eq]
  exact hb B.exec B.bytes hml (findClass_of_methodNamed B.named) (name_of_methodNamed B.named B.method).1 hts hG hZ ad s.heap [] _ ⟨hC, hI, va_S.rf, fun n h1 h2 => Or.inl ⟨n, h1, h2, rfl⟩, fun n h => ⟨rfl, h⟩, fun n _ h => h⟩ (jL.entry hS hlen) jS.nil
theorem J.iretF {X : jX} {cc : ByteArray} {nL : Nat} {y : MethodName} {k n pc : Nat} {lv : List (Option Value)} {hp hp0 hpE : jH} {mc ms : Nat} {v : Int32} (hE : jEnds X (some .int) (some (.int v)) hpE mc ms) (hX0 : jX0 X hp0) (hsub : ∀ i o, hpE i = some o → hp i = some o ∧ jclo hpE o) (hdom : ∀ i, hp0 i ≠ none → hpE i ≠ none) (hk : k ≤ mc) (hn : n ≤ ms) (hd : decode cc pc = .ok (.ireturn, 1)) : J X cc nL y k n pc lv [.int v] hp := by
  obtain ⟨p, l, e, R, s, m, args, below, meth, c, Q, D, ad0, hp00⟩ := X
  intro hx hb hml hown hmn hts hG hZ ad H locs ls hR hL hS
  obtain ⟨hr, hlocks, rfl⟩ := hE
  have hX0 : hp00 = hp0 := hX0
  subst hX0
  refine W.widen hk hn ?_
  exact W.iret hx hb hr (fun t ht hW => hR.end (r := some (.int v)) ht hW.alike (fun w h => by cases h; exact jok_i) hsub hdom) hR.2.2.1.2.2 hd
