/-! THE J LAYER, 3: rows of instructions that leave the heap alone (printed by gen_rules.py) -/
set_option maxRecDepth 100000
theorem jldcw {p : Program} {l : Launch} {e : Env} {R : Room} {s : State} {m : MethodId} {args : Array Value} {below : List Frame} {meth : Method} {c : Code} {H : Heap} {locs : List Loc} {cells slots : Nat} {Q : State → Prop} {cc : ByteArray} {pc : Nat} {ls : Array Slot} {rest : List Value} (hexec : p.tables.exec = Jvm.exec) (hb : c.code = cc) {own : String} {index : Nat} {v : Int32} (hown : s.vm.findClass own = some m.cls) (hconst : (Jvm.Cond.constant own index v).before args s = true) (hdg : decode cc pc = .ok (.ldc_w index, 3)) (k : W p l e R s m args below meth c H locs cells slots Q (F0 m (pc + 3) ls (.int v :: rest))) : W p l e R s m args below meth c H locs cells slots Q (F0 m pc ls rest) := by
  intro T hT X
  obtain ⟨t, a, b⟩ := k T hT X
  refine ⟨t, ?_, b⟩
  subst hb
  obtain ⟨kc, cf, bytes, hk, hcf, hcp, hbb⟩ := Cond.constant_spec hown hconst
  obtain ⟨k', hk', he⟩ := X.warmed.alike.2.2 _ _ hk
  jvm_step X.here [hexec, hdg, ldc_w.wp_int (s := T) (f := F0 m pc ls rest) X.here.top hk' (by rw [he]; exact hcf) hcp, hbb]
  exact a
section JR
variable {X : jX} {cc : ByteArray} {nL : Nat} {y : MethodName} {k n pc : Nat} {lv : List (Option Value)} {st : List Value} {hp : jH}
theorem J.iconst {z : Int} {v : Int32} (hd : decode cc pc = .ok (.iconst z, 1)) (hv : Int32.ofInt z = v) (kk : J X cc nL y k n (pc + 1) lv (.int v :: st) hp) : J X cc nL y k n pc lv (st) hp := by
  obtain ⟨p, l, e, R, s, m, args, below, meth, c, Q, D, ad0, hp0⟩ := X
  intro hx hb hml hown hmn hts hG hZ ad H locs ls hR hL hS
  exact lv_iconst hx hb hd hv (kk hx hb hml hown hmn hts hG hZ ad H locs ls hR hL hS.i)
theorem J.bipush {z : Int} {v : Int32} (hd : decode cc pc = .ok (.bipush z, 2)) (hv : (Int8.ofInt z).toInt32 = v) (kk : J X cc nL y k n (pc + 2) lv (.int v :: st) hp) : J X cc nL y k n pc lv (st) hp := by
  obtain ⟨p, l, e, R, s, m, args, below, meth, c, Q, D, ad0, hp0⟩ := X
  intro hx hb hml hown hmn hts hG hZ ad H locs ls hR hL hS
  exact lv_bipush hx hb hd hv (kk hx hb hml hown hmn hts hG hZ ad H locs ls hR hL hS.i)
theorem J.sipush {z : Int} {v : Int32} (hd : decode cc pc = .ok (.sipush z, 3)) (hv : (Int16.ofInt z).toInt32 = v) (kk : J X cc nL y k n (pc + 3) lv (.int v :: st) hp) : J X cc nL y k n pc lv (st) hp := by
  obtain ⟨p, l, e, R, s, m, args, below, meth, c, Q, D, ad0, hp0⟩ := X
  intro hx hb hml hown hmn hts hG hZ ad H locs ls hR hL hS
  exact lv_sipush hx hb hd hv (kk hx hb hml hown hmn hts hG hZ ad H locs ls hR hL hS.i)
theorem J.lconst {z : Fin 2} {v : Int64} (hd : decode cc pc = .ok (.lconst z, 1)) (hv : Int64.ofNat (z : Nat) = v) (kk : J X cc nL y k n (pc + 1) lv (.long v :: st) hp) : J X cc nL y k n pc lv (st) hp := by
  obtain ⟨p, l, e, R, s, m, args, below, meth, c, Q, D, ad0, hp0⟩ := X
  intro hx hb hml hown hmn hts hG hZ ad H locs ls hR hL hS
  exact lv_lconst hx hb hd hv (kk hx hb hml hown hmn hts hG hZ ad H locs ls hR hL hS.l)
theorem J.ldc {ix : Nat} {v : Int32} (hw : Jvm.Cond.constant y.cls ix v ∈ lw_all) (hd : decode cc pc = .ok (.ldc ix, 2)) (kk : J X cc nL y k n (pc + 2) lv (.int v :: st) hp) : J X cc nL y k n pc lv (st) hp := by
  obtain ⟨p, l, e, R, s, m, args, below, meth, c, Q, D, ad0, hp0⟩ := X
  intro hx hb hml hown hmn hts hG hZ ad H locs ls hR hL hS
  exact lv_ldc hx hb hown (hts _ hw) hd (kk hx hb hml hown hmn hts hG hZ ad H locs ls hR hL hS.i)
theorem J.ldcw {ix : Nat} {v : Int32} (hw : Jvm.Cond.constant y.cls ix v ∈ lw_all) (hd : decode cc pc = .ok (.ldc_w ix, 3)) (kk : J X cc nL y k n (pc + 3) lv (.int v :: st) hp) : J X cc nL y k n pc lv (st) hp := by
  obtain ⟨p, l, e, R, s, m, args, below, meth, c, Q, D, ad0, hp0⟩ := X
  intro hx hb hml hown hmn hts hG hZ ad H locs ls hR hL hS
  exact jldcw hx hb hown (hts _ hw) hd (kk hx hb hml hown hmn hts hG hZ ad H locs ls hR hL hS.i)
theorem J.ldc2 {ix : Nat} {v : Int64} (hw : Jvm.Cond.constantLong y.cls ix v ∈ lw_all) (hd : decode cc pc = .ok (.ldc2_w ix, 3)) (kk : J X cc nL y k n (pc + 3) lv (.long v :: st) hp) : J X cc nL y k n pc lv (st) hp := by
  obtain ⟨p, l, e, R, s, m, args, below, meth, c, Q, D, ad0, hp0⟩ := X
  intro hx hb hml hown hmn hts hG hZ ad H locs ls hR hL hS
  exact lv_ldc2 hx hb hown (hts _ hw) hd (kk hx hb hml hown hmn hts hG hZ ad H locs ls hR hL hS.l)
theorem J.null  (hd : decode cc pc = .ok (.aconst_null, 1)) (kk : J X cc nL y k n (pc + 1) lv (.null :: st) hp) : J X cc nL y k n pc lv (st) hp := by
  obtain ⟨p, l, e, R, s, m, args, below, meth, c, Q, D, ad0, hp0⟩ := X
  intro hx hb hml hown hmn hts hG hZ ad H locs ls hR hL hS
  exact lv_null hx hb hd (kk hx hb hml hown hmn hts hG hZ ad H locs ls hR hL hS.n)
theorem J.iload {i : Nat} {x : Int32} (hd : decode cc pc = .ok (.iload i, 2)) (hl : lv[i]? = some (some (.int x))) (kk : J X cc nL y k n (pc + 2) lv (.int x :: st) hp) : J X cc nL y k n pc lv (st) hp := by
  obtain ⟨p, l, e, R, s, m, args, below, meth, c, Q, D, ad0, hp0⟩ := X
  intro hx hb hml hown hmn hts hG hZ ad H locs ls hR hL hS
  exact lv_iload hx hb hd (hL.2.2 i _ hl).1 (kk hx hb hml hown hmn hts hG hZ ad H locs ls hR hL hS.i)
theorem J.iload_n {q : Fin 4} {i : Nat} {x : Int32} (hd : decode cc pc = .ok (.iload_n q, 1)) (hi : (q : Nat) = i) (hl : lv[i]? = some (some (.int x))) (kk : J X cc nL y k n (pc + 1) lv (.int x :: st) hp) : J X cc nL y k n pc lv (st) hp := by
  obtain ⟨p, l, e, R, s, m, args, below, meth, c, Q, D, ad0, hp0⟩ := X
  intro hx hb hml hown hmn hts hG hZ ad H locs ls hR hL hS
  exact lv_iload_n hx hb hd hi (hL.2.2 i _ hl).1 (kk hx hb hml hown hmn hts hG hZ ad H locs ls hR hL hS.i)
theorem J.lload {i : Nat} {x : Int64} (hd : decode cc pc = .ok (.lload i, 2)) (hl : lv[i]? = some (some (.long x))) (kk : J X cc nL y k n (pc + 2) lv (.long x :: st) hp) : J X cc nL y k n pc lv (st) hp := by
  obtain ⟨p, l, e, R, s, m, args, below, meth, c, Q, D, ad0, hp0⟩ := X
  intro hx hb hml hown hmn hts hG hZ ad H locs ls hR hL hS
  exact lv_lload hx hb hd (hL.2.2 i _ hl).1 (kk hx hb hml hown hmn hts hG hZ ad H locs ls hR hL hS.l)
theorem J.lload_n {q : Fin 4} {i : Nat} {x : Int64} (hd : decode cc pc = .ok (.lload_n q, 1)) (hi : (q : Nat) = i) (hl : lv[i]? = some (some (.long x))) (kk : J X cc nL y k n (pc + 1) lv (.long x :: st) hp) : J X cc nL y k n pc lv (st) hp := by
  obtain ⟨p, l, e, R, s, m, args, below, meth, c, Q, D, ad0, hp0⟩ := X
  intro hx hb hml hown hmn hts hG hZ ad H locs ls hR hL hS
  exact lv_lload_n hx hb hd hi (hL.2.2 i _ hl).1 (kk hx hb hml hown hmn hts hG hZ ad H locs ls hR hL hS.l)
theorem J.aload {i x : Nat} (hd : decode cc pc = .ok (.aload i, 2)) (hl : lv[i]? = some (some (.ref x))) (kk : J X cc nL y k n (pc + 2) lv (.ref x :: st) hp) : J X cc nL y k n pc lv (st) hp := by
  obtain ⟨p, l, e, R, s, m, args, below, meth, c, Q, D, ad0, hp0⟩ := X
  intro hx hb hml hown hmn hts hG hZ ad H locs ls hR hL hS
  exact lv_aload hx hb hd (hL.2.2 i _ hl).1 (kk hx hb hml hown hmn hts hG hZ ad H locs ls hR hL (hS.p (hL.2.2 i _ hl).2))
theorem J.aload_n {q : Fin 4} {i x : Nat} (hd : decode cc pc = .ok (.aload_n q, 1)) (hi : (q : Nat) = i) (hl : lv[i]? = some (some (.ref x))) (kk : J X cc nL y k n (pc + 1) lv (.ref x :: st) hp) : J X cc nL y k n pc lv (st) hp := by
  obtain ⟨p, l, e, R, s, m, args, below, meth, c, Q, D, ad0, hp0⟩ := X
  intro hx hb hml hown hmn hts hG hZ ad H locs ls hR hL hS
  exact lv_aload_n hx hb hd hi (hL.2.2 i _ hl).1 (kk hx hb hml hown hmn hts hG hZ ad H locs ls hR hL (hS.p (hL.2.2 i _ hl).2))
theorem J.aloadN {i : Nat} (hd : decode cc pc = .ok (.aload i, 2)) (hl : lv[i]? = some (some .null)) (kk : J X cc nL y k n (pc + 2) lv (.null :: st) hp) : J X cc nL y k n pc lv (st) hp := by
  obtain ⟨p, l, e, R, s, m, args, below, meth, c, Q, D, ad0, hp0⟩ := X
  intro hx hb hml hown hmn hts hG hZ ad H locs ls hR hL hS
  exact lv_aloadN hx hb hd (hL.2.2 i _ hl).1 (kk hx hb hml hown hmn hts hG hZ ad H locs ls hR hL hS.n)
theorem J.aload_nN {q : Fin 4} {i : Nat} (hd : decode cc pc = .ok (.aload_n q, 1)) (hi : (q : Nat) = i) (hl : lv[i]? = some (some .null)) (kk : J X cc nL y k n (pc + 1) lv (.null :: st) hp) : J X cc nL y k n pc lv (st) hp := by
  obtain ⟨p, l, e, R, s, m, args, below, meth, c, Q, D, ad0, hp0⟩ := X
  intro hx hb hml hown hmn hts hG hZ ad H locs ls hR hL hS
  exact lv_aload_nN hx hb hd hi (hL.2.2 i _ hl).1 (kk hx hb hml hown hmn hts hG hZ ad H locs ls hR hL hS.n)
theorem J.istore {x : Int32} {i : Nat} {lv' : List (Option Value)} (hd : decode cc pc = .ok (.istore i, 2)) (hn : i < nL) (hl : jst1 lv i (.int x) = lv') (kk : J X cc nL y k n (pc + 2) lv' st hp) : J X cc nL y k n pc lv (.int x :: st) hp := by
  obtain ⟨p, l, e, R, s, m, args, below, meth, c, Q, D, ad0, hp0⟩ := X
  intro hx hb hml hown hmn hts hG hZ ad H locs ls hR hL hS
  subst hl
  exact lv_istore hx hb hd hL.has hn rfl (fun ls' h' => kk hx hb hml hown hmn hts hG hZ ad H locs ls' hR (hL.st1 (v := .int x) hS.h rfl h') hS.t)
theorem J.istore_n {q : Fin 4} {x : Int32} {i : Nat} {lv' : List (Option Value)} {i : Nat} (hd : decode cc pc = .ok (.istore_n q, 1)) (hi : (q : Nat) = i) (hn : i < nL) (hl : jst1 lv i (.int x) = lv') (kk : J X cc nL y k n (pc + 1) lv' st hp) : J X cc nL y k n pc lv (.int x :: st) hp := by
  obtain ⟨p, l, e, R, s, m, args, below, meth, c, Q, D, ad0, hp0⟩ := X
  intro hx hb hml hown hmn hts hG hZ ad H locs ls hR hL hS
  subst hl
  exact lv_istore_n hx hb hd hi hL.has hn rfl (fun ls' h' => kk hx hb hml hown hmn hts hG hZ ad H locs ls' hR (hL.st1 (v := .int x) hS.h rfl h') hS.t)
theorem J.lstore {x : Int64} {i : Nat} {lv' : List (Option Value)} (hd : decode cc pc = .ok (.lstore i, 2)) (hn : i + 1 < nL) (hl : jst2 lv i (.long x) = lv') (kk : J X cc nL y k n (pc + 2) lv' st hp) : J X cc nL y k n pc lv (.long x :: st) hp := by
  obtain ⟨p, l, e, R, s, m, args, below, meth, c, Q, D, ad0, hp0⟩ := X
  intro hx hb hml hown hmn hts hG hZ ad H locs ls hR hL hS
  subst hl
  exact lv_lstore hx hb hd hL.has hn rfl (fun ls' h' => kk hx hb hml hown hmn hts hG hZ ad H locs ls' hR (hL.st2 (v := .long x) hS.h rfl h') hS.t)
theorem J.lstore_n {q : Fin 4} {x : Int64} {i : Nat} {lv' : List (Option Value)} {i : Nat} (hd : decode cc pc = .ok (.lstore_n q, 1)) (hi : (q : Nat) = i) (hn : i + 1 < nL) (hl : jst2 lv i (.long x) = lv') (kk : J X cc nL y k n (pc + 1) lv' st hp) : J X cc nL y k n pc lv (.long x :: st) hp := by
  obtain ⟨p, l, e, R, s, m, args, below, meth, c, Q, D, ad0, hp0⟩ := X
  intro hx hb hml hown hmn hts hG hZ ad H locs ls hR hL hS
  subst hl
  exact lv_lstore_n hx hb hd hi hL.has hn rfl (fun ls' h' => kk hx hb hml hown hmn hts hG hZ ad H locs ls' hR (hL.st2 (v := .long x) hS.h rfl h') hS.t)
theorem J.astore {x : Nat} {i : Nat} {lv' : List (Option Value)} (hd : decode cc pc = .ok (.astore i, 2)) (hn : i < nL) (hl : jst1 lv i (.ref x) = lv') (kk : J X cc nL y k n (pc + 2) lv' st hp) : J X cc nL y k n pc lv (.ref x :: st) hp := by
  obtain ⟨p, l, e, R, s, m, args, below, meth, c, Q, D, ad0, hp0⟩ := X
  intro hx hb hml hown hmn hts hG hZ ad H locs ls hR hL hS
  subst hl
  exact lv_astore hx hb hd hL.has hn rfl (fun ls' h' => kk hx hb hml hown hmn hts hG hZ ad H locs ls' hR (hL.st1 (v := .ref x) hS.h rfl h') hS.t)
theorem J.astore_n {q : Fin 4} {x : Nat} {i : Nat} {lv' : List (Option Value)} {i : Nat} (hd : decode cc pc = .ok (.astore_n q, 1)) (hi : (q : Nat) = i) (hn : i < nL) (hl : jst1 lv i (.ref x) = lv') (kk : J X cc nL y k n (pc + 1) lv' st hp) : J X cc nL y k n pc lv (.ref x :: st) hp := by
  obtain ⟨p, l, e, R, s, m, args, below, meth, c, Q, D, ad0, hp0⟩ := X
  intro hx hb hml hown hmn hts hG hZ ad H locs ls hR hL hS
  subst hl
  exact lv_astore_n hx hb hd hi hL.has hn rfl (fun ls' h' => kk hx hb hml hown hmn hts hG hZ ad H locs ls' hR (hL.st1 (v := .ref x) hS.h rfl h') hS.t)
theorem J.astoreN  {i : Nat} {lv' : List (Option Value)} (hd : decode cc pc = .ok (.astore i, 2)) (hn : i < nL) (hl : jst1 lv i (.null) = lv') (kk : J X cc nL y k n (pc + 2) lv' st hp) : J X cc nL y k n pc lv (.null :: st) hp := by
  obtain ⟨p, l, e, R, s, m, args, below, meth, c, Q, D, ad0, hp0⟩ := X
  intro hx hb hml hown hmn hts hG hZ ad H locs ls hR hL hS
  subst hl
  exact lv_astoreN hx hb hd hL.has hn rfl (fun ls' h' => kk hx hb hml hown hmn hts hG hZ ad H locs ls' hR (hL.st1 (v := .null) hS.h rfl h') hS.t)
theorem J.astore_nN {q : Fin 4} {i : Nat} {lv' : List (Option Value)} {i : Nat} (hd : decode cc pc = .ok (.astore_n q, 1)) (hi : (q : Nat) = i) (hn : i < nL) (hl : jst1 lv i (.null) = lv') (kk : J X cc nL y k n (pc + 1) lv' st hp) : J X cc nL y k n pc lv (.null :: st) hp := by
  obtain ⟨p, l, e, R, s, m, args, below, meth, c, Q, D, ad0, hp0⟩ := X
  intro hx hb hml hown hmn hts hG hZ ad H locs ls hR hL hS
  subst hl
  exact lv_astore_nN hx hb hd hi hL.has hn rfl (fun ls' h' => kk hx hb hml hown hmn hts hG hZ ad H locs ls' hR (hL.st1 (v := .null) hS.h rfl h') hS.t)
theorem J.iinc {i : Nat} {z : Int} {x v : Int32} {lv' : List (Option Value)} (hd : decode cc pc = .ok (.iinc i z, 3)) (hx0 : lv[i]? = some (some (.int x))) (hv : x + Int32.ofInt z = v) (hn : i < nL) (hl : jst1 lv i (.int v) = lv') (kk : J X cc nL y k n (pc + 3) lv' st hp) : J X cc nL y k n pc lv st hp := by
  obtain ⟨p, l, e, R, s, m, args, below, meth, c, Q, D, ad0, hp0⟩ := X
  intro hx hb hml hown hmn hts hG hZ ad H locs ls hR hL hS
  subst hl
  have hm : (i, Value.int x) ∈ jtr ad lv := jtr_mem.mpr ⟨.int x, hx0, rfl⟩
  obtain ⟨q, hq⟩ := List.mem_iff_getElem?.mp hm
  exact lv_iinc hx hb hd hL.has hq hv hn rfl (fun ls' h' => kk hx hb hml hown hmn hts hG hZ ad H locs ls' hR (hL.st1 (v := .int v) jok_i rfl h') hS)
theorem J.iadd {a b : Int32} (hd : decode cc pc = .ok (.iadd, 1)) (kk : J X cc nL y k n (pc + 1) lv (.int (a + b) :: st) hp) : J X cc nL y k n pc lv (.int b :: .int a :: st) hp := by
  obtain ⟨p, l, e, R, s, m, args, below, meth, c, Q, D, ad0, hp0⟩ := X
  intro hx hb hml hown hmn hts hG hZ ad H locs ls hR hL hS
  exact lv_iadd hx hb hd (kk hx hb hml hown hmn hts hG hZ ad H locs ls hR hL hS.t.t.i)
theorem J.isub {a b : Int32} (hd : decode cc pc = .ok (.isub, 1)) (kk : J X cc nL y k n (pc + 1) lv (.int (a - b) :: st) hp) : J X cc nL y k n pc lv (.int b :: .int a :: st) hp := by
  obtain ⟨p, l, e, R, s, m, args, below, meth, c, Q, D, ad0, hp0⟩ := X
  intro hx hb hml hown hmn hts hG hZ ad H locs ls hR hL hS
  exact lv_isub hx hb hd (kk hx hb hml hown hmn hts hG hZ ad H locs ls hR hL hS.t.t.i)
theorem J.imul {a b : Int32} (hd : decode cc pc = .ok (.imul, 1)) (kk : J X cc nL y k n (pc + 1) lv (.int (a * b) :: st) hp) : J X cc nL y k n pc lv (.int b :: .int a :: st) hp := by
  obtain ⟨p, l, e, R, s, m, args, below, meth, c, Q, D, ad0, hp0⟩ := X
  intro hx hb hml hown hmn hts hG hZ ad H locs ls hR hL hS
  exact lv_imul hx hb hd (kk hx hb hml hown hmn hts hG hZ ad H locs ls hR hL hS.t.t.i)
theorem J.iand {a b : Int32} (hd : decode cc pc = .ok (.iand, 1)) (kk : J X cc nL y k n (pc + 1) lv (.int (a &&& b) :: st) hp) : J X cc nL y k n pc lv (.int b :: .int a :: st) hp := by
  obtain ⟨p, l, e, R, s, m, args, below, meth, c, Q, D, ad0, hp0⟩ := X
  intro hx hb hml hown hmn hts hG hZ ad H locs ls hR hL hS
  exact lv_iand hx hb hd (kk hx hb hml hown hmn hts hG hZ ad H locs ls hR hL hS.t.t.i)
theorem J.ior {a b : Int32} (hd : decode cc pc = .ok (.ior, 1)) (kk : J X cc nL y k n (pc + 1) lv (.int (a ||| b) :: st) hp) : J X cc nL y k n pc lv (.int b :: .int a :: st) hp := by
  obtain ⟨p, l, e, R, s, m, args, below, meth, c, Q, D, ad0, hp0⟩ := X
  intro hx hb hml hown hmn hts hG hZ ad H locs ls hR hL hS
  exact lv_ior hx hb hd (kk hx hb hml hown hmn hts hG hZ ad H locs ls hR hL hS.t.t.i)
theorem J.ishl {a b : Int32} (hd : decode cc pc = .ok (.ishl, 1)) (kk : J X cc nL y k n (pc + 1) lv (.int (a <<< (b &&& 31)) :: st) hp) : J X cc nL y k n pc lv (.int b :: .int a :: st) hp := by
  obtain ⟨p, l, e, R, s, m, args, below, meth, c, Q, D, ad0, hp0⟩ := X
  intro hx hb hml hown hmn hts hG hZ ad H locs ls hR hL hS
  exact lv_ishl hx hb hd (kk hx hb hml hown hmn hts hG hZ ad H locs ls hR hL hS.t.t.i)
theorem J.ishr {a b : Int32} (hd : decode cc pc = .ok (.ishr, 1)) (kk : J X cc nL y k n (pc + 1) lv (.int (a >>> (b &&& 31)) :: st) hp) : J X cc nL y k n pc lv (.int b :: .int a :: st) hp := by
  obtain ⟨p, l, e, R, s, m, args, below, meth, c, Q, D, ad0, hp0⟩ := X
  intro hx hb hml hown hmn hts hG hZ ad H locs ls hR hL hS
  exact lv_ishr hx hb hd (kk hx hb hml hown hmn hts hG hZ ad H locs ls hR hL hS.t.t.i)
theorem J.idiv {a b : Int32} (hd : decode cc pc = .ok (.idiv, 1)) (hne : ¬ b = 0) (kk : J X cc nL y k n (pc + 1) lv (.int (a / b) :: st) hp) : J X cc nL y k n pc lv (.int b :: .int a :: st) hp := by
  obtain ⟨p, l, e, R, s, m, args, below, meth, c, Q, D, ad0, hp0⟩ := X
  intro hx hb hml hown hmn hts hG hZ ad H locs ls hR hL hS
  exact lv_idiv hx hb hd hne (kk hx hb hml hown hmn hts hG hZ ad H locs ls hR hL hS.t.t.i)
theorem J.irem {a b : Int32} (hd : decode cc pc = .ok (.irem, 1)) (hne : ¬ b = 0) (kk : J X cc nL y k n (pc + 1) lv (.int (a - a / b * b) :: st) hp) : J X cc nL y k n pc lv (.int b :: .int a :: st) hp := by
  obtain ⟨p, l, e, R, s, m, args, below, meth, c, Q, D, ad0, hp0⟩ := X
  intro hx hb hml hown hmn hts hG hZ ad H locs ls hR hL hS
  exact lv_irem hx hb hd hne (kk hx hb hml hown hmn hts hG hZ ad H locs ls hR hL hS.t.t.i)
theorem J.ladd {a b : Int64} (hd : decode cc pc = .ok (.ladd, 1)) (kk : J X cc nL y k n (pc + 1) lv (.long (a + b) :: st) hp) : J X cc nL y k n pc lv (.long b :: .long a :: st) hp := by
  obtain ⟨p, l, e, R, s, m, args, below, meth, c, Q, D, ad0, hp0⟩ := X
  intro hx hb hml hown hmn hts hG hZ ad H locs ls hR hL hS
  exact lv_ladd hx hb hd (kk hx hb hml hown hmn hts hG hZ ad H locs ls hR hL hS.t.t.l)
theorem J.lsub {a b : Int64} (hd : decode cc pc = .ok (.lsub, 1)) (kk : J X cc nL y k n (pc + 1) lv (.long (a - b) :: st) hp) : J X cc nL y k n pc lv (.long b :: .long a :: st) hp := by
  obtain ⟨p, l, e, R, s, m, args, below, meth, c, Q, D, ad0, hp0⟩ := X
  intro hx hb hml hown hmn hts hG hZ ad H locs ls hR hL hS
  exact lv_lsub hx hb hd (kk hx hb hml hown hmn hts hG hZ ad H locs ls hR hL hS.t.t.l)
theorem J.lmul {a b : Int64} (hd : decode cc pc = .ok (.lmul, 1)) (kk : J X cc nL y k n (pc + 1) lv (.long (a * b) :: st) hp) : J X cc nL y k n pc lv (.long b :: .long a :: st) hp := by
  obtain ⟨p, l, e, R, s, m, args, below, meth, c, Q, D, ad0, hp0⟩ := X
  intro hx hb hml hown hmn hts hG hZ ad H locs ls hR hL hS
  exact lv_lmul hx hb hd (kk hx hb hml hown hmn hts hG hZ ad H locs ls hR hL hS.t.t.l)
theorem J.ldiv {a b : Int64} (hd : decode cc pc = .ok (.ldiv, 1)) (hne : ¬ b = 0) (kk : J X cc nL y k n (pc + 1) lv (.long (a / b) :: st) hp) : J X cc nL y k n pc lv (.long b :: .long a :: st) hp := by
  obtain ⟨p, l, e, R, s, m, args, below, meth, c, Q, D, ad0, hp0⟩ := X
  intro hx hb hml hown hmn hts hG hZ ad H locs ls hR hL hS
  exact lv_ldiv hx hb hd hne (kk hx hb hml hown hmn hts hG hZ ad H locs ls hR hL hS.t.t.l)
theorem J.lcmp {a b : Int64} (hd : decode cc pc = .ok (.lcmp, 1)) (kk : J X cc nL y k n (pc + 1) lv (.int (lg_cmp a b) :: st) hp) : J X cc nL y k n pc lv (.long b :: .long a :: st) hp := by
  obtain ⟨p, l, e, R, s, m, args, below, meth, c, Q, D, ad0, hp0⟩ := X
  intro hx hb hml hown hmn hts hG hZ ad H locs ls hR hL hS
  exact W.lcmp hx hb hd (kk hx hb hml hown hmn hts hG hZ ad H locs ls hR hL hS.t.t.i)
theorem J.ineg {a : Int32} (hd : decode cc pc = .ok (.ineg, 1)) (kk : J X cc nL y k n (pc + 1) lv (.int (-a) :: st) hp) : J X cc nL y k n pc lv (.int a :: st) hp := by
  obtain ⟨p, l, e, R, s, m, args, below, meth, c, Q, D, ad0, hp0⟩ := X
  intro hx hb hml hown hmn hts hG hZ ad H locs ls hR hL hS
  exact lv_ineg hx hb hd (kk hx hb hml hown hmn hts hG hZ ad H locs ls hR hL hS.t.i)
theorem J.i2l {a : Int32} (hd : decode cc pc = .ok (.i2l, 1)) (kk : J X cc nL y k n (pc + 1) lv (.long a.toInt64 :: st) hp) : J X cc nL y k n pc lv (.int a :: st) hp := by
  obtain ⟨p, l, e, R, s, m, args, below, meth, c, Q, D, ad0, hp0⟩ := X
  intro hx hb hml hown hmn hts hG hZ ad H locs ls hR hL hS
  exact lv_i2l hx hb hd rfl (kk hx hb hml hown hmn hts hG hZ ad H locs ls hR hL hS.t.l)
theorem J.l2i {a : Int64} (hd : decode cc pc = .ok (.l2i, 1)) (kk : J X cc nL y k n (pc + 1) lv (.int a.toInt32 :: st) hp) : J X cc nL y k n pc lv (.long a :: st) hp := by
  obtain ⟨p, l, e, R, s, m, args, below, meth, c, Q, D, ad0, hp0⟩ := X
  intro hx hb hml hown hmn hts hG hZ ad H locs ls hR hL hS
  exact lv_l2i hx hb hd rfl (kk hx hb hml hown hmn hts hG hZ ad H locs ls hR hL hS.t.i)
theorem J.i2b {a : Int32} (hd : decode cc pc = .ok (.i2b, 1)) (kk : J X cc nL y k n (pc + 1) lv (.int a.toInt8.toInt32 :: st) hp) : J X cc nL y k n pc lv (.int a :: st) hp := by
  obtain ⟨p, l, e, R, s, m, args, below, meth, c, Q, D, ad0, hp0⟩ := X
  intro hx hb hml hown hmn hts hG hZ ad H locs ls hR hL hS
  exact lv_i2b hx hb hd rfl (kk hx hb hml hown hmn hts hG hZ ad H locs ls hR hL hS.t.i)
theorem J.i2s {a : Int32} (hd : decode cc pc = .ok (.i2s, 1)) (kk : J X cc nL y k n (pc + 1) lv (.int a.toInt16.toInt32 :: st) hp) : J X cc nL y k n pc lv (.int a :: st) hp := by
  obtain ⟨p, l, e, R, s, m, args, below, meth, c, Q, D, ad0, hp0⟩ := X
  intro hx hb hml hown hmn hts hG hZ ad H locs ls hR hL hS
  exact lv_i2s hx hb hd rfl (kk hx hb hml hown hmn hts hG hZ ad H locs ls hR hL hS.t.i)
theorem J.dup {v : Value} (hd : decode cc pc = .ok (.dup, 1)) (hv : v.category = 1) (kk : J X cc nL y k n (pc + 1) lv (v :: v :: st) hp) : J X cc nL y k n pc lv (v :: st) hp := by
  obtain ⟨p, l, e, R, s, m, args, below, meth, c, Q, D, ad0, hp0⟩ := X
  intro hx hb hml hown hmn hts hG hZ ad H locs ls hR hL hS
  exact lv_dup hx hb hd ((jv_cat ad v).trans hv) (kk hx hb hml hown hmn hts hG hZ ad H locs ls hR hL (hS.p hS.h))
theorem J.pop {v : Value} (hd : decode cc pc = .ok (.pop, 1)) (hv : v.category = 1) (kk : J X cc nL y k n (pc + 1) lv (st) hp) : J X cc nL y k n pc lv (v :: st) hp := by
  obtain ⟨p, l, e, R, s, m, args, below, meth, c, Q, D, ad0, hp0⟩ := X
  intro hx hb hml hown hmn hts hG hZ ad H locs ls hR hL hS
  exact lv_pop hx hb hd ((jv_cat ad v).trans hv) (kk hx hb hml hown hmn hts hG hZ ad H locs ls hR hL hS.t)
theorem J.dup_x1 {v w : Value} (hd : decode cc pc = .ok (.dup_x1, 1)) (hv : v.category = 1) (hw : w.category = 1) (kk : J X cc nL y k n (pc + 1) lv (v :: w :: v :: st) hp) : J X cc nL y k n pc lv (v :: w :: st) hp := by
  obtain ⟨p, l, e, R, s, m, args, below, meth, c, Q, D, ad0, hp0⟩ := X
  intro hx hb hml hown hmn hts hG hZ ad H locs ls hR hL hS
  exact lv_dup_x1 hx hb hd ((jv_cat ad v).trans hv) ((jv_cat ad w).trans hw) (kk hx hb hml hown hmn hts hG hZ ad H locs ls hR hL (((hS.t.t.p hS.h).p hS.t.h).p hS.h))
theorem J.dup2 {v w : Value} (hd : decode cc pc = .ok (.dup2, 1)) (hv : v.category = 1) (hw : w.category = 1) (kk : J X cc nL y k n (pc + 1) lv (v :: w :: v :: w :: st) hp) : J X cc nL y k n pc lv (v :: w :: st) hp := by
  obtain ⟨p, l, e, R, s, m, args, below, meth, c, Q, D, ad0, hp0⟩ := X
  intro hx hb hml hown hmn hts hG hZ ad H locs ls hR hL hS
  exact lv_dup2_11 hx hb hd ((jv_cat ad v).trans hv) ((jv_cat ad w).trans hw) (kk hx hb hml hown hmn hts hG hZ ad H locs ls hR hL ((hS.p hS.t.h).p hS.h))
theorem J.if_eq {a : Int32} {off : Int} {tgt : Nat} (hd : decode cc pc = .ok (.ifCond .eq off, 3)) (ht : (pc : Int) + off = (tgt : Int)) (kt : a = 0 → J X cc nL y k n tgt lv st hp) (kf : ¬ a = 0 → J X cc nL y k n (pc + 3) lv st hp) : J X cc nL y k n pc lv (.int a :: st) hp := by
  obtain ⟨p, l, e, R, s, m, args, below, meth, c, Q, D, ad0, hp0⟩ := X
  intro hx hb hml hown hmn hts hG hZ ad H locs ls hR hL hS
  exact lv_if_eq hx hb hd ht (fun h => kt h hx hb hml hown hmn hts hG hZ ad H locs ls hR hL hS.t) (fun h => kf h hx hb hml hown hmn hts hG hZ ad H locs ls hR hL hS.t)
theorem J.icmp_eq {a b : Int32} {off : Int} {tgt : Nat} (hd : decode cc pc = .ok (.if_icmp .eq off, 3)) (ht : (pc : Int) + off = (tgt : Int)) (kt : a = b → J X cc nL y k n tgt lv st hp) (kf : ¬ a = b → J X cc nL y k n (pc + 3) lv st hp) : J X cc nL y k n pc lv (.int b :: .int a :: st) hp := by
  obtain ⟨p, l, e, R, s, m, args, below, meth, c, Q, D, ad0, hp0⟩ := X
  intro hx hb hml hown hmn hts hG hZ ad H locs ls hR hL hS
  exact lv_icmp_eq hx hb hd ht (fun h => kt h hx hb hml hown hmn hts hG hZ ad H locs ls hR hL hS.t.t) (fun h => kf h hx hb hml hown hmn hts hG hZ ad H locs ls hR hL hS.t.t)
theorem J.if_ne {a : Int32} {off : Int} {tgt : Nat} (hd : decode cc pc = .ok (.ifCond .ne off, 3)) (ht : (pc : Int) + off = (tgt : Int)) (kt : ¬ a = 0 → J X cc nL y k n tgt lv st hp) (kf : a = 0 → J X cc nL y k n (pc + 3) lv st hp) : J X cc nL y k n pc lv (.int a :: st) hp := by
  obtain ⟨p, l, e, R, s, m, args, below, meth, c, Q, D, ad0, hp0⟩ := X
  intro hx hb hml hown hmn hts hG hZ ad H locs ls hR hL hS
  exact lv_if_ne hx hb hd ht (fun h => kt h hx hb hml hown hmn hts hG hZ ad H locs ls hR hL hS.t) (fun h => kf h hx hb hml hown hmn hts hG hZ ad H locs ls hR hL hS.t)
theorem J.icmp_ne {a b : Int32} {off : Int} {tgt : Nat} (hd : decode cc pc = .ok (.if_icmp .ne off, 3)) (ht : (pc : Int) + off = (tgt : Int)) (kt : ¬ a = b → J X cc nL y k n tgt lv st hp) (kf : a = b → J X cc nL y k n (pc + 3) lv st hp) : J X cc nL y k n pc lv (.int b :: .int a :: st) hp := by
  obtain ⟨p, l, e, R, s, m, args, below, meth, c, Q, D, ad0, hp0⟩ := X
  intro hx hb hml hown hmn hts hG hZ ad H locs ls hR hL hS
  exact lv_icmp_ne hx hb hd ht (fun h => kt h hx hb hml hown hmn hts hG hZ ad H locs ls hR hL hS.t.t) (fun h => kf h hx hb hml hown hmn hts hG hZ ad H locs ls hR hL hS.t.t)
theorem J.if_lt {a : Int32} {off : Int} {tgt : Nat} (hd : decode cc pc = .ok (.ifCond .lt off, 3)) (ht : (pc : Int) + off = (tgt : Int)) (kt : a < 0 → J X cc nL y k n tgt lv st hp) (kf : ¬ a < 0 → J X cc nL y k n (pc + 3) lv st hp) : J X cc nL y k n pc lv (.int a :: st) hp := by
  obtain ⟨p, l, e, R, s, m, args, below, meth, c, Q, D, ad0, hp0⟩ := X
  intro hx hb hml hown hmn hts hG hZ ad H locs ls hR hL hS
  exact lv_if_lt hx hb hd ht (fun h => kt h hx hb hml hown hmn hts hG hZ ad H locs ls hR hL hS.t) (fun h => kf h hx hb hml hown hmn hts hG hZ ad H locs ls hR hL hS.t)
theorem J.icmp_lt {a b : Int32} {off : Int} {tgt : Nat} (hd : decode cc pc = .ok (.if_icmp .lt off, 3)) (ht : (pc : Int) + off = (tgt : Int)) (kt : a < b → J X cc nL y k n tgt lv st hp) (kf : ¬ a < b → J X cc nL y k n (pc + 3) lv st hp) : J X cc nL y k n pc lv (.int b :: .int a :: st) hp := by
  obtain ⟨p, l, e, R, s, m, args, below, meth, c, Q, D, ad0, hp0⟩ := X
  intro hx hb hml hown hmn hts hG hZ ad H locs ls hR hL hS
  exact lv_icmp_lt hx hb hd ht (fun h => kt h hx hb hml hown hmn hts hG hZ ad H locs ls hR hL hS.t.t) (fun h => kf h hx hb hml hown hmn hts hG hZ ad H locs ls hR hL hS.t.t)
theorem J.if_ge {a : Int32} {off : Int} {tgt : Nat} (hd : decode cc pc = .ok (.ifCond .ge off, 3)) (ht : (pc : Int) + off = (tgt : Int)) (kt : 0 ≤ a → J X cc nL y k n tgt lv st hp) (kf : ¬ 0 ≤ a → J X cc nL y k n (pc + 3) lv st hp) : J X cc nL y k n pc lv (.int a :: st) hp := by
  obtain ⟨p, l, e, R, s, m, args, below, meth, c, Q, D, ad0, hp0⟩ := X
  intro hx hb hml hown hmn hts hG hZ ad H locs ls hR hL hS
  exact lv_if_ge hx hb hd ht (fun h => kt h hx hb hml hown hmn hts hG hZ ad H locs ls hR hL hS.t) (fun h => kf h hx hb hml hown hmn hts hG hZ ad H locs ls hR hL hS.t)
theorem J.icmp_ge {a b : Int32} {off : Int} {tgt : Nat} (hd : decode cc pc = .ok (.if_icmp .ge off, 3)) (ht : (pc : Int) + off = (tgt : Int)) (kt : b ≤ a → J X cc nL y k n tgt lv st hp) (kf : ¬ b ≤ a → J X cc nL y k n (pc + 3) lv st hp) : J X cc nL y k n pc lv (.int b :: .int a :: st) hp := by
  obtain ⟨p, l, e, R, s, m, args, below, meth, c, Q, D, ad0, hp0⟩ := X
  intro hx hb hml hown hmn hts hG hZ ad H locs ls hR hL hS
  exact lv_icmp_ge hx hb hd ht (fun h => kt h hx hb hml hown hmn hts hG hZ ad H locs ls hR hL hS.t.t) (fun h => kf h hx hb hml hown hmn hts hG hZ ad H locs ls hR hL hS.t.t)
theorem J.if_gt {a : Int32} {off : Int} {tgt : Nat} (hd : decode cc pc = .ok (.ifCond .gt off, 3)) (ht : (pc : Int) + off = (tgt : Int)) (kt : 0 < a → J X cc nL y k n tgt lv st hp) (kf : ¬ 0 < a → J X cc nL y k n (pc + 3) lv st hp) : J X cc nL y k n pc lv (.int a :: st) hp := by
  obtain ⟨p, l, e, R, s, m, args, below, meth, c, Q, D, ad0, hp0⟩ := X
  intro hx hb hml hown hmn hts hG hZ ad H locs ls hR hL hS
  exact lv_if_gt hx hb hd ht (fun h => kt h hx hb hml hown hmn hts hG hZ ad H locs ls hR hL hS.t) (fun h => kf h hx hb hml hown hmn hts hG hZ ad H locs ls hR hL hS.t)
theorem J.icmp_gt {a b : Int32} {off : Int} {tgt : Nat} (hd : decode cc pc = .ok (.if_icmp .gt off, 3)) (ht : (pc : Int) + off = (tgt : Int)) (kt : b < a → J X cc nL y k n tgt lv st hp) (kf : ¬ b < a → J X cc nL y k n (pc + 3) lv st hp) : J X cc nL y k n pc lv (.int b :: .int a :: st) hp := by
  obtain ⟨p, l, e, R, s, m, args, below, meth, c, Q, D, ad0, hp0⟩ := X
  intro hx hb hml hown hmn hts hG hZ ad H locs ls hR hL hS
  exact lv_icmp_gt hx hb hd ht (fun h => kt h hx hb hml hown hmn hts hG hZ ad H locs ls hR hL hS.t.t) (fun h => kf h hx hb hml hown hmn hts hG hZ ad H locs ls hR hL hS.t.t)
theorem J.if_le {a : Int32} {off : Int} {tgt : Nat} (hd : decode cc pc = .ok (.ifCond .le off, 3)) (ht : (pc : Int) + off = (tgt : Int)) (kt : a ≤ 0 → J X cc nL y k n tgt lv st hp) (kf : ¬ a ≤ 0 → J X cc nL y k n (pc + 3) lv st hp) : J X cc nL y k n pc lv (.int a :: st) hp := by
  obtain ⟨p, l, e, R, s, m, args, below, meth, c, Q, D, ad0, hp0⟩ := X
  intro hx hb hml hown hmn hts hG hZ ad H locs ls hR hL hS
  exact lv_if_le hx hb hd ht (fun h => kt h hx hb hml hown hmn hts hG hZ ad H locs ls hR hL hS.t) (fun h => kf h hx hb hml hown hmn hts hG hZ ad H locs ls hR hL hS.t)
theorem J.icmp_le {a b : Int32} {off : Int} {tgt : Nat} (hd : decode cc pc = .ok (.if_icmp .le off, 3)) (ht : (pc : Int) + off = (tgt : Int)) (kt : a ≤ b → J X cc nL y k n tgt lv st hp) (kf : ¬ a ≤ b → J X cc nL y k n (pc + 3) lv st hp) : J X cc nL y k n pc lv (.int b :: .int a :: st) hp := by
  obtain ⟨p, l, e, R, s, m, args, below, meth, c, Q, D, ad0, hp0⟩ := X
  intro hx hb hml hown hmn hts hG hZ ad H locs ls hR hL hS
  exact lv_icmp_le hx hb hd ht (fun h => kt h hx hb hml hown hmn hts hG hZ ad H locs ls hR hL hS.t.t) (fun h => kf h hx hb hml hown hmn hts hG hZ ad H locs ls hR hL hS.t.t)
theorem J.goto {off : Int} {tgt : Nat} (hd : decode cc pc = .ok (.goto off, 3)) (ht : (pc : Int) + off = (tgt : Int)) (kk : J X cc nL y k n tgt lv st hp) : J X cc nL y k n pc lv st hp := by
  obtain ⟨p, l, e, R, s, m, args, below, meth, c, Q, D, ad0, hp0⟩ := X
  intro hx hb hml hown hmn hts hG hZ ad H locs ls hR hL hS
  exact lv_goto hx hb hd ht (kk hx hb hml hown hmn hts hG hZ ad H locs ls hR hL hS)
theorem J.ifnullR {a : Nat} {off : Int} (hd : decode cc pc = .ok (.ifnull off, 3)) (kk : J X cc nL y k n (pc + 3) lv st hp) : J X cc nL y k n pc lv (.ref a :: st) hp := by
  obtain ⟨p, l, e, R, s, m, args, below, meth, c, Q, D, ad0, hp0⟩ := X
  intro hx hb hml hown hmn hts hG hZ ad H locs ls hR hL hS
  exact lv_ifnull hx hb hd (kk hx hb hml hown hmn hts hG hZ ad H locs ls hR hL hS.t)
theorem J.ifnullN {off : Int} {tgt : Nat} (hd : decode cc pc = .ok (.ifnull off, 3)) (ht : (pc : Int) + off = (tgt : Int)) (kk : J X cc nL y k n tgt lv st hp) : J X cc nL y k n pc lv (.null :: st) hp := by
  obtain ⟨p, l, e, R, s, m, args, below, meth, c, Q, D, ad0, hp0⟩ := X
  intro hx hb hml hown hmn hts hG hZ ad H locs ls hR hL hS
  exact lv_ifnullN hx hb hd ht (kk hx hb hml hown hmn hts hG hZ ad H locs ls hR hL hS.t)
theorem J.ifnonnullR {a : Nat} {off : Int} {tgt : Nat} (hd : decode cc pc = .ok (.ifnonnull off, 3)) (ht : (pc : Int) + off = (tgt : Int)) (kk : J X cc nL y k n tgt lv st hp) : J X cc nL y k n pc lv (.ref a :: st) hp := by
  obtain ⟨p, l, e, R, s, m, args, below, meth, c, Q, D, ad0, hp0⟩ := X
  intro hx hb hml hown hmn hts hG hZ ad H locs ls hR hL hS
  exact lv_ifnonnull hx hb hd ht (kk hx hb hml hown hmn hts hG hZ ad H locs ls hR hL hS.t)
theorem J.ifnonnullN {off : Int} (hd : decode cc pc = .ok (.ifnonnull off, 3)) (kk : J X cc nL y k n (pc + 3) lv st hp) : J X cc nL y k n pc lv (.null :: st) hp := by
  obtain ⟨p, l, e, R, s, m, args, below, meth, c, Q, D, ad0, hp0⟩ := X
  intro hx hb hml hown hmn hts hG hZ ad H locs ls hR hL hS
  exact lv_ifnonnullN hx hb hd (kk hx hb hml hown hmn hts hG hZ ad H locs ls hR hL hS.t)
theorem J.acmp_eq {a b : Nat} {off : Int} {tgt : Nat} (hd : decode cc pc = .ok (.if_acmp .eq off, 3)) (ht : (pc : Int) + off = (tgt : Int)) (kt : a = b → J X cc nL y k n tgt lv st hp) (kf : ¬ a = b → J X cc nL y k n (pc + 3) lv st hp) : J X cc nL y k n pc lv (.ref b :: .ref a :: st) hp := by
  obtain ⟨p, l, e, R, s, m, args, below, meth, c, Q, D, ad0, hp0⟩ := X
  intro hx hb hml hown hmn hts hG hZ ad H locs ls hR hL hS
  refine lv_acmp_eq (rx := some (ad a)) (ry := some (ad b)) hx hb hd ht (fun h => kt (hR.2.1 a b hS.t.h.live hS.h.live (Option.some.inj h)) hx hb hml hown hmn hts hG hZ ad H locs ls hR hL hS.t.t) (fun h => kf (fun q => h (by rw [q])) hx hb hml hown hmn hts hG hZ ad H locs ls hR hL hS.t.t)
theorem J.acmp_ne {a b : Nat} {off : Int} {tgt : Nat} (hd : decode cc pc = .ok (.if_acmp .ne off, 3)) (ht : (pc : Int) + off = (tgt : Int)) (kt : ¬ a = b → J X cc nL y k n tgt lv st hp) (kf : a = b → J X cc nL y k n (pc + 3) lv st hp) : J X cc nL y k n pc lv (.ref b :: .ref a :: st) hp := by
  obtain ⟨p, l, e, R, s, m, args, below, meth, c, Q, D, ad0, hp0⟩ := X
  intro hx hb hml hown hmn hts hG hZ ad H locs ls hR hL hS
  refine lv_acmp_ne (rx := some (ad a)) (ry := some (ad b)) hx hb hd ht (fun h => kt (fun q => h (by rw [q])) hx hb hml hown hmn hts hG hZ ad H locs ls hR hL hS.t.t) (fun h => kf (hR.2.1 a b hS.t.h.live hS.h.live (Option.some.inj h)) hx hb hml hown hmn hts hG hZ ad H locs ls hR hL hS.t.t)
theorem J.acmp_eqN {b : Nat} {off : Int} {tgt : Nat} (hd : decode cc pc = .ok (.if_acmp .eq off, 3)) (ht : (pc : Int) + off = (tgt : Int)) (kf : J X cc nL y k n (pc + 3) lv st hp) : J X cc nL y k n pc lv (.ref b :: .null :: st) hp := by
  obtain ⟨p, l, e, R, s, m, args, below, meth, c, Q, D, ad0, hp0⟩ := X
  intro hx hb hml hown hmn hts hG hZ ad H locs ls hR hL hS
  refine lv_acmp_eq (rx := none) (ry := some (ad b)) hx hb hd ht (fun h => by cases h) (fun h => kf hx hb hml hown hmn hts hG hZ ad H locs ls hR hL hS.t.t)
theorem J.acmp_neN {b : Nat} {off : Int} {tgt : Nat} (hd : decode cc pc = .ok (.if_acmp .ne off, 3)) (ht : (pc : Int) + off = (tgt : Int)) (kt : J X cc nL y k n tgt lv st hp) : J X cc nL y k n pc lv (.ref b :: .null :: st) hp := by
  obtain ⟨p, l, e, R, s, m, args, below, meth, c, Q, D, ad0, hp0⟩ := X
  intro hx hb hml hown hmn hts hG hZ ad H locs ls hR hL hS
  refine lv_acmp_ne (rx := none) (ry := some (ad b)) hx hb hd ht (fun h => kt hx hb hml hown hmn hts hG hZ ad H locs ls hR hL hS.t.t) (fun h => by cases h)
theorem J.lookup {dflt : Int} {ps : Array (Int × Int)} {len : Nat} {x : Int32} {off : Int} {tgt : Nat} (hd : decode cc pc = .ok (.lookupswitch dflt ps, len)) (hp9 : (ps.toList.zip (ps.toList.drop 1)).all (fun (a, next) => a.1 < next.1) = true) (ho : Op.lookupswitch.offset ps.toList dflt x.toInt = off) (ht : (pc : Int) + off = (tgt : Int)) (kk : J X cc nL y k n tgt lv st hp) : J X cc nL y k n pc lv (.int x :: st) hp := by
  obtain ⟨p, l, e, R, s, m, args, below, meth, c, Q, D, ad0, hp0⟩ := X
  intro hx hb hml hown hmn hts hG hZ ad H locs ls hR hL hS
  exact lv_lookup hx hb hd hp9 ho ht (kk hx hb hml hown hmn hts hG hZ ad H locs ls hR hL hS.t)
theorem J.tableOut {dflt lo hi : Int} {offs : Array Int} {len : Nat} {x : Int32} {tgt : Nat} (hd : decode cc pc = .ok (.tableswitch dflt lo hi offs, len)) (h : x.toInt < lo ∨ hi < x.toInt) (ht : (pc : Int) + dflt = (tgt : Int)) (kk : J X cc nL y k n tgt lv st hp) : J X cc nL y k n pc lv (.int x :: st) hp := by
  obtain ⟨p, l, e, R, s, m, args, below, meth, c, Q, D, ad0, hp0⟩ := X
  intro hx hb hml hown hmn hts hG hZ ad H locs ls hR hL hS
  exact lv_tableOut hx hb hd h ht (kk hx hb hml hown hmn hts hG hZ ad H locs ls hR hL hS.t)
theorem J.tableIn {dflt lo hi : Int} {offs : Array Int} {len : Nat} {x : Int32} {off : Int} {tgt : Nat} (hd : decode cc pc = .ok (.tableswitch dflt lo hi offs, len)) (h1 : ¬ x.toInt < lo) (h2 : ¬ hi < x.toInt) (ho : offs[(x.toInt - lo).toNat]? = some off) (ht : (pc : Int) + off = (tgt : Int)) (kk : J X cc nL y k n tgt lv st hp) : J X cc nL y k n pc lv (.int x :: st) hp := by
  obtain ⟨p, l, e, R, s, m, args, below, meth, c, Q, D, ad0, hp0⟩ := X
  intro hx hb hml hown hmn hts hG hZ ad H locs ls hR hL hS
  exact lv_tableIn hx hb hd h1 h2 ho ht (kk hx hb hml hown hmn hts hG hZ ad H locs ls hR hL hS.t)
theorem J.widen {k2 n2 : Nat} (h1 : k ≤ k2) (h2 : n ≤ n2) (kk : J X cc nL y k2 n2 pc lv st hp) : J X cc nL y k n pc lv st hp := by
  obtain ⟨p, l, e, R, s, m, args, below, meth, c, Q, D, ad0, hp0⟩ := X
  intro hx hb hml hown hmn hts hG hZ ad H locs ls hR hL hS
  exact W.widen h1 h2 (kk hx hb hml hown hmn hts hG hZ ad H locs ls hR hL hS)
/-- fewer locals told -/
theorem J.less {lv' : List (Option Value)} (h : ∀ (i : Nat) (v : Value), lv'[i]? = some (some v) → lv[i]? = some (some v)) (kk : J X cc nL y k n pc lv' st hp) : J X cc nL y k n pc lv st hp := by
  obtain ⟨p, l, e, R, s, m, args, below, meth, c, Q, D, ad0, hp0⟩ := X
  intro hx hb hml hown hmn hts hG hZ ad H locs ls hR hL hS
  exact kk hx hb hml hown hmn hts hG hZ ad H locs ls hR ⟨hL.1, hL.2.1, fun i v hv => hL.2.2 i v (h i v hv)⟩ hS
def jmask (lv : List (Option Value)) (ms : List Bool) : List (Option Value) := List.zipWith (fun v b => if b = true then v else none) lv ms
theorem J.mask {lv' : List (Option Value)} (ms : List Bool) (h : jmask lv ms = lv') (kk : J X cc nL y k n pc lv' st hp) : J X cc nL y k n pc lv st hp := by
  refine J.less (fun i v hv => ?_) kk
  subst h
  unfold jmask at hv
  rw [List.getElem?_zipWith] at hv
  split at hv
  · rename_i a b ha hb
    cases b
    · simp at hv
    · simp at hv
      rw [ha, hv]
  · cases hv
end JR
theorem jbd {α β : Type} {o : Option α} {f : α → Option β} {b : β} (h : o.bind f = some b) : ∃ a, o = some a ∧ f a = some b := Option.bind_eq_some_iff.mp h
/-- what a call gives, and the heap behind it -/
def jb {α β : Type} (o : Option (α × jH)) (f : α → jH → Option β) : Option β := match o with
  | some (a, h) => f a h
  | none => none
theorem jbs {α β : Type} {o : Option (α × jH)} {f : α → jH → Option β} {b : β} (h : jb o f = some b) : ∃ a hp, o = some (a, hp) ∧ f a hp = some b := by
  unfold jb at h
  split at h
  · rename_i a q
    exact ⟨a, q, rfl, h⟩
  · cases h
theorem jso {α : Type} {a b : α} {h h' : jH} (e : some (a, h) = some (b, h')) : b = a ∧ h' = h := by
  injection e with e
  injection e with e1 e2
  exact ⟨e1.symm, e2.symm⟩
theorem jz01 {v : Int32} (h : v = 0 ∨ v = 1) : ∀ ad : Nat → Nat, narrow .boolean (jv ad (.int v)) = jv ad (.int v) ∧ fits .boolean (jv ad (.int v)) = true := by
  intro ad
  rcases h with rfl | rfl
  · exact ⟨narrow_b0, rfl⟩
  · exact ⟨narrow_b1, rfl⟩
theorem jz01n {v : Int32} (h : v = 0 ∨ v = 1) : narrow .boolean (.int v) = .int v := by
  rcases h with rfl | rfl
  · exact narrow_b0
  · exact narrow_b1
