/-! THE J LAYER, 6: a method's head and ends, calls -/
set_option maxRecDepth 100000
def jX0 (X : jX) (hp : jH) : Prop := match X with
  | (_, _, _, _, _, _, _, _, _, _, _, _, _, hp0) => hp0 = hp
/-- the locals at a method's entry -/
def jsl (av : List Value) : List (Option Value) := av.flatMap fun v => if v.category = 2 then [some v, none] else [some v]
def jlv0 (av : List Value) (n : Nat) : List (Option Value) := jsl av ++ List.replicate (n - (jsl av).length) none
theorem jsl_len (ad : Nat → Nat) (av : List Value) : (lg_sl (av.map (jv ad))).length = (jsl av).length := by
  induction av with
  | nil => rfl
  | cons v t ih =>
    simp only [lg_sl, jsl, List.map_cons, List.flatMap_cons, List.length_append, jv_cat] at ih ⊢
    by_cases h : v.category = 2 <;> simp [h, ih]
theorem jsl_at (ad : Nat → Nat) (av : List Value) : ∀ (i : Nat) (v : Value), (jsl av)[i]? = some (some v) → (lg_sl (av.map (jv ad)))[i]? = some (.val (jv ad v)) ∧ v ∈ av := by
  induction av with
  | nil => intro i v h; simp [jsl] at h
  | cons w t ih =>
    intro i v h
    simp only [lg_sl, jsl, List.map_cons, List.flatMap_cons, jv_cat] at ih h ⊢
    by_cases hc : w.category = 2
    · simp only [hc, if_true] at h ⊢
      match i, h with
      | 0, h => simp at h; subst h; simp
      | 1, h => simp at h
      | i + 2, h =>
        simp only [List.cons_append, List.nil_append, List.getElem?_cons_succ] at h ⊢
        obtain ⟨h1, h2⟩ := ih i v h
        exact ⟨h1, List.mem_cons_of_mem _ h2⟩
    · simp only [hc, if_false] at h ⊢
      match i, h with
      | 0, h => simp at h; subst h; simp
      | i + 1, h =>
        simp only [List.cons_append, List.nil_append, List.getElem?_cons_succ] at h ⊢
        obtain ⟨h1, h2⟩ := ih i v h
        exact ⟨h1, List.mem_cons_of_mem _ h2⟩
theorem jL.entry {hp : jH} {ad : Nat → Nat} {av : List Value} {n : Nat} (hS : jS hp av) (hlen : (jsl av).length ≤ n) : jL hp ad ((lg_sl (av.map (jv ad)) ++ List.replicate (n - (lg_sl (av.map (jv ad))).length) Slot.unset).toArray) n (jlv0 av n) := by
  have h0 := lv_entry (av.map (jv ad)) (n := n) (by rw [jsl_len]; exact hlen)
  refine ⟨h0.1, h0.2.1, fun i v hv => ?_⟩
  unfold jlv0 at hv
  by_cases hi : i < (jsl av).length
  · rw [List.getElem?_append_left hi] at hv
    obtain ⟨h1, h2⟩ := jsl_at ad av i v hv
    refine ⟨?_, hS v h2⟩
    rw [List.getElem?_toArray, List.getElem?_append_left (by rw [jsl_len]; exact hi)]
    exact h1
  · rw [List.getElem?_append_right (by omega)] at hv
    rw [List.getElem?_replicate] at hv
    split at hv
    · exact absurd hv (by simp)
    · cases hv
/-- THE HEAD OF A METHOD -/
theorem jM.of {D : va_G} {l : Launch} {y : MethodName} {cc : ByteArray} {maxL : Nat} {ret : Option FieldType} {rm : Room} {hp hp' : jH} {av : List Value} {r : Option Value} {lv0 : List (Option Value)} (hy : plainName y.cls = true) (hlen : (jsl av).length ≤ maxL) (hlv : jlv0 av maxL = lv0)
    (body : ∀ X : jX, jDl X D l → jRoom X rm.frames rm.locals rm.cells rm.slots → jEnds X ret r hp' rm.cells rm.slots → jX0 X hp → J X cc maxL y 0 0 0 lv0 [] hp) : jM D l y (ws_ y cc maxL ret) rm hp av r hp' := by
  intro ad sz
  refine Met.ofW (cc := cc) (maxL := maxL) (ret := ret) hy rfl ?_
  intro p e s m args below meth c s₁ B hml hv
  obtain ⟨rfl, hsz, hG, hZ, hC, hI, hS⟩ := hv
  subst hsz
  subst hlv
  have hts := atoms_spec (ws := ws_ y cc maxL ret) B.pre
  have hts : ∀ w ∈ lw_all, w.before _ s = true := fun w h => hts w (List.mem_cons_of_mem _ h)
  have hb := body (p, l, e, (headSpec (ws_ y cc maxL ret) rm).room, s, m, (av.map (jv ad)).toArray, below, meth, c, MQ below (jQ D ad hp s.heap.size r hp') (av.map (jv ad)).toArray s rm.cells rm.slots (jF ad hp s.heap.size), D, ad, hp) ⟨rfl, rfl⟩ ⟨Nat.le_refl _, Nat.le_refl _, Nat.le_refl _, Nat.le_refl _⟩ ⟨B.returns, B.notSynchronized, rfl⟩ rfl
  rw [lg_entry_eq]
  exact hb B.exec B.bytes hml (findClass_of_methodNamed B.named) (name_of_methodNamed B.named B.method).1 hts hG hZ ad s.heap [] _ ⟨hC, hI, va_S.rf, fun n h1 h2 => Or.inl ⟨n, h1, h2, rfl⟩, fun n h => ⟨rfl, h⟩, fun n _ h => h⟩ (jL.entry hS hlen) jS.nil
/-- the world at a method's end: perhaps with less told -/
theorem jR.end {D : va_G} {s t : State} {ad0 ad : Nat → Nat} {hp0 hp hp' : jH} {H : Heap} {locs : List Loc} {a : Array Value} {r : Option Value} (hR : jR D s ad0 hp0 ad hp H locs) (ht : t.heap = H) (hvm : s.vm.Alike t.vm) (hr : ∀ v, r = some v → jok hp' v) (hsub : ∀ n o, hp' n = some o → hp n = some o ∧ jclo hp' o) (hdom : ∀ n, hp0 n ≠ none → hp' n ≠ none) : jQ D ad0 hp0 s.heap.size r hp' a s (.returned (r.map (jv ad))) t := by
  have hlive : ∀ n, hp' n ≠ none → hp n ≠ none := fun n h => by
    obtain ⟨o, ho⟩ := jlive h
    rw [(hsub n o ho).1]
    exact fun q => by cases q
  refine ⟨ad, rfl, fun n o ho => ⟨?_, (hsub n o ho).2⟩, fun i j hi hj e => hR.2.1 i j (hlive i hi) (hlive j hj) e, hR.2.2.1.F ht, fun n hn h => hR.2.2.2.1 n (hlive n hn) h, fun n hn => ⟨(hR.2.2.2.2.1 n hn).1, hdom n hn⟩, fun n hn h => hR.2.2.2.2.2 n hn (hlive n h), hr⟩
  rw [ht]
  exact (hR.1 n o (hsub n o ho).1).1.moved hvm
section JE
variable {X : jX} {cc : ByteArray} {nL : Nat} {y : MethodName} {k n pc : Nat} {lv : List (Option Value)} {st : List Value} {hp hp' : jH} {mc ms : Nat}
theorem J.iret {v : Int32} (hE : jEnds X (some .int) (some (.int v)) hp mc ms) (hk : k ≤ mc) (hn : n ≤ ms) (hd : decode cc pc = .ok (.ireturn, 1)) : J X cc nL y k n pc lv [.int v] hp := by
  obtain ⟨p, l, e, R, s, m, args, below, meth, c, Q, D, ad0, hp0⟩ := X
  intro hx hb hml hown hmn hts hG hZ ad H locs ls hR hL hS
  obtain ⟨hr, hlocks, rfl⟩ := hE
  refine W.widen hk hn ?_
  exact W.iret hx hb hr (fun t ht hW => hR.end (r := some (.int v)) ht hW.alike (fun w h => by cases h; exact jok_i) (fun i o ho => ⟨ho, (hR.1 i o ho).2⟩) (fun i hi => (hR.2.2.2.2.1 i hi).2)) hR.2.2.1.2.2 hd
theorem J.zret {v : Int32} (hE : jEnds X (some .boolean) (some (.int v)) hp mc ms) (hv : narrow .boolean (.int v) = .int v) (hk : k ≤ mc) (hn : n ≤ ms) (hd : decode cc pc = .ok (.ireturn, 1)) : J X cc nL y k n pc lv [.int v] hp := by
  obtain ⟨p, l, e, R, s, m, args, below, meth, c, Q, D, ad0, hp0⟩ := X
  intro hx hb hml hown hmn hts hG hZ ad H locs ls hR hL hS
  obtain ⟨hr, hlocks, rfl⟩ := hE
  refine W.widen hk hn ?_
  exact W.zret hx hb hr hv (fun t ht hW => hR.end (r := some (.int v)) ht hW.alike (fun w h => by cases h; exact jok_i) (fun i o ho => ⟨ho, (hR.1 i o ho).2⟩) (fun i hi => (hR.2.2.2.2.1 i hi).2)) hR.2.2.1.2.2 hd
theorem J.lret {v : Int64} (hE : jEnds X (some .long) (some (.long v)) hp mc ms) (hk : k ≤ mc) (hn : n ≤ ms) (hd : decode cc pc = .ok (.lreturn, 1)) : J X cc nL y k n pc lv [.long v] hp := by
  obtain ⟨p, l, e, R, s, m, args, below, meth, c, Q, D, ad0, hp0⟩ := X
  intro hx hb hml hown hmn hts hG hZ ad H locs ls hR hL hS
  obtain ⟨hr, hlocks, rfl⟩ := hE
  refine W.widen hk hn ?_
  exact W.lret hx hb hr (fun t ht hW => hR.end (r := some (.long v)) ht hW.alike (fun w h => by cases h; exact jok_l) (fun i o ho => ⟨ho, (hR.1 i o ho).2⟩) (fun i hi => (hR.2.2.2.2.1 i hi).2)) hR.2.2.1.2.2 hd
theorem J.vret (hE : jEnds X none none hp mc ms) (hk : k ≤ mc) (hn : n ≤ ms) (hd : decode cc pc = .ok (.return_, 1)) : J X cc nL y k n pc lv [] hp := by
  obtain ⟨p, l, e, R, s, m, args, below, meth, c, Q, D, ad0, hp0⟩ := X
  intro hx hb hml hown hmn hts hG hZ ad H locs ls hR hL hS
  obtain ⟨hr, hlocks, rfl⟩ := hE
  refine W.widen hk hn ?_
  exact W.vret hx hb hr (fun t ht hW => hR.end (r := none) ht hW.alike (fun w h => by cases h) (fun i o ho => ⟨ho, (hR.1 i o ho).2⟩) (fun i hi => (hR.2.2.2.2.1 i hi).2)) hR.2.2.1.2.2 hd
theorem J.aret {a : Nat} {rt : FieldType} (hE : jEnds X (some rt) (some (.ref a)) hp mc ms) (hrt : (∃ n, rt = .object n) ∨ ∃ t, rt = .array t) (hk : k ≤ mc) (hn : n ≤ ms) (hd : decode cc pc = .ok (.areturn, 1)) : J X cc nL y k n pc lv [.ref a] hp := by
  obtain ⟨p, l, e, R, s, m, args, below, meth, c, Q, D, ad0, hp0⟩ := X
  intro hx hb hml hown hmn hts hG hZ ad H locs ls hR hL hS
  obtain ⟨hr, hlocks, rfl⟩ := hE
  refine W.widen hk hn ?_
  exact W.aret hx hb hr hrt (Or.inr ⟨ad a, rfl⟩) (fun t ht hW => hR.end (r := some (.ref a)) ht hW.alike (fun w h => by cases h; exact hS.h) (fun i o ho => ⟨ho, (hR.1 i o ho).2⟩) (fun i hi => (hR.2.2.2.2.1 i hi).2)) hR.2.2.1.2.2 hd
/-- .. with less told -/
theorem J.iretD {v : Int32} {hpE : jH} (h0 : jX0 X hpE) (hE : jEnds X (some .int) (some (.int v)) hp' mc ms) (hsub : ∀ n o, hp' n = some o → hp n = some o ∧ jclo hp' o) (hdom : ∀ n, hpE n ≠ none → hp' n ≠ none) (hk : k ≤ mc) (hn : n ≤ ms) (hd : decode cc pc = .ok (.ireturn, 1)) : J X cc nL y k n pc lv [.int v] hp := by
  obtain ⟨p, l, e, R, s, m, args, below, meth, c, Q, D, ad0, hp0⟩ := X
  intro hx hb hml hown hmn hts hG hZ ad H locs ls hR hL hS
  obtain ⟨hr, hlocks, rfl⟩ := hE
  have h0 : hp0 = hpE := h0
  subst h0
  refine W.widen hk hn ?_
  exact W.iret hx hb hr (fun t ht hW => hR.end (r := some (.int v)) ht hW.alike (fun w h => by cases h; exact jok_i) hsub hdom) hR.2.2.1.2.2 hd
end JE
theorem jF_sub {D : va_G} {s : State} {ad0 ad : Nat → Nat} {hp0 hp : jH} {H : Heap} {locs : List Loc} (hR : jR D s ad0 hp0 ad hp H locs) : ∀ q, jF ad hp H.size q → jF ad0 hp0 s.heap.size q := by
  intro q hq
  rcases hq with ⟨i, h1, h2, rfl⟩ | h
  · exact hR.2.2.2.1 i h1 h2
  · exact Or.inr (Nat.le_trans hR.2.2.1.1 h)
theorem jG.same {D : va_G} {u U : State} (h : u.vm = U.vm) (hG : jG D u) : jG D U := by
  have hal : u.vm.Alike U.vm := by rw [h]; exact Vm.Alike.refl _
  refine ⟨va_K.moved hal hG.1, fun w hw hk => ?_, hG.2.2.1.moved hal, hG.2.2.2.moved hal⟩
  have h0 := hG.2.1 w hw hk
  cases w with
  | fieldLinkNest a i b n d q => exact va_Nw.same rfl h h0
  | methodLinkNest a i x q => exact va_Nw.same rfl h h0
  | castable a b => exact va_Nw.same rfl h h0
  | declares x => exact va_Nw.same rfl h h0
  | arrayOver t =>
    cases t with
    | object C => exact va_AO.moved hal h0
    | _ => exact Bool.noConfusion (show false = true from hk)
  | _ => exact Bool.noConfusion (show false = true from hk)
theorem jZ.at {D : va_G} {s U : State} {ad0 ad : Nat → Nat} {hp0 hp : jH} {H : Heap} {locs : List Loc} (hR : jR D s ad0 hp0 ad hp H locs) (hZ : jZ ad0 hp0 s) (hU : U.heap = H) (hvm : s.vm.Alike U.vm) : jZ ad hp U := by
  have key : ∀ (C nm d : String) (i : Nat), i < 8 → (hp0 i ≠ none → va_Z C nm d (.ref (ad0 i)) (jF ad0 hp0 s.heap.size) s s.heap) → hp i ≠ none → va_Z C nm d (.ref (ad i)) (jF ad hp U.heap.size) U U.heap := by
    intro C nm d i hi h h1
    have h2 := hR.2.2.2.2.2 i hi h1
    rw [(hR.2.2.2.2.1 i h2).1, hU]
    exact ((((h h2).kept hR.2.2.1.2.1).narrow (jF_sub hR))).moved hvm
  have ks : ∀ (nm d : String), jLS nm d (jF ad0 hp0 s.heap.size) s s.heap → jLS nm d (jF ad hp U.heap.size) U U.heap := by
    intro nm d h
    rw [hU]
    exact (((h.kept hR.2.2.1.2.1).narrow (jF_sub hR))).moved hvm
  exact ⟨key _ _ _ 1 (by decide) hZ.1, key _ _ _ 2 (by decide) hZ.2.1, ks _ _ hZ.2.2.1, ks _ _ hZ.2.2.2⟩
theorem jPc.blind {D : va_G} {ad : Nat → Nat} {sz : Nat} {hp : jH} {av : List Value} : FrameBlind (jPc D ad sz hp av) := by
  intro a U g mk h
  obtain ⟨h1, h2, h3, h4, h5, h6, h7⟩ := h
  exact ⟨h1, h2, jG.same (u := U) (U := U.calling g mk a) rfl h3, ⟨fun q => (h4.1 q).moved (u := U) (U := U.calling g mk a) (Vm.Alike.refl U.vm), fun q => (h4.2.1 q).moved (u := U) (U := U.calling g mk a) (Vm.Alike.refl U.vm), h4.2.2.1.moved (u := U) (U := U.calling g mk a) (Vm.Alike.refl U.vm), h4.2.2.2.moved (u := U) (U := U.calling g mk a) (Vm.Alike.refl U.vm)⟩, h5.moved (s := U) (u := U.calling g mk a) (Vm.Alike.refl U.vm), h6, h7⟩
theorem jPc.at {D : va_G} {s : State} {ad0 ad : Nat → Nat} {hp0 hp : jH} {H : Heap} {locs : List Loc} {av : List Value} (hR : jR D s ad0 hp0 ad hp H locs) (hG : jG D s) (hZ : jZ ad0 hp0 s) (hS : jS hp av) : ∀ U : State, U.heap = H → s.WarmedH U.vm → jPc D ad H.size hp av (av.map (jv ad)).toArray U := by
  intro U hU hW
  exact ⟨rfl, by rw [hU], hG.moved hW, jZ.at hR hZ hU hW.alike, by rw [hU]; exact (hR.1).moved hW.alike, hR.2.1, hS⟩
/-- behind a call -/
theorem jcall {p : Program} {l : Launch} {e : Env} {R : Room} {s : State} {m : MethodId} {args : Array Value} {below : List Frame} {meth : Method} {c : Code} {H : Heap} {locs : List Loc} {k n mc ms pc nL : Nat} {Q : State → Prop} {ls : Array Slot} {st0 st : List Value} {D : va_G} {ad0 ad : Nat → Nat} {hp0 hp hp1 : jH} {lv : List (Option Value)} {r : Option Value} {a : Array Value}
    (hr : va_Run p l e R s m args below meth c H locs k n mc ms (F0 m pc ls st0) (st.map (jv ad)) (jQ D ad hp H.size r hp1 a) (jF ad hp H.size)) (hR : jR D s ad0 hp0 ad hp H locs) (hL : jL hp ad ls nL lv) (hS : jS hp st)
    (kk : ∀ (ad' : Nat → Nat) (H1 : Heap) (locs1 : List Loc), jR D s ad0 hp0 ad' hp1 H1 locs1 → jL hp1 ad' ls nL lv → jS hp1 (r.toList ++ st) → W p l e R s m args below meth c H1 locs1 (k + mc) (n + ms) Q (F0 m (pc + 3) ls ((r.toList ++ st).map (jv ad')))) : W p l e R s m args below meth c H locs k n Q (F0 m pc ls st0) := by
  intro T hT X
  obtain ⟨v, st₀, t, T', L, h0, X', hL', e1, e2, ⟨ad', hv, hC, hI, hF, hWr, hE, h9, hok⟩, step⟩ := hr T hT X
  have hvm : s.vm.Alike t.vm := by rw [← e2]; exact X'.warmed.alike
  rw [va_F, h0] at hF
  have hsub := jF_sub hR
  have hSS := hR.2.2.1
  have hR' : jR D s ad0 hp0 ad' hp1 T'.heap (locs ++ L) := by
    refine ⟨by rw [e1]; exact hC.moved hvm.symm, hI, ⟨Nat.le_trans hSS.1 (by rw [e1]; exact hF.1), fun q h1 h2 => ?_, fun q hq => ?_⟩, fun i hi h => hsub _ (hWr i hi h), fun i hi => ⟨?_, (hE i (hR.2.2.2.2.1 i hi).2).2⟩, fun i hi h => hR.2.2.2.2.2 i hi (h9 i hi h)⟩
    · rw [e1, hF.2 q (Nat.lt_of_lt_of_le h1 hSS.1) (fun z => h2 (hsub q z))]
      exact hSS.2.1 q h1 h2
    · rcases List.mem_append.mp hq with h | h
      · exact hSS.2.2 q h
      · exact hsub _ (hL' q h)
    · rw [(hE i (hR.2.2.2.2.1 i hi).2).1]
      exact (hR.2.2.2.2.1 i hi).1
  have hS1 : jS hp1 (r.toList ++ st) := by
    intro w hw
    rcases List.mem_append.mp hw with h | h
    · exact hok w (by simpa using h)
    · exact (hS.mono (fun i hi => (hE i hi).2)) w h
  obtain ⟨t2, a1, b1⟩ := kk ad' T'.heap (locs ++ L) hR' (hL.move hE) hS1 T' rfl X'
  refine ⟨t2, step t2 ?_, b1⟩
  have ev : v.toList ++ st.map (jv ad) = (r.toList ++ st).map (jv ad') := by
    rw [List.map_append, hS.same (fun i hi => (hE i hi).1)]
    congr 1
    have hv' : v = r.map (jv ad') := by injection hv
    rw [hv']
    cases r <;> rfl
  rw [ev]
  exact a1
theorem jroomW {ad : Nat → Nat} {m : MethodId} {pc : Nat} {ls : Array Slot} {rest st : List Value} (h : (st.map fun v => v.category).sum ≤ 8) : 2 * (F0 m pc ls rest).monitorRoom + ((st.map (jv ad)).map fun v => v.category).sum ≤ 8 := by
  have e : (st.map (jv ad)).map (fun v => v.category) = st.map (fun v => v.category) := by
    rw [List.map_map]
    exact List.map_congr_left fun v _ => jv_cat ad v
  exact lv_room (by rw [e]; exact h)
section JC
variable {X : jX} {cc : ByteArray} {nL : Nat} {y : MethodName} {k n pc : Nat} {lv : List (Option Value)} {st : List Value} {hp hp1 : jH} {F L MC MS : Nat} {D : va_G} {l : Launch} {y' : MethodName} {bytes : ByteArray} {maxL ix nA : Nat} {ret : Option FieldType} {rm : Room} {As S : List Value} {b : Nat} {r : Option Value}
/-- invokevirtual -/
theorem J.callV {C : String} {T : u_T} {N : Nat} (ci : Nat) (hDl : jDl X D l) (hRm : jRoom X F L MC MS) (hM : jM D l y' (ws_ y' bytes maxL ret) rm hp (.ref b :: As) r hp1) (hT : GoodIn lw_all (wsV y.cls ix C y' (ws_ y' bytes maxL ret))) (hd9 : y'.cls = C ∧ y'.cls ≠ "java/lang/invoke/MethodHandle" ∧ y'.cls ≠ "java/lang/invoke/VarHandle" ∧ (parseMethodDescriptor y'.desc).map (fun d => d.parameters.length) = some nA) (hc : jcl[ci]? = some (C, T, N)) (hb0 : ∃ u, jis hp b ci = some u) (hnA : As.length = nA) (hfr : rm.frames + 1 ≤ F) (hlo : 8 + (maxL + 11) + rm.locals ≤ L) {k2 n2 : Nat} (hk2 : k + rm.cells ≤ k2) (hn2 : n + rm.slots ≤ n2) (hce : k2 ≤ MC) (hsl : n2 ≤ MS) (hW : (st.map fun v => v.category).sum ≤ 8) (hS0 : S = As.reverse ++ .ref b :: st) (hd : decode cc pc = .ok (.invokevirtual ix, 3)) (kk : J X cc nL y k2 n2 (pc + 3) lv (r.toList ++ st) hp1) : J X cc nL y k n pc lv S hp := by
  obtain ⟨p, l', e, R, s, m, args, below, meth, c, Q, D', ad0, hp0⟩ := X
  intro hx hb hml hown hmn hts hG hZ ad H locs ls hR hL hS
  obtain ⟨rfl, rfl⟩ : l' = l ∧ D' = D := hDl
  have hRm : F ≤ R.frames ∧ L ≤ R.locals ∧ MC ≤ R.cells ∧ MS ≤ R.slots := hRm
  subst hS0
  obtain ⟨u, hu⟩ := hb0
  obtain ⟨fs, h1⟩ := jis_spec hu
  obtain ⟨⟨q, hq, cell, q1, q2, q3, -⟩, -⟩ := hR.1 b _ h1
  have hSt : jS hp st := fun w hw => hS w (List.mem_append_right _ (List.mem_cons_of_mem _ hw))
  have hSA : jS hp (.ref b :: As) := by
    intro w hw
    rcases List.mem_cons.mp hw with h | h
    · exact hS w (by rw [h]; exact List.mem_append_right _ List.mem_cons_self)
    · exact hS w (List.mem_append_left _ (List.mem_reverse.mpr h))
  refine jcall (va_runV (C := C) (As := As.map (jv ad)) (rest := st.map (jv ad)) (b := ad b) ⟨hx, hb, hml, hown, hts⟩ (hM ad H.size) (cwV nA hts hT rfl rfl rfl hd9 ⟨Nat.le_trans hfr hRm.1, Nat.le_trans hlo hRm.2.1⟩) ⟨jPc.blind, ⟨cell, q1, by rw [q3]; rfl, by rw [q2]; exact (hG.1.1 ci _ hc).2.1⟩, jPc.at hR hG hZ hSA⟩ rfl (by rw [List.length_map]; exact hnA) hL.1 ?_ (jroomW hW) hd ⟨Nat.le_trans hk2 (Nat.le_trans hce hRm.2.2.1), Nat.le_trans hn2 (Nat.le_trans hsl hRm.2.2.2)⟩) hR hL hSt (fun ad' H1 locs1 hR' hL' hS' => W.widen hk2 hn2 <| kk hx hb hml hown hmn hts hG hZ ad' H1 locs1 ls hR' hL' hS')
  show (As.reverse ++ .ref b :: st).map (jv ad) = _
  simp [jv]
/-- invokestatic -/
theorem J.callS (hDl : jDl X D l) (hRm : jRoom X F L MC MS) (hM : jM D l y' (ws_ y' bytes maxL ret) rm hp As r hp1) (hT : GoodIn lw_all (va_wsS y.cls ix y' (ws_ y' bytes maxL ret))) (hd9 : y'.cls ≠ "java/lang/invoke/MethodHandle" ∧ y'.cls ≠ "java/lang/invoke/VarHandle" ∧ (parseMethodDescriptor y'.desc).map (fun d => d.parameters.length) = some nA) (hnA : As.length = nA) (hfr : rm.frames + 1 ≤ F) (hlo : 8 + (maxL + 11) + rm.locals ≤ L) {k2 n2 : Nat} (hk2 : k + rm.cells ≤ k2) (hn2 : n + rm.slots ≤ n2) (hce : k2 ≤ MC) (hsl : n2 ≤ MS) (hW : (st.map fun v => v.category).sum ≤ 8) (hS0 : S = As.reverse ++ st) (hd : decode cc pc = .ok (.invokestatic ix, 3)) (kk : J X cc nL y k2 n2 (pc + 3) lv (r.toList ++ st) hp1) : J X cc nL y k n pc lv S hp := by
  obtain ⟨p, l', e, R, s, m, args, below, meth, c, Q, D', ad0, hp0⟩ := X
  intro hx hb hml hown hmn hts hG hZ ad H locs ls hR hL hS
  obtain ⟨rfl, rfl⟩ : l' = l ∧ D' = D := hDl
  have hRm : F ≤ R.frames ∧ L ≤ R.locals ∧ MC ≤ R.cells ∧ MS ≤ R.slots := hRm
  subst hS0
  have hSt : jS hp st := fun w hw => hS w (List.mem_append_right _ hw)
  have hSA : jS hp As := fun w h => hS w (List.mem_append_left _ (List.mem_reverse.mpr h))
  refine jcall (va_runS (As := As.map (jv ad)) (rest := st.map (jv ad)) ⟨hx, hb, hml, hown, hts⟩ (hM ad H.size) (va_cwS nA hts hT rfl rfl rfl hd9 ⟨Nat.le_trans hfr hRm.1, Nat.le_trans hlo hRm.2.1⟩) ⟨jPc.blind, jPc.at hR hG hZ hSA⟩ rfl (by rw [List.length_map]; exact hnA) hL.1 ?_ (jroomW hW) hd ⟨Nat.le_trans hk2 (Nat.le_trans hce hRm.2.2.1), Nat.le_trans hn2 (Nat.le_trans hsl hRm.2.2.2)⟩) hR hL hSt (fun ad' H1 locs1 hR' hL' hS' => W.widen hk2 hn2 <| kk hx hb hml hown hmn hts hG hZ ad' H1 locs1 ls hR' hL' hS')
  show (As.reverse ++ st).map (jv ad) = _
  simp
/-- invokespecial of a constructor -/
theorem J.callI (hDl : jDl X D l) (hRm : jRoom X F L MC MS) (hM : jM D l y' (ws_ y' bytes maxL none) rm hp (.ref b :: As) none hp1) (hT : GoodIn lw_all (ws_ y' bytes maxL none)) (hini : Cond.initialized y'.cls ∈ lw_all) (hlk : Cond.methodLink y.cls ix y' ∈ lw_all) (hinst : Cond.instanceMethod y' ∈ lw_all) (hd9 : y'.name = "<init>" ∧ y'.cls ≠ "java/lang/invoke/MethodHandle" ∧ y'.cls ≠ "java/lang/invoke/VarHandle" ∧ (parseMethodDescriptor y'.desc).map (fun d => d.parameters.length) = some nA) (hnA : As.length = nA) (hfr : rm.frames + 1 ≤ F) (hlo : 8 + (maxL + 11) + rm.locals ≤ L) {k2 n2 : Nat} (hk2 : k + rm.cells ≤ k2) (hn2 : n + rm.slots ≤ n2) (hce : k2 ≤ MC) (hsl : n2 ≤ MS) (hW : (st.map fun v => v.category).sum ≤ 8) (hS0 : S = As.reverse ++ .ref b :: st) (hd : decode cc pc = .ok (.invokespecial ix, 3)) (kk : J X cc nL y k2 n2 (pc + 3) lv st hp1) : J X cc nL y k n pc lv S hp := by
  obtain ⟨p, l', e, R, s, m, args, below, meth, c, Q, D', ad0, hp0⟩ := X
  intro hx hb hml hown hmn hts hG hZ ad H locs ls hR hL hS
  obtain ⟨rfl, rfl⟩ : l' = l ∧ D' = D := hDl
  have hRm : F ≤ R.frames ∧ L ≤ R.locals ∧ MC ≤ R.cells ∧ MS ≤ R.slots := hRm
  subst hS0
  have hSt : jS hp st := fun w hw => hS w (List.mem_append_right _ (List.mem_cons_of_mem _ hw))
  have hSA : jS hp (.ref b :: As) := by
    intro w hw
    rcases List.mem_cons.mp hw with h | h
    · exact hS w (by rw [h]; exact List.mem_append_right _ List.mem_cons_self)
    · exact hS w (List.mem_append_left _ (List.mem_reverse.mpr h))
  refine jcall (r := none) (va_runI (As := As.map (jv ad)) (rest := st.map (jv ad)) (b := ad b) ⟨hx, hb, hml, hown, hts⟩ (hM ad H.size) (cwI nA hts hT rfl rfl rfl (hts _ hini) (hts _ hlk) (hts _ hinst) hd9.1 hd9.2 ⟨Nat.le_trans hfr hRm.1, Nat.le_trans hlo hRm.2.1⟩) ⟨jPc.blind, jPc.at hR hG hZ hSA⟩ rfl (by rw [List.length_map]; exact hnA) hL.1 ?_ (jroomW hW) hd ⟨Nat.le_trans hk2 (Nat.le_trans hce hRm.2.2.1), Nat.le_trans hn2 (Nat.le_trans hsl hRm.2.2.2)⟩) hR hL hSt (fun ad' H1 locs1 hR' hL' hS' => W.widen hk2 hn2 <| kk hx hb hml hown hmn hts hG hZ ad' H1 locs1 ls hR' hL' hS')
  show (As.reverse ++ .ref b :: st).map (jv ad) = _
  simp [jv]
/-- Object.<init> -/
theorem J.objInit {a : Nat} (hRm : jRoom X F L MC MS) (hlk : Cond.methodLink y.cls ix objectInit ∈ lw_all) (hinst : Cond.instanceMethod objectInit ∈ lw_all) (hcode : Cond.code objectInit ⟨#[0xb1]⟩ 1 none ∈ lw_all) (hfr : 1 ≤ F) (hlo : (st.map fun v => v.category).sum + 12 ≤ L) (hd : decode cc pc = .ok (.invokespecial ix, 3)) (kk : J X cc nL y k n (pc + 3) lv st hp) : J X cc nL y k n pc lv (.ref a :: st) hp := by
  obtain ⟨p, l', e, R, s, m, args, below, meth, c, Q, D', ad0, hp0⟩ := X
  intro hx hb hml hown hmn hts hG hZ ad H locs ls hR hL hS
  have hRm : F ≤ R.frames ∧ L ≤ R.locals ∧ MC ≤ R.cells ∧ MS ≤ R.slots := hRm
  have e9 : ((st.map (jv ad)).map fun v => v.category) = st.map fun v => v.category := by
    rw [List.map_map]
    exact List.map_congr_left fun v _ => jv_cat ad v
  refine W.objInit hx hb hown (hts _ hlk) (hts _ hinst) (hts _ hcode) rfl (by rw [hml]; exact hL.1) rfl hd (Nat.le_trans hfr hRm.1) ?_ (kk hx hb hml hown hmn hts hG hZ ad H locs ls hR hL hS.t)
  rw [e9]
  show 0 + _ + 12 ≤ _
  omega
end JC
