/-! exceptions in J, 3: the rules -/
set_option maxRecDepth 100000
/-- a throw of the machine's own, with a message, caught in the frame where it happens; the handler's first instruction lays it away -/
theorem jThrowC {p : Program} {l : Launch} {e : Env} {R : Room} {s : State} {m : MethodId} {args : Array Value} {below : List Frame} {meth : Method} {c : Code} {T : State} {locs : List Loc} {Q : State → Prop} {D : va_G} {ad0 ad : Nat → Nat} {hp0 hp : jH} {cc : ByteArray} {nL : Nat} {y : MethodName} {k n pc : Nat} {lv : List (Option Value)} {ls : Array Slot} {st : List Value} {F L MC MS B : Nat}
    {cls : String} {names : List String} {text : String} {h z : Nat} {q : Fin 4} {hh : List (Nat × Nat × Nat × Nat)} {g : JFrame}
    (hRm : F ≤ R.frames ∧ L ≤ R.locals ∧ MC ≤ R.cells ∧ MS ≤ R.slots) (hTab : jNT l ∧ c.exceptionTable.toList.map (fun x => (x.startPc, x.endPc, x.handlerPc, x.catchType)) = hh) (hcls : Bundle.fit cls = true) (hnames : ∀ n ∈ names, Bundle.fit n = true) (hsoe : (cls == "java/lang/StackOverflowError") = false) (hoom : (cls == "java/lang/OutOfMemoryError") = false) (hat : (Bundle.messageArmAtoms cls names).all jAt0 = true) (hmod : (text == notModelled) = false) (hB : (stringBytes (stringToUtf16 text)).size ≤ B) (hB2 : B ≤ 10000)
    (hps : jPs y.cls cls pc hh h) (hF : names.length + 4 < F) (hF2 : names.length ≤ 10) (hLo : (st.map (fun v => v.category)).sum + 10240 ≤ L) (hkM : k + 3 ≤ MC) (hnM : n + (B + 10) ≤ MS) (hd2 : decode cc h = .ok (.astore_n q, 1)) (hq : (q : Nat) = z) (hz : z < nL)
    (hx : p.tables.exec = Jvm.exec) (hb : c.code = cc) (hml : c.maxLocals = nL) (hown : s.vm.findClass y.cls = some m.cls) (hts : ∀ w ∈ lw_all, w.before args s = true) (hG : jG D s) (hZ : jZ ad0 hp0 s) (S : Stand p l e R s m args below meth c T locs k n) (hR : jR D s ad0 hp0 ad hp T.heap locs) (hL : jL hp ad ls nL lv)
    (hst : ∀ target, Steps p.tables e below ((T.setTop (F0 m pc ls (st.map (jv ad)))).pushFrame (.throwNew cls (some text) none)) target → Steps p.tables e below (T.setTop g) target)
    (kk : ∀ (H : Heap) (ls' : Array Slot), jR D s ad0 hp0 ad hp H locs → jL hp ad ls' nL (jkl lv z) → W p l e R s m args below meth c H locs (k + 3) (n + ((stringBytes (stringToUtf16 text)).size + 4 + 6)) Q (F0 m (h + 1) ls' [])) :
    ∃ t, Steps p.tables e below (T.setTop g) t ∧ Q t := by
  obtain ⟨hRf, hRl, hRc, hRs⟩ := hRm
  have hcat : ((st.map (jv ad)).map fun v => v.category).sum = (st.map (fun v => v.category)).sum := by
    rw [List.map_map]
    congr 1
    exact List.map_congr_left (fun v _ => jv_cat ad v)
  obtain ⟨W', X', hh1, ⟨ce, he1, he2, he3⟩, hst2⟩ := jMsgC S hx (hTab.1 e S.admits) (cls := cls) (names := names) (text := text) hcls hnames hsoe hoom (jAtoms hts hG hZ hat) (jlocs S hR) hmod
    (by rw [Launch.admits_arrayLengthLimit S.admits]; omega) (by rw [Launch.admits_maxHeapBytes S.admits]; show ¬ _ * 1 > _; omega) (g := F0 m pc ls (st.map (jv ad))) rfl (by rw [hml]; exact hL.1) (by omega) (by
      show 2 * 0 + _ + 10240 ≤ R.locals
      rw [hcat]
      omega) (by omega) (by omega) (by omega)
  obtain ⟨k1, hk1, -⟩ := Vm.findClass_spec he2
  obtain ⟨vm', X'', hst3⟩ := jCaught X' hown he1 (by rw [he3]; intro k h; cases h) hk1 (g := F0 m pc ls (st.map (jv ad))) rfl (h := h) (jPs_pass hts hG he2 _ (by rw [hTab.2]; exact hps))
  have hR' : jR D s ad0 hp0 ad hp W'.heap locs := hR.grown (by have := (Array.getElem?_eq_some_iff.mp he1).1; exact Nat.le_of_lt (Nat.lt_of_le_of_lt (Nat.le_add_right _ 2) this)) hh1
  obtain ⟨t, a1, b1⟩ := lv_astore_n (H := W'.heap) (rest := []) (Q := Q) hx hb hd2 hq hL.has hz rfl (fun ls' h' => kk W'.heap ls' hR' (hL.kl h')) (W'.setVm vm') rfl X''
  exact ⟨t, hst t (hst2 t (hst3 t a1)), b1⟩
section JC
variable {X : jX} {cc : ByteArray} {nL : Nat} {y : MethodName} {k n pc : Nat} {lv : List (Option Value)} {st : List Value} {hp : jH} {F L MC MS : Nat}
theorem J.ialdC {a len : Nat} {f : Nat → Int32} {i : Int32} {h z : Nat} {q : Fin 4} {hh : List (Nat × Nat × Nat × Nat)} {lv' : List (Option Value)} {k2 n2 : Nat} (hRm : jRoom X F L MC MS) (hTab : jTab X hh) (ha : hp a = some (.inl (.int, len, .inl f))) (hlen : len < 2 ^ 31) (hout : ¬ (0 ≤ i.toInt ∧ i.toInt < len))
    (hps : jPs y.cls Bundle.idxN pc hh h) (hF : 7 < F) (hLo : (st.map (fun v => v.category)).sum + 10240 ≤ L) (hk2 : k + 3 ≤ k2) (hn2 : n + 222 ≤ n2) (hkM : k2 ≤ MC) (hnM : n2 ≤ MS) (hd : decode cc pc = .ok (.iaload, 1)) (hd2 : decode cc h = .ok (.astore_n q, 1)) (hq : (q : Nat) = z) (hz : z < nL) (hl : jkl lv z = lv')
    (kk : J X cc nL y k2 n2 (h + 1) lv' [] hp) : J X cc nL y k n pc lv (.int i :: .ref a :: st) hp := by
  have kk' : ∀ d, d ≤ 222 → J X cc nL y (k + 3) (n + d) (h + 1) lv' [] hp := fun d hd => J.widen hk2 (by omega) kk
  clear kk
  obtain ⟨p, l, e, R, s, m, args, below, meth, c, Q, D, ad0, hp0⟩ := X
  intro hx hb hml hown hmn hts hG hZ ad H locs ls hR hL hS
  subst hl
  intro T hT S
  subst hT
  obtain ⟨cA, ce, hcell, hsl, hcl9, hkn, hst9, hIs, hA, hRA⟩ := (hR.1 a _ ha).1.arr
  have hsz : ce.slots.size = len := by rw [hsl]; exact arrV_size _ _ _
  have hst := S.ialoadOut hx hcell hIs (j := i) (by
    rw [hsz]
    rcases Classical.em (i < 0) with g | g
    · exact .inl g
    · right
      rw [Int32.lt_iff_toInt_lt] at g
      have e0 : (0 : Int32).toInt = 0 := by decide
      rw [e0] at g
      have h1 : (i.toNatClampNeg : Int) = i.toInt := by unfold Int32.toNatClampNeg; omega
      omega) (g := F0 m pc ls (.int i :: .ref (ad a) :: st.map (jv ad))) rfl rfl (by rw [hb]; exact hd)
  rw [hsz] at hst
  have hb1 := index_text_bytes i hlen
  exact jThrowC (B := 212) (st := st) hRm hTab (names := Bundle.idxUp) (by decide +kernel) (by decide +kernel) (by decide +kernel) (by decide +kernel) atoms_idx (index_text_modelled i len) hb1 (by decide) hps (by show 3 + 4 < F; omega) (by decide) hLo (by omega) (by omega) hd2 hq hz hx hb hml hown hts hG hZ S hR hL hst
    (fun H ls' hR' hL' => kk' _ (by omega) hx hb hml hown hmn hts hG hZ ad H locs ls' hR' hL' jS.nil)
end JC
