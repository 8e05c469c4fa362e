/-! THE J LAYER, 8: multianewarray of int[7][3] -/
set_option maxRecDepth 100000
def jmO (cA h0 i : Nat) : Cell := arrV cA 7 (fun j => if j < i then .ref (h0 + 1 + j) else .null)
def jmR (comp : Nat) : Cell := arrV comp 3 (fun _ => .int 0)
/-- the outer array and its first i rows -/
def jmF (T : State) (cA comp : Nat) : Nat → State
  | 0 => T.pushCell (jmO cA T.heap.size 0)
  | i + 1 => ((jmF T cA comp i).pushCell (jmR comp)).setCell T.heap.size (jmO cA T.heap.size (i + 1))
theorem jmO_step (cA h0 i : Nat) : (jmO cA h0 i).setSlot i (.ref (h0 + 1 + i)) = jmO cA h0 (i + 1) := by
  unfold jmO
  rw [arrV_store]
  congr 1
  funext j
  unfold updV
  by_cases h : j = i
  · subst h; simp
  · by_cases h2 : j < i
    · simp [h, h2, Nat.lt_succ_of_lt h2]
    · simp [h, h2]
      omega
theorem jmF_facts (T : State) (cA comp : Nat) : ∀ i, (jmF T cA comp i).heap.size = T.heap.size + 1 + i ∧ (jmF T cA comp i).heap[T.heap.size]? = some (jmO cA T.heap.size i) ∧ (jmF T cA comp i).vm = T.vm ∧ (jmF T cA comp i).slotsUsed = T.slotsUsed + 7 + i * 3 ∧ (∀ a : Nat, a < T.heap.size → (jmF T cA comp i).heap[a]? = T.heap[a]?) ∧ ∀ j : Nat, j < i → (jmF T cA comp i).heap[T.heap.size + 1 + j]? = some (jmR comp) := by
  intro i
  induction i with
  | zero =>
    refine ⟨size_pushCell _ _, State.heap_pushCell_size _ _, rfl, ?_, fun a ha => State.heap_pushCell_of_lt _ _ ha, fun j hj => absurd hj (Nat.not_lt_zero _)⟩
    simp [jmF, jmO, arrV]
  | succ i ih =>
    obtain ⟨h1, h2, h3, h4, h5, h6⟩ := ih
    have hlt : T.heap.size < (jmF T cA comp i).heap.size := by omega
    have hlt' : T.heap.size < ((jmF T cA comp i).pushCell (jmR comp)).heap.size := by rw [size_pushCell]; omega
    refine ⟨?_, heapAt_setCell_self _ hlt', h3, ?_, fun a ha => ?_, fun j hj => ?_⟩
    · show (((jmF T cA comp i).pushCell (jmR comp)).setCell _ _).heap.size = _
      rw [size_setCell, size_pushCell, h1]
      omega
    · show ((jmF T cA comp i).pushCell (jmR comp)).slotsUsed = _
      simp [h4, jmR, arrV]
      omega
    · show (((jmF T cA comp i).pushCell (jmR comp)).setCell _ _).heap[a]? = _
      rw [heapAt_setCell_ne _ (Nat.ne_of_gt ha), State.heap_pushCell_of_lt _ _ (show a < (jmF T cA comp i).heap.size by omega)]
      exact h5 a ha
    · show (((jmF T cA comp i).pushCell (jmR comp)).setCell _ _).heap[_]? = _
      rw [heapAt_setCell_ne _ (show T.heap.size ≠ T.heap.size + 1 + j by omega)]
      by_cases e : j = i
      · subst e
        rw [← h1]
        exact State.heap_pushCell_size _ _
      · rw [State.heap_pushCell_of_lt _ _ (show T.heap.size + 1 + j < (jmF T cA comp i).heap.size by omega)]
        exact h6 j (by omega)
theorem jmF_setTop (T : State) (f : JFrame) (cA comp : Nat) : ∀ i, jmF (T.setTop f) cA comp i = (jmF T cA comp i).setTop f := by
  intro i
  induction i with
  | zero => rfl
  | succ i ih => simp only [jmF, ih, State.heap_setTop, State.pushCell_setTop, State.setCell_setTop]
theorem jmF_stand {p : Program} {l : Launch} {e : Env} {R : Room} {s : State} {m : MethodId} {args : Array Value} {below : List Frame} {meth : Method} {c : Code} {T : State} {locs : List Loc} {cells slots : Nat} (X : Stand p l e R s m args below meth c T locs cells slots) (cA comp : Nat) : ∀ i, ∃ L : List Loc, (∀ q ∈ L, q.base = T.heap.size) ∧ Stand p l e R s m args below meth c (jmF T cA comp i) (locs ++ L) (cells + (1 + i)) (slots + (7 + i * 3)) := by
  intro i
  induction i with
  | zero =>
    refine ⟨[], fun q h => absurd h List.not_mem_nil, ?_⟩
    have h := X.pushed (jmO cA T.heap.size 0)
    have hs : (jmO cA T.heap.size 0).slots.size = 7 := arrV_size _ _ _
    rw [hs] at h
    simpa [jmF] using h
  | succ i ih =>
    obtain ⟨L, hL, Xi⟩ := ih
    obtain ⟨h1, h2, -⟩ := jmF_facts T cA comp i
    have hlt : T.heap.size < (jmF T cA comp i).heap.size := by omega
    have hc : ((jmF T cA comp i).pushCell (jmR comp)).heap[T.heap.size]? = some (jmO cA T.heap.size i) := by rw [State.heap_pushCell_of_lt _ _ hlt]; exact h2
    have h := (Xi.pushed (jmR comp)).stored hc i (.ref (T.heap.size + 1 + i))
    rw [jmO_step] at h
    have hs : (jmR comp).slots.size = 3 := arrV_size _ _ _
    rw [hs] at h
    refine ⟨L ++ [⟨T.heap.size, i⟩], fun q hq => ?_, ?_⟩
    · rcases List.mem_append.mp hq with h0 | h0
      · exact hL q h0
      · rw [List.mem_singleton.mp h0]
    · rw [← List.append_assoc]
      have e1 : cells + (1 + (i + 1)) = cells + (1 + i) + 1 := by omega
      have e2 : slots + (7 + (i + 1) * 3) = slots + (7 + i * 3) + 3 := by omega
      rw [e1, e2]
      exact h
theorem jmRow {E : CtlPost} {e : Env} {d : Bool} {acts : List Action} {s : State} {comp cc : ClassId} {kC : Class} (hk : s.vm.classes[comp]? = some kC) (hkind : kC.kind = .array cc .int) (hl : ¬ 3 > e.platform.arrayLengthLimit) (hh : ¬ 3 * componentBytes .int > e.platform.maxHeapBytes) (h1 : s.heap.size < e.platform.maxCells) (h2 : s.slotsUsed + 3 ≤ e.platform.maxSlots) {Q : Addr → Pre} (hq : ∀ acts', Q s.heap.size d acts' (s.pushCell (jmR comp))) : wp (multianewarray.make comp [3]) Q E e d acts s := by
  rw [multianewarray.make]
  simp only [wp_bind', W.ite, show ¬ ((3 : Int32) < 0) by decide, if_false, wp_pure', W.theClass, hk, hkind, Option.some.injEq, exists_eq_left']
  refine W.newArray_of hk hkind hl hh h1 h2 rfl (fun acts' => ?_)
  have := hq acts'
  unfold jmR at this
  rw [← arrV_new] at this
  exact this
theorem jmMake {E : CtlPost} {e : Env} {d : Bool} {acts : List Action} {s : State} {cA comp cc : ClassId} {kA kC : Class} (hkA : s.vm.classes[cA]? = some kA) (hkindA : kA.kind = .array comp (.array .int)) (hk : s.vm.classes[comp]? = some kC) (hkind : kC.kind = .array cc .int) (hl : ¬ 7 > e.platform.arrayLengthLimit) (hh : ¬ 7 * 4 > e.platform.maxHeapBytes) (hc : s.heap.size + 8 ≤ e.platform.maxCells) (hs : s.slotsUsed + 28 ≤ e.platform.maxSlots)
    {Q : Addr → Pre} (hq : ∀ d' acts', Q s.heap.size d' acts' (jmF s cA comp 7)) : wp (multianewarray.make cA [7, 3]) Q E e d acts s := by
  rw [multianewarray.make]
  simp only [wp_bind', W.ite, show ¬ ((7 : Int32) < 0) by decide, if_false, wp_pure', W.theClass, hkA, hkindA, Option.some.injEq, exists_eq_left']
  refine W.newArray_of hkA hkindA hl hh (by omega) (by show s.slotsUsed + 7 ≤ _; omega) rfl (fun acts0 => ?_)
  have e7 : (7 : Int32).toNatClampNeg = 7 := by decide
  have hp0 : s.pushCell { cls := cA, slots := Array.replicate (7 : Int32).toNatClampNeg Value.null } = jmF s cA comp 0 := by
    show s.pushCell _ = s.pushCell (jmO cA s.heap.size 0)
    rw [show jmO cA s.heap.size 0 = { cls := cA, slots := Array.replicate 7 Value.null, vm := .none } from (arrV_new cA 7 .null).symm]
    first | rfl | rw [e7]
  rw [hp0]
  simp only [show (([3] : List Int32).find? (· < 0)) = none by decide]
  rw [ite_self, wp_bind', Std.Legacy.Range.forIn_eq_forIn_range']
  rw [show ([:(7 : Int32).toNatClampNeg] : Std.Legacy.Range).size = 7 by decide]
  show wp (forIn (List.range' 0 7 1) PUnit.unit _) _ E e d acts0 _
  refine wp_forIn_inv (fun rest s' => ∃ i, i ≤ 7 ∧ rest = List.range' i (7 - i) ∧ s' = jmF s cA comp i) _ _ ⟨0, by decide, rfl, rfl⟩ ?_ ?_
  · rintro x rest s' d' acts' Q' ⟨i, hi, hr, rfl⟩ hnext
    obtain ⟨f1, f2, f3, f4, -⟩ := jmF_facts s cA comp i
    have hi7 : i < 7 := by
      rcases Nat.lt_or_ge i 7 with h | h
      · exact h
      · rw [show 7 - i = 0 by omega] at hr
        cases hr
    rw [show 7 - i = (7 - (i + 1)) + 1 by omega, List.range'_succ] at hr
    injection hr with hr1 hr2
    subst hr1
    simp only [wp_bind']
    refine jmRow (by rw [f3]; exact hk) hkind (by omega) (by show ¬ 3 * 4 > _; omega) (by omega) (by omega) (fun acts'' => ?_)
    simp only [wp_bind', W.writeLoc, wp_pure']
    have hlt : s.heap.size < (jmF s cA comp x).heap.size := by omega
    refine ⟨jmO cA s.heap.size x, by rw [State.heap_pushCell_of_lt _ _ hlt]; exact f2, (fun h => by cases h), by show x < (arrV _ _ _).slots.size; rw [arrV_size]; exact hi7, ?_, hnext _ _ _ ⟨x + 1, hi7, hr2, ?_⟩⟩
    · show State.fitsSlot _ cA .none x _ = true
      simp [State.fitsSlot, State.slotType?, f3, hkA, hkindA, fits]
    · rw [f1, jmO_step]
      rfl
  · rintro s' d' acts' ⟨i, hi, hr, rfl⟩
    have : i = 7 := by
      rcases Nat.lt_or_ge i 7 with h | h
      · rw [show 7 - i = (7 - (i + 1)) + 1 by omega, List.range'_succ] at hr
        cases hr
      · omega
    subst this
    simp only [wp_pure']
    exact hq _ _
theorem W.multi {p : Program} {l : Launch} {e : Env} {R : Room} {s : State} {m : MethodId} {args : Array Value} {below : List Frame} {meth : Method} {c : Code} {H : Heap} {locs : List Loc} {cells slots : Nat} {Q : State → Prop} {cc : ByteArray} {pc : Nat} {ls : Array Slot} {rest : List Value} (hexec : p.tables.exec = Jvm.exec) (hb : c.code = cc) {own : String} {index : Nat} (hown : s.vm.findClass own = some m.cls) (hclink : (Cond.classLink own index "[[I").before args s = true) (hAA : jAA s) (hcells : cells + 8 ≤ R.cells) (hslots : slots + 28 ≤ R.slots) (hdg : decode cc pc = .ok (.multianewarray index 2, 4))
    (kk : ∀ (H1 : Heap) (L : List Loc) (cA comp : ClassId), (∀ q ∈ L, q.base = H.size) → H1.size = H.size + 8 → (∀ a : Nat, a < H.size → H1[a]? = H[a]?) → H1[H.size]? = some (jmO cA H.size 7) → (∀ j : Nat, j < 7 → H1[H.size + 1 + j]? = some (jmR comp)) → ArrOfT s cA (.array .int) → va_RA s cA (.array .int) → ArrOfT s comp .int → va_RA s comp .int →
      W p l e R s m args below meth c H1 (locs ++ L) (cells + 8) (slots + 28) Q (F0 m (pc + 4) ls (.ref H.size :: rest))) : W p l e R s m args below meth c H locs cells slots Q (F0 m pc ls (.int 3 :: .int 7 :: rest)) := by
  intro T hT X
  subst hb
  obtain ⟨comp, cA, c9, kC, kA, h1, h2, h3, h4, h5, h6⟩ := hAA
  have hpl : e.platform.magicAccessors = ({} : Platform).magicAccessors := by rw [X.admits.platform]
  obtain ⟨c0, hfc0, hcl⟩ := Cond.classLink_spec hown hclink e.platform hpl
  cases h4.symm.trans hfc0
  obtain ⟨hg₁, hwarm₁, hready₁⟩ := State.classEntry (e := e) X.warmed hcl
  generalize hvm1 : T.vm.noted m.cls index (.cls cA) = vm₁ at hg₁ hwarm₁ hready₁
  have hal : s.vm.Alike vm₁ := hwarm₁.alike
  obtain ⟨kA₁, hkA₁, heA⟩ := hal.2.2 _ _ h5
  obtain ⟨kC₁, hkC₁, heC⟩ := hal.2.2 _ _ h2
  have X₁ := X.noted hwarm₁
  obtain ⟨hr1, hr2⟩ := X.roomAbove hcells hslots
  obtain ⟨L, hL, XF⟩ := jmF_stand X₁ cA comp 7
  obtain ⟨f1, f2, f3, f4, f5, f6⟩ := jmF_facts (T.setVm vm₁) cA comp 7
  have hsz : (T.setVm vm₁).heap = H := hT
  rw [hsz] at f1 f2 f5 f6 hL
  obtain ⟨t, a1, b1⟩ := kk (jmF (T.setVm vm₁) cA comp 7).heap L cA comp hL f1 f5 f2 f6 (fun n z => ⟨fun k h => (by cases h), kA, h5, comp, h6⟩) h4 (fun n z => ⟨fun k h => (by cases h), kC, h2, c9, h3⟩) h1 (jmF (T.setVm vm₁) cA comp 7) rfl XF
  refine ⟨t, ?_, b1⟩
  have hl1 : ¬ 7 > e.platform.arrayLengthLimit := by rw [Launch.admits_arrayLengthLimit X.admits]; omega
  have hh1 : ¬ 7 * 4 > e.platform.maxHeapBytes := by rw [Launch.admits_maxHeapBytes X.admits]; omega
  jvm_step X.here [hexec, hdg]
  simp only [multianewarray.sem, wp_bind', W.resolveClassAt_links (State.method?_setTop (F0 m pc ls (.int 3 :: .int 7 :: rest)) X.here.top) hg₁]
  rw [W.popN, if_neg (by decide)]
  refine ⟨F0 m pc ls (.int 3 :: .int 7 :: rest), State.topJava?_setTop' (s := T.setVm vm₁) _ X.here.top, [.int 7, .int 3], rest, rfl, rfl, ?_⟩
  simp only [List.mapM_cons, List.mapM_nil, wp_bind', wp_pure']
  refine jmMake (kA := kA₁) (kC := kC₁) (comp := comp) (cc := c9) hkA₁ (by rw [heA]; exact h6) hkC₁ (by rw [heC]; exact h3) hl1 hh1 (by show T.heap.size + 8 ≤ _; omega) (by show T.slotsUsed + 28 ≤ _; omega) (fun d' acts' => ?_)
  have eS : ((T.setTop (F0 m pc ls (.int 3 :: .int 7 :: rest))).setVm vm₁).setTop { F0 m pc ls (.int 3 :: .int 7 :: rest) with stack := rest } = (T.setVm vm₁).setTop { F0 m pc ls (.int 3 :: .int 7 :: rest) with stack := rest } := by
    show ((T.setVm vm₁).setTop _).setTop _ = _
    rw [State.setTop_setTop]
  rw [eS, jmF_setTop]
  simp only [wp_bind', W.mark, W.pushRef, State.topJava?_setTop' _ XF.here.top, Option.some.injEq, exists_eq_left', State.setTop_setTop, State.heap_setTop]
  intro acts
  simp [jvm, XF.here.top]
  rw [← hT] at a1
  exact a1
/-- the same under names: t the outer array, b, b + 1 .. its rows -/
def jmH (hp : jH) (t b : Nat) : jH := fun n => if n = t then some (.inl (.array .int, 7, .inr (.inr (.inr (.inr (fun j => if j < 7 then some (b + j) else none)))))) else if b ≤ n ∧ n < b + 7 then some (.inl (.int, 3, .inl (fun _ => 0))) else hp n
def jmulti (hp : jH) (t b : Nat) : Option jH := if 8 ≤ t ∧ t < b ∧ (hp t).isNone = true ∧ (List.range 7).all (fun j => (hp (b + j)).isNone) = true then some (jmH hp t b) else none
theorem jmulti_spec {hp hp' : jH} {t b : Nat} (h : jmulti hp t b = some hp') : 8 ≤ t ∧ t < b ∧ hp t = none ∧ (∀ n, b ≤ n → n < b + 7 → hp n = none) ∧ hp' = jmH hp t b := by
  unfold jmulti at h
  split at h
  · rename_i hc
    obtain ⟨h1, h2, h3, h4⟩ := hc
    cases h
    refine ⟨h1, h2, Option.isNone_iff_eq_none.mp h3, fun n ha hb => ?_, rfl⟩
    have := List.all_eq_true.mp h4 (n - b) (List.mem_range.mpr (by omega))
    rw [show b + (n - b) = n by omega] at this
    exact Option.isNone_iff_eq_none.mp this
  · cases h
theorem jR.multi {D : va_G} {s : State} {ad0 ad : Nat → Nat} {hp0 hp : jH} {H H1 : Heap} {locs L : List Loc} {t b : Nat} {cA comp : ClassId} (hR : jR D s ad0 hp0 ad hp H locs) (h8 : 8 ≤ t) (htb : t < b) (ht : hp t = none) (hb : ∀ n, b ≤ n → n < b + 7 → hp n = none) (hL : ∀ q ∈ L, q.base = H.size) (z : H1.size = H.size + 8) (oq : ∀ a : Nat, a < H.size → H1[a]? = H[a]?) (ho : H1[H.size]? = some (jmO cA H.size 7)) (hr : ∀ j : Nat, j < 7 → H1[H.size + 1 + j]? = some (jmR comp)) (a1 : ArrOfT s cA (.array .int)) (a2 : va_RA s cA (.array .int)) (a3 : ArrOfT s comp .int) (a4 : va_RA s comp .int) :
    ∃ ad' : Nat → Nat, ad' t = H.size ∧ (∀ i, hp i ≠ none → ad' i = ad i) ∧ jR D s ad0 hp0 ad' (jmH hp t b) H1 (locs ++ L) := by
  obtain ⟨hC, hI, hS, hF, hE, h9⟩ := hR
  have hne : ∀ i, hp i ≠ none → i ≠ t ∧ ¬ (b ≤ i ∧ i < b + 7) := fun i hi => ⟨fun e => hi (by rw [e]; exact ht), fun e => hi (hb i e.1 e.2)⟩
  have hlt : ∀ i, hp i ≠ none → ad i < H.size := fun i hi => by
    obtain ⟨o', ho'⟩ := jlive hi
    exact (hC i o' ho').1.lt
  obtain ⟨ad', had'⟩ : ∃ ad' : Nat → Nat, ad' = fun n => if n = t then H.size else if b ≤ n ∧ n < b + 7 then H.size + 1 + (n - b) else ad n := ⟨_, rfl⟩
  have e1 : ad' t = H.size := by rw [had']; simp
  have e2 : ∀ n, b ≤ n → n < b + 7 → ad' n = H.size + 1 + (n - b) := fun n h1 h2 => by rw [had']; simp [show n ≠ t by omega, h1, h2]
  have e3 : ∀ i, hp i ≠ none → ad' i = ad i := fun i hi => by
    rw [had']
    obtain ⟨g1, g2⟩ := hne i hi
    simp only [g1, g2, if_false]
  have hdom : ∀ i, hp i ≠ none → jmH hp t b i ≠ none := fun i hi => by
    obtain ⟨g1, g2⟩ := hne i hi
    unfold jmH
    simp only [g1, g2, if_false]
    exact hi
  have hcase : ∀ i, jmH hp t b i ≠ none → i = t ∨ (b ≤ i ∧ i < b + 7) ∨ (hp i ≠ none ∧ i ≠ t ∧ ¬ (b ≤ i ∧ i < b + 7)) := fun i hi => by
    unfold jmH at hi
    by_cases g1 : i = t
    · exact Or.inl g1
    · by_cases g2 : b ≤ i ∧ i < b + 7
      · exact Or.inr (Or.inl g2)
      · simp only [g1, g2, if_false] at hi
        exact Or.inr (Or.inr ⟨hi, g1, g2⟩)
  have haddr : ∀ i, jmH hp t b i ≠ none → (i = t ∧ ad' i = H.size) ∨ (b ≤ i ∧ i < b + 7 ∧ ad' i = H.size + 1 + (i - b)) ∨ (hp i ≠ none ∧ ad' i = ad i ∧ ad i < H.size) := fun i hi => by
    rcases hcase i hi with h | ⟨h, h'⟩ | ⟨h, -⟩
    · exact Or.inl ⟨h, by rw [h]; exact e1⟩
    · exact Or.inr (Or.inl ⟨h, h', e2 i h h'⟩)
    · exact Or.inr (Or.inr ⟨h, e3 i h, hlt i h⟩)
  refine ⟨ad', e1, e3, fun n o hn => ?_, fun i j hi hj e => ?_, ⟨by have := hS.1; omega, fun q h1 h2 => (oq q (Nat.lt_of_lt_of_le h1 hS.1)).trans (hS.2.1 q h1 h2), fun q hq => ?_⟩, fun n hn h => ?_, fun n hn => ⟨(e3 n (hE n hn).2).trans (hE n hn).1, hdom n (hE n hn).2⟩, fun n hn h => ?_⟩
  · by_cases g1 : n = t
    · subst g1
      unfold jmH at hn
      simp only [if_true] at hn
      cases hn
      refine ⟨jAt.mk (cA := cA) ?_ a1 a2, fun j q hq => ?_⟩
      · rw [e1, ho]
        show some (arrV cA 7 (fun j => if j < 7 then .ref (H.size + 1 + j) else .null)) = some (arrV cA 7 (fun j => va_rf ((if j < 7 then some (b + j) else none : Option Nat).map ad')))
        congr 2
        funext j
        by_cases hj : j < 7
        · simp only [hj, if_true, Option.map_some, va_rf]
          rw [e2 (b + j) (by omega) (by omega), show H.size + 1 + (b + j - b) = H.size + 1 + j by omega]
        · simp only [hj, if_false, Option.map_none, va_rf]
      · dsimp only at hq
        split at hq
        · rename_i hj
          cases hq
          unfold jmH
          simp [show b + j ≠ n by omega, show b + j < b + 7 by omega]
        · cases hq
    · by_cases g2 : b ≤ n ∧ n < b + 7
      · unfold jmH at hn
        simp only [g1, g2, if_false, and_self, if_true] at hn
        cases hn
        refine ⟨jAt.mk (cA := comp) ?_ a3 a4, trivial⟩
        rw [e2 n g2.1 g2.2]
        exact hr (n - b) (by omega)
      · unfold jmH at hn
        simp only [g1, g2, if_false] at hn
        have hl : hp n ≠ none := by rw [hn]; exact fun q => by cases q
        obtain ⟨c1, c2⟩ := hC n o hn
        exact ⟨c1.kept (hp := hp) c2 hl e3 (oq _ (hlt n hl)), c2.mono hdom⟩
  · rcases haddr i hi with ⟨h1, h2⟩ | ⟨h1, h2, h3⟩ | ⟨h1, h2, h3⟩ <;> rcases haddr j hj with ⟨g1, g2⟩ | ⟨g1, g2, g3⟩ | ⟨g1, g2, g3⟩
    · rw [h1, g1]
    · omega
    · omega
    · omega
    · omega
    · omega
    · omega
    · omega
    · rw [h2, g2] at e
      exact hI i j h1 g1 e
  · rcases List.mem_append.mp hq with h | h
    · exact hS.2.2 q h
    · rw [hL q h]
      exact Or.inr hS.1
  · rcases haddr n hn with ⟨h1, h2⟩ | ⟨h1, h2, h3⟩ | ⟨h1, h2, h3⟩
    · rw [h2]; exact Or.inr hS.1
    · rw [h3]; exact Or.inr (by have := hS.1; omega)
    · rw [h2]; exact hF n h1 h
  · rcases hcase n h with h1 | ⟨h1, h2⟩ | ⟨h1, -⟩
    · omega
    · omega
    · exact h9 n hn h1
theorem J.multi {X : jX} {cc : ByteArray} {nL : Nat} {y : MethodName} {k n pc : Nat} {lv : List (Option Value)} {st : List Value} {hp hp' : jH} {F L MC MS ix t b : Nat} (hRm : jRoom X F L MC MS) (hcl : Cond.classLink y.cls ix "[[I" ∈ lw_all) {k2 n2 : Nat} (hk2 : k + 8 ≤ k2) (hn2 : n + 28 ≤ n2) (hk : k2 ≤ MC) (hs : n2 ≤ MS) (hg : jmulti hp t b = some hp') (hd : decode cc pc = .ok (.multianewarray ix 2, 4)) (kk : J X cc nL y k2 n2 (pc + 4) lv (.ref t :: st) hp') : J X cc nL y k n pc lv (.int 3 :: .int 7 :: st) hp := by
  obtain ⟨p, l, e, R, s, m, args, below, meth, c, Q, D, ad0, hp0⟩ := X
  intro hx hb hml hown hmn hts hG hZ ad H locs ls hR hL hS
  obtain ⟨h8, htb, ht, hbn, rfl⟩ := jmulti_spec hg
  have hRm : F ≤ R.frames ∧ L ≤ R.locals ∧ MC ≤ R.cells ∧ MS ≤ R.slots := hRm
  refine W.multi hx hb hown (hts _ hcl) hG.2.2.1 (Nat.le_trans hk2 (Nat.le_trans hk hRm.2.2.1)) (Nat.le_trans hn2 (Nat.le_trans hs hRm.2.2.2)) hd ?_
  intro H1 L' cA comp hL' z oq ho hr a1 a2 a3 a4
  obtain ⟨ad', g1, g2, hR'⟩ := hR.multi h8 htb ht hbn hL' z oq ho hr a1 a2 a3 a4
  have hdom : ∀ i, hp i ≠ none → jmH hp t b i ≠ none := fun i hi => by
    unfold jmH
    have q1 : i ≠ t := fun e => hi (by rw [e]; exact ht)
    have q2 : ¬ (b ≤ i ∧ i < b + 7) := fun e => hi (hbn i e.1 e.2)
    simp only [q1, q2, if_false]
    exact hi
  refine W.widen hk2 hn2 ?_
  have hw := kk hx hb hml hown hmn hts hG hZ ad' H1 _ ls hR' (hL.move (fun i hi => ⟨g2 i hi, hdom i hi⟩)) ((hS.t.t.mono hdom).p (jok_r (by unfold jmH; simp)))
  rw [List.map_cons, hS.t.t.same g2] at hw
  rw [show jv ad' (.ref t) = .ref H.size from congrArg Value.ref g1] at hw
  exact hw
