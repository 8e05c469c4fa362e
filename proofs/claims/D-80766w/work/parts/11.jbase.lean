/-! THE J LAYER, 2: small facts; stores into locals -/
set_option maxRecDepth 100000
theorem jv_cat (ad : Nat → Nat) (v : Value) : (jv ad v).category = v.category := by cases v <;> rfl
theorem jok_of {hp : jH} {v : Value} (h : ∀ n : Nat, v ≠ .ref n) : jok hp v := fun n e => absurd e (h n)
theorem jok_i {hp : jH} {x : Int32} : jok hp (.int x) := fun n e => by cases e
theorem jok_l {hp : jH} {x : Int64} : jok hp (.long x) := fun n e => by cases e
theorem jok_n {hp : jH} : jok hp .null := fun n e => by cases e
theorem jok_r {hp : jH} {a : Nat} (h : hp a ≠ none) : jok hp (.ref a) := fun n e => by cases e; exact h
theorem jok.live {hp : jH} {a : Nat} (h : jok hp (.ref a)) : hp a ≠ none := h a rfl
theorem jS.t {hp : jH} {v : Value} {st : List Value} (h : jS hp (v :: st)) : jS hp st := fun w hw => h w (List.mem_cons_of_mem _ hw)
theorem jS.h {hp : jH} {v : Value} {st : List Value} (h : jS hp (v :: st)) : jok hp v := h v List.mem_cons_self
theorem jS.p {hp : jH} {v : Value} {st : List Value} (h : jS hp st) (hv : jok hp v) : jS hp (v :: st) := by
  intro w hw
  rcases List.mem_cons.mp hw with e | e
  · rw [e]; exact hv
  · exact h w e
theorem jS.i {hp : jH} {x : Int32} {st : List Value} (h : jS hp st) : jS hp (.int x :: st) := h.p jok_i
theorem jS.l {hp : jH} {x : Int64} {st : List Value} (h : jS hp st) : jS hp (.long x :: st) := h.p jok_l
theorem jS.n {hp : jH} {st : List Value} (h : jS hp st) : jS hp (.null :: st) := h.p jok_n
theorem jS.nil {hp : jH} : jS hp [] := fun v h => absurd h List.not_mem_nil
/-- storing a value of one slot, of two -/
def jkill (lv : List (Option Value)) (i : Nat) : List (Option Value) := match i with
  | 0 => lv
  | j + 1 => match lv[j]? with
    | some (some v) => if v.category = 2 then lv.set j none else lv
    | _ => lv
def jst1 (lv : List (Option Value)) (i : Nat) (v : Value) : List (Option Value) := (jkill lv i).set i (some v)
def jst2 (lv : List (Option Value)) (i : Nat) (v : Value) : List (Option Value) := ((jkill lv i).set i (some v)).set (i + 1) none
def jtr (ad : Nat → Nat) (lv : List (Option Value)) : List (Nat × Value) := (List.range lv.length).filterMap (fun i => match lv[i]? with
  | some (some v) => some (i, jv ad v)
  | _ => none)
theorem jtr_mem {ad : Nat → Nat} {lv : List (Option Value)} {q : Nat × Value} : q ∈ jtr ad lv ↔ ∃ v, lv[q.1]? = some (some v) ∧ q.2 = jv ad v := by
  unfold jtr
  rw [List.mem_filterMap]
  constructor
  · rintro ⟨i, hi, h⟩
    split at h
    · rename_i v hv
      cases h
      exact ⟨v, hv, rfl⟩
    · cases h
  · rintro ⟨v, hv, e⟩
    obtain ⟨i, w⟩ := q
    dsimp only at hv e
    subst e
    refine ⟨i, ?_, ?_⟩
    · rw [List.mem_range]
      exact (List.getElem?_eq_some_iff.mp hv).1
    · rw [hv]
theorem jL.has {hp : jH} {ad : Nat → Nat} {ls : Array Slot} {nL : Nat} {lv : List (Option Value)} (h : jL hp ad ls nL lv) : lv_has ls nL (jtr ad lv) := by
  refine ⟨h.1, h.2.1, fun q hq => ?_⟩
  obtain ⟨v, hv, e⟩ := jtr_mem.mp hq
  rw [e]
  exact (h.2.2 q.1 v hv).1
theorem jkill_at {lv : List (Option Value)} {i j : Nat} {v : Value} (hj : j ≠ i) (h : (jkill lv i)[j]? = some (some v)) : lv[j]? = some (some v) ∧ ¬ (j + 1 = i ∧ v.category = 2) := by
  unfold jkill at h
  split at h
  · exact ⟨h, fun q => by omega⟩
  · rename_i i'
    split at h
    · rename_i w hw
      split at h
      · rename_i hc
        by_cases hji : j = i'
        · subst hji
          rw [List.getElem?_set] at h
          simp at h
        · rw [List.getElem?_set_ne (Ne.symm hji)] at h
          exact ⟨h, fun q => hji (by omega)⟩
      · rename_i hc
        refine ⟨h, fun q => ?_⟩
        have : j = i' := by omega
        subst this
        rw [hw] at h
        cases h
        exact hc q.2
    · rename_i hno
      refine ⟨h, fun q => ?_⟩
      have : j = i' := by omega
      subst this
      exact hno v h
theorem jL.st1 {hp : jH} {ad : Nat → Nat} {ls ls' : Array Slot} {nL i : Nat} {lv : List (Option Value)} {v w : Value} (h : jL hp ad ls nL lv) (hv : jok hp v) (hw : jv ad v = w) (h' : lv_has ls' nL ((i, w) :: (jtr ad lv).filter (fun q => !(q.1 == i) && !(q.1 + 1 == i && q.2.category == 2)))) : jL hp ad ls' nL (jst1 lv i v) := by
  refine ⟨h'.1, h'.2.1, fun j u hu => ?_⟩
  unfold jst1 at hu
  by_cases hji : j = i
  · subst hji
    rw [List.getElem?_set] at hu
    by_cases hlt : j < (jkill lv j).length
    · simp [hlt] at hu
      subst hu
      rw [hw]
      exact ⟨h'.2.2 (j, w) List.mem_cons_self, hv⟩
    · simp [hlt] at hu
  · rw [List.getElem?_set_ne (Ne.symm hji)] at hu
    obtain ⟨h1, h2⟩ := jkill_at hji hu
    refine ⟨h'.2.2 (j, jv ad u) (List.mem_cons_of_mem _ (List.mem_filter.mpr ⟨jtr_mem.mpr ⟨u, h1, rfl⟩, ?_⟩)), (h.2.2 j u h1).2⟩
    simp only [jv_cat, Bool.and_eq_true, Bool.not_eq_true', beq_eq_false_iff_ne, ne_eq, Bool.and_eq_false_iff]
    refine ⟨hji, ?_⟩
    by_cases e : j + 1 = i
    · exact Or.inr (fun z => h2 ⟨e, z⟩)
    · exact Or.inl e
theorem jL.st2 {hp : jH} {ad : Nat → Nat} {ls ls' : Array Slot} {nL i : Nat} {lv : List (Option Value)} {v w : Value} (h : jL hp ad ls nL lv) (hv : jok hp v) (hw : jv ad v = w) (h' : lv_has ls' nL ((i, w) :: (jtr ad lv).filter (fun q => !(q.1 == i) && (!(q.1 == i + 1) && !(q.1 + 1 == i && q.2.category == 2))))) : jL hp ad ls' nL (jst2 lv i v) := by
  refine ⟨h'.1, h'.2.1, fun j u hu => ?_⟩
  unfold jst2 at hu
  by_cases hj1 : j = i + 1
  · subst hj1
    rw [List.getElem?_set] at hu
    simp at hu
  rw [List.getElem?_set_ne (Ne.symm hj1)] at hu
  by_cases hji : j = i
  · subst hji
    rw [List.getElem?_set] at hu
    by_cases hlt : j < (jkill lv j).length
    · simp [hlt] at hu
      subst hu
      rw [hw]
      exact ⟨h'.2.2 (j, w) List.mem_cons_self, hv⟩
    · simp [hlt] at hu
  · rw [List.getElem?_set_ne (Ne.symm hji)] at hu
    obtain ⟨h1, h2⟩ := jkill_at hji hu
    refine ⟨h'.2.2 (j, jv ad u) (List.mem_cons_of_mem _ (List.mem_filter.mpr ⟨jtr_mem.mpr ⟨u, h1, rfl⟩, ?_⟩)), (h.2.2 j u h1).2⟩
    simp only [jv_cat, Bool.and_eq_true, Bool.not_eq_true', beq_eq_false_iff_ne, ne_eq, Bool.and_eq_false_iff]
    refine ⟨hji, hj1, ?_⟩
    by_cases e : j + 1 = i
    · exact Or.inr (fun z => h2 ⟨e, z⟩)
    · exact Or.inl e
theorem jL.mono {hp hp' : jH} {ad : Nat → Nat} {ls : Array Slot} {nL : Nat} {lv : List (Option Value)} (h : jL hp ad ls nL lv) (hm : ∀ n, hp n ≠ none → hp' n ≠ none) : jL hp' ad ls nL lv := ⟨h.1, h.2.1, fun i v hv => ⟨(h.2.2 i v hv).1, fun n e => hm n ((h.2.2 i v hv).2 n e)⟩⟩
theorem jS.mono {hp hp' : jH} {st : List Value} (h : jS hp st) (hm : ∀ n, hp n ≠ none → hp' n ≠ none) : jS hp' st := fun v hv n e => hm n (h v hv n e)
theorem jv_same {hp : jH} {ad ad' : Nat → Nat} {v : Value} (h : jok hp v) (he : ∀ n, hp n ≠ none → ad' n = ad n) : jv ad' v = jv ad v := by
  cases v <;> try rfl
  rename_i n
  show Value.ref (ad' n) = Value.ref (ad n)
  rw [he n (h n rfl)]
theorem jS.same {hp : jH} {ad ad' : Nat → Nat} {st : List Value} (h : jS hp st) (he : ∀ n, hp n ≠ none → ad' n = ad n) : st.map (jv ad') = st.map (jv ad) := List.map_congr_left fun v hv => jv_same (h v hv) he
theorem jL.move {hp hp' : jH} {ad ad' : Nat → Nat} {ls : Array Slot} {nL : Nat} {lv : List (Option Value)} (h : jL hp ad ls nL lv) (he : ∀ n, hp n ≠ none → ad' n = ad n ∧ hp' n ≠ none) : jL hp' ad' ls nL lv := ⟨h.1, h.2.1, fun i v hv => by
  obtain ⟨h1, h2⟩ := h.2.2 i v hv
  exact ⟨by rw [jv_same h2 (fun n q => (he n q).1)]; exact h1, fun n e => (he n (h2 n e)).2⟩⟩
theorem jAt.kept {D : va_G} {s : State} {ad ad' : Nat → Nat} {n : Nat} {o : jO} {H H' : Heap} {hp : jH} (h : jAt D s ad n o H) (hc : jclo hp o) (hn : hp n ≠ none) (he : ∀ i, hp i ≠ none → ad' i = ad i) (hq : H'[ad n]? = H[ad n]?) : jAt D s ad' n o H' := by
  cases o with
  | inl q =>
    obtain ⟨ty, len, x⟩ := q
    obtain ⟨cA, cell, h1, h2, h3⟩ := h
    have e : jA ad' (len, x) = jA ad (len, x) := by
      rcases x with f | f | f | f | f <;> try rfl
      have e : (fun j => (f j).map ad') = (fun j => (f j).map ad) := by
        funext j
        have hj := hc j
        cases hf : f j with
        | none => rfl
        | some a => exact congrArg some (he a (hj a hf))
      show (len, Sum.inr (Sum.inr (Sum.inr (Sum.inr (fun j => (f j).map ad'))))) = (len, Sum.inr (Sum.inr (Sum.inr (Sum.inr (fun j => (f j).map ad)))))
      rw [e]
    refine ⟨cA, cell, by rw [he n hn, hq, h1], ?_, h3⟩
    show jCe n cA (jA ad' (len, x)) cell
    rw [e]
    exact h2
  | inr q =>
    obtain ⟨r, h1, h2⟩ := h
    refine ⟨r, h1, ?_⟩
    have e : q.2.map (jv ad') = q.2.map (jv ad) := List.map_congr_left fun v hv => jv_same (hc v hv) he
    rw [e, he n hn]
    exact h2.kept hq
theorem jcell_vm (cA : ClassId) (x : vp_A) : (vp_cell cA x).vm = .none := by
  obtain ⟨n, f | f | f | f | f⟩ := x <;> rfl
theorem jcell_cls (cA : ClassId) (x : vp_A) : (vp_cell cA x).cls = cA := by
  obtain ⟨n, f | f | f | f | f⟩ := x <;> rfl
theorem jAt.mk {D : va_G} {s : State} {ad : Nat → Nat} {n : Nat} {q : FieldType × vp_A} {H : Heap} {cA : ClassId} (h : H[ad n]? = some (vp_cell cA (jA ad q.2))) (hA : ArrOfT s cA q.1) (hRA : va_RA s cA q.1) : jAt D s ad n (.inl q) H := by
  have e := jcell_vm cA (jA ad q.2)
  refine ⟨cA, _, h, ⟨jcell_cls _ _, rfl, ?_, ?_, fun _ => rfl⟩, hA, fun _ => hRA⟩
  · rw [e]
    intro z
    cases z
  · intro k
    rw [e]
    intro z
    cases z
theorem jAt.ex {D : va_G} {s : State} {ad : Nat → Nat} {n : Nat} {q : FieldType × vp_A} {H : Heap} (h : jAt D s ad n (.inl q) H) (h8 : 8 ≤ n) : ∃ cA : ClassId, H[ad n]? = some (vp_cell cA (jA ad q.2)) ∧ ArrOfT s cA q.1 ∧ va_RA s cA q.1 := by
  obtain ⟨cA, cell, h1, h2, h3, h4⟩ := h
  exact ⟨cA, by rw [h1, h2.2.2.2.2 h8], h3, h4 h8⟩
theorem jAt.arr {D : va_G} {s : State} {ad : Nat → Nat} {n : Nat} {q : FieldType × vp_A} {H : Heap} (h : jAt D s ad n (.inl q) H) : ∃ (cA : ClassId) (cell : Cell), H[ad n]? = some cell ∧ cell.slots = (vp_cell cA (jA ad q.2)).slots ∧ cell.cls = cA ∧ cell.vm ≠ .unknown ∧ cell.vm.isStatics = false ∧ s.isArrayOf cell q.1 ∧ ArrOfT s cA q.1 ∧ (8 ≤ n → va_RA s cA q.1) := by
  obtain ⟨cA, cell, h1, ⟨g1, g2, g3, g4, -⟩, h3, h4⟩ := h
  obtain ⟨-, k, hk, comp, hkind⟩ := h3 0 (fun _ => .null)
  have hk : s.vm.classes[cA]? = some k := hk
  refine ⟨cA, cell, h1, g2, g1, g3, ?_, ⟨g4, k, by rw [g1]; exact hk, comp, hkind⟩, h3, h4⟩
  cases hv : cell.vm <;> first | rfl | exact absurd hv (g4 _)
theorem jAt.moved {D : va_G} {s u : State} {ad : Nat → Nat} {n : Nat} {o : jO} {H : Heap} (hvm : s.vm.Alike u.vm) (h : jAt D s ad n o H) : jAt D u ad n o H := by
  cases o with
  | inl q =>
    obtain ⟨cA, cell, h1, h0, h2, h3⟩ := h
    exact ⟨cA, cell, h1, h0, fun N z => State.isArrayOf_alike hvm (h2 N z), fun h8 => va_RA.moved hvm (h3 h8)⟩
  | inr q => exact h
theorem jCells.moved {D : va_G} {s u : State} {ad : Nat → Nat} {hp : jH} {H : Heap} (hvm : s.vm.Alike u.vm) (h : jCells D s ad hp H) : jCells D u ad hp H := fun n o ho => ⟨(h n o ho).1.moved hvm, (h n o ho).2⟩
theorem jG.moved {D : va_G} {s U : State} (hW : s.WarmedH U.vm) (h : jG D s) : jG D U := by
  refine ⟨va_K.moved hW.alike h.1, fun w hw hk => ?_, h.2.2.1.moved hW.alike, h.2.2.2.moved hW.alike⟩
  have h0 := h.2.1 w hw hk
  cases w with
  | fieldLinkNest a i b n d q => exact va_Nw.warmF hW h0
  | methodLinkNest a i x q => exact va_Nw.warmM hW h0
  | castable a b => exact va_Nw.warmC hW h0
  | declares x => exact va_Nw.warmD hW h0
  | arrayOver t =>
    cases t with
    | object C => exact va_AO.moved hW.alike h0
    | _ => exact Bool.noConfusion (show false = true from hk)
  | _ => exact Bool.noConfusion (show false = true from hk)
