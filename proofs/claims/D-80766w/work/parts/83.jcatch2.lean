/-! exceptions in J, 2: thrown and caught in one frame -/
set_option maxRecDepth 100000
def jkl (lv : List (Option Value)) (i : Nat) : List (Option Value) := (jkill lv i).set i none
theorem jL.kl {hp : jH} {ad : Nat → Nat} {ls ls' : Array Slot} {nL i : Nat} {lv : List (Option Value)} {w : Value} (h : jL hp ad ls nL lv) (h' : lv_has ls' nL ((i, w) :: (jtr ad lv).filter (fun q => !(q.1 == i) && !(q.1 + 1 == i && q.2.category == 2)))) : jL hp ad ls' nL (jkl lv i) := by
  refine ⟨h'.1, h'.2.1, fun j u hu => ?_⟩
  unfold jkl at hu
  by_cases hji : j = i
  · subst hji
    rw [List.getElem?_set] at hu
    simp at hu
  · rw [List.getElem?_set_ne (Ne.symm hji)] at hu
    obtain ⟨h1, h2⟩ := jkill_at hji hu
    refine ⟨h'.2.2 (j, jv ad u) (List.mem_cons_of_mem _ (List.mem_filter.mpr ⟨jtr_mem.mpr ⟨u, h1, rfl⟩, ?_⟩)), (h.2.2 j u h1).2⟩
    simp only [jv_cat, Bool.and_eq_true, Bool.not_eq_true', beq_eq_false_iff_ne, ne_eq, Bool.and_eq_false_iff]
    refine ⟨hji, ?_⟩
    by_cases e : j + 1 = i
    · exact Or.inr (fun z => h2 ⟨e, z⟩)
    · exact Or.inl e
/-- a table of handlers catches a class at a pc -/
def jPs (own cls : String) (pc : Nat) : List (Nat × Nat × Nat × Nat) → Nat → Prop
  | [], _ => False
  | (a, b, t, ct) :: r, h => (¬ (a ≤ pc ∧ pc < b) ∧ jPs own cls pc r h) ∨ ((a ≤ pc ∧ pc < b) ∧ ct ≠ 0 ∧ ∃ nm : String, Cond.classLink own ct nm ∈ lw_all ∧ ((Cond.castable cls nm ∈ lw_tbl ∧ t = h) ∨ ((cls, nm) ∈ jncL ∧ jPs own cls pc r h)))
theorem jPs_pass {D : va_G} {s : State} {args : Array Value} {own cls : String} {pc h : Nat} {k : ClassId} (hts : ∀ w ∈ lw_all, w.before args s = true) (hG : jG D s) (hk : s.vm.findClass cls = some k) : ∀ (t : List ClassFile.ExceptionTableEntry), jPs own cls pc (t.map (fun x => (x.startPc, x.endPc, x.handlerPc, x.catchType))) h → jPass own pc args s k t (some h)
  | [], hp => hp.elim
  | x :: t, hp => by
    rcases hp with ⟨h1, h2⟩ | ⟨h1, h2, nm, h3, h4⟩
    · refine .inl ⟨?_, jPs_pass hts hG hk t h2⟩
      unfold covers
      simp only [Bool.and_eq_false_iff, decide_eq_false_iff_not]
      rcases Classical.em (x.startPc ≤ pc) with g | g
      · exact .inr (fun g2 => h1 ⟨g, g2⟩)
      · exact .inl g
    · have hc : covers x pc = true := by
        unfold covers
        simp only [Bool.and_eq_true, decide_eq_true_eq]
        exact h1
      rcases h4 with ⟨h4, h5⟩ | ⟨h4, h5⟩
      · obtain ⟨c1, c2, f1, f2, f3⟩ := Cond.castable_spec (va_Nw.use (A := args) rfl (hG.2.1 _ h4 rfl))
        cases hk.symm.trans f1
        exact .inr ⟨hc, h2, nm, c2, hts _ h3, f2, .inl ⟨f3, by rw [← h5]⟩⟩
      · obtain ⟨c1, c2, f1, f2, f3⟩ := hG.2.2.2 _ h4
        cases hk.symm.trans f1
        exact .inr ⟨hc, h2, nm, c2, hts _ h3, f2, .inr ⟨f3, jPs_pass hts hG hk t h5⟩⟩
section JC
variable {X : jX} {cc : ByteArray} {nL : Nat} {y : MethodName} {k n pc : Nat} {lv : List (Option Value)} {st : List Value} {hp : jH} {F L MC MS : Nat}
/-- what is written lies in no class's statics -/
theorem jlocs {p : Program} {l : Launch} {e : Env} {R : Room} {s : State} {m : MethodId} {args : Array Value} {below : List Frame} {meth : Method} {c : Code} {T : State} {locs : List Loc} {cells slots : Nat} {D : va_G} {ad0 ad : Nat → Nat} {hp0 hp : jH} (S : Stand p l e R s m args below meth c T locs cells slots) (hR : jR D s ad0 hp0 ad hp T.heap locs) : ∀ x ∈ locs, ∀ cell, s.heap[x.base]? = some cell → cell.vm.isStatics = false := by
  intro x hx cell hcell
  rcases hR.2.2.1.2.2 x hx with ⟨i, h1, h2, h3⟩ | h1
  · obtain ⟨h4, h5⟩ := hR.2.2.2.2.1 i h1
    cases ho : hp i with
    | none => exact absurd ho h5
    | some o =>
      obtain ⟨cell', hc', he, -⟩ := S.same.2.2.2.2.2 x.base cell hcell
      have hv : cell'.vm = cell.vm := by rw [he]
      have hat := (hR.1 i o ho).1
      have hb : ad i = x.base := by rw [h4, h3]
      cases o with
      | inl q =>
        obtain ⟨cA, ce, h6, -, -, -, h7, -⟩ := hat.arr
        rw [hb] at h6
        cases hc'.symm.trans h6
        rw [← hv]
        exact h7
      | inr q =>
        obtain ⟨r, -, ce, h6, -, h7, -⟩ := hat
        rw [hb] at h6
        cases hc'.symm.trans h6
        rw [← hv, h7]
        rfl
  · have := (Array.getElem?_eq_some_iff.mp hcell).1
    exact absurd this (Nat.not_lt.mpr h1)
theorem jR.grown {D : va_G} {s : State} {ad0 ad : Nat → Nat} {hp0 hp : jH} {H H' : Heap} {locs : List Loc} (hR : jR D s ad0 hp0 ad hp H locs) (hsz : H.size ≤ H'.size) (he : ∀ i, i < H.size → H'[i]? = H[i]?) : jR D s ad0 hp0 ad hp H' locs := by
  obtain ⟨h1, h2, ⟨s1, s2, s3⟩, h4⟩ := hR
  refine ⟨fun i o ho => ⟨?_, (h1 i o ho).2⟩, h2, ⟨Nat.le_trans s1 hsz, fun q hq hA => ?_, s3⟩, h4⟩
  · have hat := (h1 i o ho).1
    cases o with
    | inl q =>
      obtain ⟨cA, ce, h6, h7⟩ := hat
      exact ⟨cA, ce, (he _ (Array.getElem?_eq_some_iff.mp h6).1).trans h6, h7⟩
    | inr q =>
      obtain ⟨r, h5, h6⟩ := hat
      obtain ⟨ce, h7, h8⟩ := id h6
      exact ⟨r, h5, h6.kept (he _ (Array.getElem?_eq_some_iff.mp h7).1)⟩
  · rw [he q (Nat.lt_of_lt_of_le hq s1)]
    exact s2 q hq hA
end JC
