/-! THE J LAYER, 4: the abstract heap's own operations, and rows of instructions that touch the heap -/
set_option maxRecDepth 100000
def jset (hp : jH) (a : Nat) (o : jO) : jH := fun j => if j = a then some o else hp j
theorem jset_self (hp : jH) (a : Nat) (o : jO) : jset hp a o a = some o := by simp [jset]
theorem jset_ne (hp : jH) {a j : Nat} (o : jO) (h : j ≠ a) : jset hp a o j = hp j := by simp [jset, h]
theorem jset_dom {hp : jH} {a : Nat} {o : jO} {j : Nat} (h : hp j ≠ none) : jset hp a o j ≠ none := by
  by_cases e : j = a
  · subst e; rw [jset_self]; exact fun q => by cases q
  · rw [jset_ne hp o e]; exact h
theorem jset_dom' {hp : jH} {a : Nat} {o : jO} {j : Nat} (ha : hp a ≠ none) (h : jset hp a o j ≠ none) : hp j ≠ none := by
  by_cases e : j = a
  · subst e; exact ha
  · rw [jset_ne hp o e] at h; exact h
/-- reading a field -/
def jgF (hp : jH) (a ci k : Nat) : Option Value := match hp a with
  | some (.inr (c, fs)) => if c = ci then fs[k]? else none
  | _ => none
def jgI (hp : jH) (a ci k : Nat) : Option Int32 := match jgF hp a ci k with
  | some (.int x) => some x
  | _ => none
def jgA (hp : jH) (a ci k : Nat) : Option Nat := match jgF hp a ci k with
  | some (.ref x) => some x
  | _ => none
def jgR (hp : jH) (a ci k : Nat) : Option (Option Nat) := match jgF hp a ci k with
  | some (.ref x) => some (some x)
  | some .null => some none
  | _ => none
/-- writing a field -/
def jpF (hp : jH) (a ci k : Nat) (v : Value) : Option jH := match hp a with
  | some (.inr (c, fs)) => if c = ci ∧ k < fs.length ∧ 8 ≤ a then some (jset hp a (.inr (c, fs.set k v))) else none
  | _ => none
/-- it is an object of that class -/
def jis (hp : jH) (a ci : Nat) : Option Unit := match hp a with
  | some (.inr (c, _)) => if c = ci then some () else none
  | _ => none
/-- arrays -/
def jaF (hp : jH) (a : Nat) : Option (FieldType × vp_A) := match hp a with
  | some (.inl x) => some x
  | _ => none
def jaI (hp : jH) (a : Nat) (ty : FieldType) (i : Int32) : Option Int32 := match hp a with
  | some (.inl (t, len, .inl f)) => if t = ty ∧ 0 ≤ i.toInt ∧ i.toInt < len then some (f i.toNatClampNeg) else none
  | _ => none
def jaL (hp : jH) (a : Nat) (i : Int32) : Option Int64 := match hp a with
  | some (.inl (t, len, .inr (.inl f))) => if t = .long ∧ 0 ≤ i.toInt ∧ i.toInt < len then some (f i.toNatClampNeg) else none
  | _ => none
def jaR (hp : jH) (a : Nat) (i : Int32) : Option (Option Nat) := match hp a with
  | some (.inl (t, len, .inr (.inr (.inr (.inr f))))) => if t.isReference = true ∧ 0 ≤ i.toInt ∧ i.toInt < len then some (f i.toNatClampNeg) else none
  | _ => none
def jaA (hp : jH) (a : Nat) (i : Int32) : Option Nat := (jaR hp a i).bind id
def jalen (hp : jH) (a : Nat) : Option Int32 := match hp a with
  | some (.inl (_, len, _)) => some (Int32.ofNat len)
  | _ => none
def jaSI (hp : jH) (a : Nat) (i x : Int32) : Option jH := match hp a with
  | some (.inl (t, len, .inl f)) => if t = .int ∧ 0 ≤ i.toInt ∧ i.toInt < len ∧ 8 ≤ a then some (jset hp a (.inl (.int, len, .inl (upd f i.toNatClampNeg x)))) else none
  | _ => none
def jaSB (hp : jH) (a : Nat) (ty : FieldType) (i x : Int32) : Option jH := match hp a with
  | some (.inl (t, len, .inl f)) => if t = ty ∧ 0 ≤ i.toInt ∧ i.toInt < len ∧ 8 ≤ a then some (jset hp a (.inl (ty, len, .inl (upd f i.toNatClampNeg (vp_nar ty x))))) else none
  | _ => none
def jaSL (hp : jH) (a : Nat) (i : Int32) (x : Int64) : Option jH := match hp a with
  | some (.inl (t, len, .inr (.inl f))) => if t = .long ∧ 0 ≤ i.toInt ∧ i.toInt < len ∧ 8 ≤ a then some (jset hp a (.inl (.long, len, .inr (.inl (vp_updL f i.toNatClampNeg x))))) else none
  | _ => none
def jaSR (hp : jH) (a : Nat) (C : String) (i : Int32) (b ci : Nat) : Option jH := match hp a, hp b with
  | some (.inl (t, len, .inr (.inr (.inr (.inr f))))), some (.inr (c, _)) => if t = .object C ∧ c = ci ∧ 0 ≤ i.toInt ∧ i.toInt < len ∧ 8 ≤ a then some (jset hp a (.inl (.object C, len, .inr (.inr (.inr (.inr (va_up f i.toNatClampNeg (some b)))))))) else none
  | _, _ => none
/-- a new cell -/
def jnew (hp : jH) (a : Nat) (o : jO) : Option jH := match hp a with
  | none => if 8 ≤ a then some (jset hp a o) else none
  | some _ => none
/-- .. forgotten -/
def jdel (hp : jH) (a : Nat) : jH := fun j => if j = a then none else hp j
theorem jgF_spec {hp : jH} {a ci k : Nat} {v : Value} (h : jgF hp a ci k = some v) : ∃ fs, hp a = some (.inr (ci, fs)) ∧ fs[k]? = some v := by
  unfold jgF at h
  split at h
  · rename_i c fs e
    split at h
    · rename_i hc
      subst hc
      exact ⟨fs, e, h⟩
    · cases h
  · cases h
theorem jgI_spec {hp : jH} {a ci k : Nat} {x : Int32} (h : jgI hp a ci k = some x) : jgF hp a ci k = some (.int x) := by
  unfold jgI at h
  split at h
  · rename_i e; cases h; exact e
  · cases h
theorem jgA_spec {hp : jH} {a ci k : Nat} {x : Nat} (h : jgA hp a ci k = some x) : jgF hp a ci k = some (.ref x) := by
  unfold jgA at h
  split at h
  · rename_i e; cases h; exact e
  · cases h
theorem jgR_spec {hp : jH} {a ci k : Nat} {r : Option Nat} (h : jgR hp a ci k = some r) : jgF hp a ci k = some (va_rf r) := by
  unfold jgR at h
  split at h
  · rename_i e; cases h; exact e
  · rename_i e; cases h; exact e
  · cases h
theorem jpF_spec {hp hp' : jH} {a ci k : Nat} {v : Value} (h : jpF hp a ci k v = some hp') : ∃ fs, hp a = some (.inr (ci, fs)) ∧ k < fs.length ∧ 8 ≤ a ∧ hp' = jset hp a (.inr (ci, fs.set k v)) := by
  unfold jpF at h
  split at h
  · rename_i c fs e
    split at h
    · rename_i hc
      obtain ⟨h1, h2, h3⟩ := hc
      subst h1
      cases h
      exact ⟨fs, e, h2, h3, rfl⟩
    · cases h
  · cases h
theorem jis_spec {hp : jH} {a ci : Nat} {u : Unit} (h : jis hp a ci = some u) : ∃ fs, hp a = some (.inr (ci, fs)) := by
  unfold jis at h
  split at h
  · rename_i c fs e
    split at h
    · rename_i hc
      subst hc
      exact ⟨fs, e⟩
    · cases h
  · cases h
theorem jin {i : Int32} {n : Nat} (h1 : 0 ≤ i.toInt) (h2 : i.toInt < n) : vp_in i n := vp_in_iff.mpr ⟨h1, h2⟩
theorem jnew_spec {hp hp' : jH} {a : Nat} {o : jO} (h : jnew hp a o = some hp') : hp a = none ∧ 8 ≤ a ∧ hp' = jset hp a o := by
  unfold jnew at h
  split at h
  · rename_i e
    split at h
    · rename_i h8; cases h; exact ⟨e, h8, rfl⟩
    · cases h
  · cases h
theorem jclo.mono {hp hp' : jH} {o : jO} (h : jclo hp o) (hm : ∀ n, hp n ≠ none → hp' n ≠ none) : jclo hp' o := by
  cases o with
  | inl q =>
    obtain ⟨t, n, x⟩ := q
    rcases x with f | f | f | f | f <;> first | trivial | exact fun j n hj => hm n (h j n hj)
  | inr q => exact fun v hv n e => hm n (h v hv n e)
theorem jAt.lt {D : va_G} {s : State} {ad : Nat → Nat} {n : Nat} {o : jO} {H : Heap} (h : jAt D s ad n o H) : ad n < H.size := by
  cases o with
  | inl q =>
    obtain ⟨cA, cell, h1, -⟩ := h
    exact (Array.getElem?_eq_some_iff.mp h1).1
  | inr q =>
    obtain ⟨r, -, cell, h1, -⟩ := h
    exact (Array.getElem?_eq_some_iff.mp h1).1
theorem jlive {hp : jH} {n : Nat} (h : hp n ≠ none) : ∃ o, hp n = some o := by
  cases e : hp n with
  | none => exact absurd e h
  | some o => exact ⟨o, rfl⟩
/-- a cell that may be written is written -/
theorem jR.put {D : va_G} {s : State} {ad0 ad : Nat → Nat} {hp0 hp : jH} {H H' : Heap} {locs : List Loc} (hR : jR D s ad0 hp0 ad hp H locs) {a i : Nat} {o : jO} (ha : hp a ≠ none) (h8 : 8 ≤ a) (hat : jAt D s ad a o H') (hclo : jclo hp o) (z : H'.size = H.size) (oq : ∀ q : Nat, q ≠ ad a → H'[q]? = H[q]?) : jR D s ad0 hp0 ad (jset hp a o) H' (locs ++ [⟨ad a, i⟩]) := by
  obtain ⟨hC, hI, hS, hF, hE, h9⟩ := hR
  refine ⟨fun n o' ho => ?_, fun i j hi hj e => hI i j (jset_dom' ha hi) (jset_dom' ha hj) e, hS.put z oq (hF a ha h8), fun n hn h => hF n (jset_dom' ha hn) h, fun n hn => ⟨(hE n hn).1, jset_dom (hE n hn).2⟩, fun n hn h => h9 n hn (jset_dom' ha h)⟩
  by_cases e : n = a
  · subst e
    rw [jset_self] at ho
    cases ho
    exact ⟨hat, hclo.mono (fun n => jset_dom)⟩
  · rw [jset_ne hp o e] at ho
    have hn : hp n ≠ none := by rw [ho]; exact fun q => by cases q
    obtain ⟨h1, h2⟩ := hC n o' ho
    exact ⟨h1.kept (hp := hp) h2 hn (fun _ _ => rfl) (oq _ (fun q => e (hI n a hn ha q))), h2.mono (fun n => jset_dom)⟩
/-- a new cell, under a new name -/
theorem jR.new {D : va_G} {s : State} {ad0 ad : Nat → Nat} {hp0 hp : jH} {H H' : Heap} {locs : List Loc} (hR : jR D s ad0 hp0 ad hp H locs) {a : Nat} {o : jO} (ha : hp a = none) (h8 : 8 ≤ a) (hat : ∀ ad' : Nat → Nat, ad' a = H.size → (∀ i, hp i ≠ none → ad' i = ad i) → jAt D s ad' a o H') (hclo : jclo hp o) (z : H'.size = H.size + 1) (oq : ∀ q : Nat, q < H.size → H'[q]? = H[q]?) :
    ∃ ad' : Nat → Nat, ad' a = H.size ∧ (∀ i, hp i ≠ none → ad' i = ad i) ∧ jR D s ad0 hp0 ad' (jset hp a o) H' locs := by
  obtain ⟨hC, hI, hS, hF, hE, h9⟩ := hR
  have hne : ∀ i, hp i ≠ none → i ≠ a := fun i hi e => hi (by rw [e]; exact ha)
  have hk : ∀ i, hp i ≠ none → (fun j => if j = a then H.size else ad j) i = ad i := fun i hi => by simp [hne i hi]
  have hs : (fun j => if j = a then H.size else ad j) a = H.size := by simp
  refine ⟨fun j => if j = a then H.size else ad j, hs, hk, fun n o' ho => ?_, fun i j hi hj e => ?_, ⟨Nat.le_trans hS.1 (by omega), fun q h1 h2 => (oq q (Nat.lt_of_lt_of_le h1 hS.1)).trans (hS.2.1 q h1 h2), hS.2.2⟩, fun n hn h => ?_, fun n hn => ⟨?_, jset_dom (hE n hn).2⟩, fun n hn h => h9 n hn (by rw [jset_ne hp o (by omega)] at h; exact h)⟩
  · by_cases e : n = a
    · subst e
      rw [jset_self] at ho
      cases ho
      exact ⟨hat _ hs hk, hclo.mono (fun n => jset_dom)⟩
    · rw [jset_ne hp o e] at ho
      have hn : hp n ≠ none := by rw [ho]; exact fun q => by cases q
      obtain ⟨h1, h2⟩ := hC n o' ho
      exact ⟨h1.kept (hp := hp) h2 hn hk (oq _ h1.lt), h2.mono (fun n => jset_dom)⟩
  · have hlt : ∀ i, hp i ≠ none → ad i < H.size := fun i hi => by
      obtain ⟨o', ho⟩ := jlive hi
      exact (hC i o' ho).1.lt
    by_cases ei : i = a
    · by_cases ej : j = a
      · rw [ei, ej]
      · rw [jset_ne hp o ej] at hj
        subst ei
        rw [hs, hk j hj] at e
        have := hlt j hj
        omega
    · rw [jset_ne hp o ei] at hi
      by_cases ej : j = a
      · subst ej
        rw [hs, hk i hi] at e
        have := hlt i hi
        omega
      · rw [jset_ne hp o ej] at hj
        rw [hk i hi, hk j hj] at e
        exact hI i j hi hj e
  · by_cases e : n = a
    · subst e
      rw [hs]
      exact Or.inr hS.1
    · rw [jset_ne hp o e] at hn
      rw [hk n hn]
      exact hF n hn h
  · rw [hk n (hE n hn).2]
    exact (hE n hn).1

/-- the class that the reference names is the declarer, or finds the declarer's field -/
def jsm (ref decl nm d : String) : Prop := decl = ref ∨ Cond.sameField ref decl nm d ∈ lw_all
theorem jsm.use {ref decl nm d : String} {s : State} {args : Array Value} (h : jsm ref decl nm d) (hts : ∀ w ∈ lw_all, w.before args s = true) : ∀ x, s.fieldFound? decl nm d = some x → s.fieldFound? ref nm d = some x := by
  rcases h with h | h
  · subst h; exact fun _ h => h
  · exact fun x hx => u_same (hts _ h) x hx
def jlk (own : String) (ix : Nat) (ref nm d : String) : Prop := Cond.fieldLink own ix ref nm d ∈ lw_all ∨ ∃ host, Cond.fieldLinkNest own ix ref nm d host ∈ lw_tbl
theorem jmap_get {ad : Nat → Nat} {fs : List Value} {k : Nat} {v : Value} (h : fs[k]? = some v) : (fs.map (jv ad))[k]? = some (jv ad v) := by
  rw [List.getElem?_map, h]; rfl
theorem jmap_set {ad : Nat → Nat} {fs : List Value} {k : Nat} {v : Value} : (fs.set k v).map (jv ad) = (fs.map (jv ad)).set k (jv ad v) := by
  rw [List.map_set]
/-- an object's fields lie in slots apart -/
def jap (ci N : Nat) : Prop := ∀ (D : va_G) (s : State) (args : Array Value), (∀ w ∈ lw_all, w.before args s = true) → va_K D jcl [] s → ∀ x y, x < N → y < N → x ≠ y → (D.2 ci) x ≠ (D.2 ci) y
theorem jap_of {ci N : Nat} {C : String} {T : u_T} (hin : ∀ w ∈ u_ws C T N, w ∈ lw_all) (ty : Nat → FieldType) (hty : ∀ k, k < N → parseFieldDescriptor (T k).2.2.1 = some (ty k)) (hnm : ∀ a, a < N → ∀ b, b < N → a ≠ b → (T a).2.1 ≠ (T b).2.1) (hc : jcl[ci]? = some (C, T, N)) : jap ci N :=
  fun _ _ _ hts hK => va_apart (own := C) hts hin ty hty hnm hK hc
theorem jap_decl {args : Array Value} {s : State} {C O1 O2 f d f2 d2 : String} (h1 : (Cond.laysFinal C O1 f d).before args s = true) (h2 : (Cond.laysFinal C O2 f2 d2).before args s = true) (hne : O1 ≠ O2) {cf kf fi fd cf' kf' fi' fd'} (hi : s.fieldFound? O1 f d = some (cf, kf, fi, fd)) (hi' : s.fieldFound? O2 f2 d2 = some (cf', kf', fi', fd')) : fd.slot ≠ fd'.slot := by
  obtain ⟨c, k, c1, k1, i1, f1, a1, a2, a3, a4, a5, a6, a7, a8, e1, b1, b2, b3, b4⟩ := Cond.laysFinal_spec h1
  obtain ⟨c', k', c1', k1', i1', f1', a1', a2', a3', a4', a5', a6', a7', a8', e1', b1', b2', b3', b4'⟩ := Cond.laysFinal_spec h2
  cases hi.symm.trans a3
  cases hi'.symm.trans a3'
  cases a1.symm.trans a1'
  intro e
  rw [e, b1'] at b1
  cases b1
  obtain ⟨q1, g1, g2⟩ := Vm.findClass_spec a7
  obtain ⟨q2, g3, g4⟩ := Vm.findClass_spec a7'
  cases (State.fieldFound?_spec a3).1.symm.trans g1
  cases (State.fieldFound?_spec a3').1.symm.trans g3
  exact hne (g2.symm.trans (b2.symm.trans (b2'.trans g4)))
/-- .. where two fields of one name are declared by two classes -/
theorem jap_two {ci N : Nat} {C : String} {T : u_T} (hin : ∀ w ∈ u_ws C T N, w ∈ lw_all) (ty : Nat → FieldType) (hty : ∀ k, k < N → parseFieldDescriptor (T k).2.2.1 = some (ty k)) (hc : jcl[ci]? = some (C, T, N)) (hnm : ∀ a, a < N → ∀ b, b < N → a ≠ b → (T a).2.1 ≠ (T b).2.1 ∨ ((T a).1 ≠ (T b).1 ∧ (T a).2.2.2 = true ∧ (T b).2.2.2 = true)) : jap ci N := by
  intro D s args hts hK x y hx hy hne
  obtain ⟨hS, -⟩ := hK.1 ci _ hc
  obtain ⟨_, _, _, fa, hia, ea⟩ := hS x hx
  obtain ⟨_, _, _, fb, hib, eb⟩ := hS y hy
  show D.2 ci x ≠ D.2 ci y
  rw [← ea, ← eb]
  rcases hnm x hx y hy hne with h | ⟨h1, h2, h3⟩
  · refine u_apart (u_lays hts hin hx) (u_lays hts hin hy) hia hib ?_
    rw [(State.fieldFound?_type hia (hty x hx)).1, (State.fieldFound?_type hib (hty y hy)).1]
    exact h
  · have l1 := hts _ (hin _ (u_in_lay hx))
    have l2 := hts _ (hin _ (u_in_lay hy))
    unfold u_lay at l1 l2
    rw [if_pos h2] at l1
    rw [if_pos h3] at l2
    exact jap_decl l1 l2 h1 hia hib
theorem ap0 : jap 0 28 := jap_of in_X0 tyX0 tyX0_ok nmX0 rfl
theorem ap1 : jap 1 4 := jap_two in_X2 tyX2 tyX2_ok rfl (by decide +kernel)
theorem ap2 : jap 2 4 := jap_two in_X3 tyX3 tyX3_ok rfl (by decide +kernel)
theorem ap3 : jap 3 2 := jap_of in_X4 tyX4 tyX4_ok nmX4 rfl
theorem ap4 : jap 4 5 := jap_of in_X6 tyX6 tyX6_ok nmX6 rfl
theorem ap5 : jap 5 3 := jap_of in_J2 tyJ2 tyJ2_ok nmJ2 rfl
theorem ap6 : jap 6 7 := jap_of in_X7 tyX7 tyX7_ok nmX7 rfl
theorem ap7 : jap 7 8 := jap_of in_X8 tyX8 tyX8_ok nmX8 rfl
theorem ap8 : jap 8 2 := jap_of in_X9 tyX9 tyX9_ok nmX9 rfl
theorem ap9 : jap 9 52 := jap_of in_X5 tyX5 tyX5_ok nmX5 rfl
section JH
variable {X : jX} {cc : ByteArray} {nL : Nat} {y : MethodName} {k n pc : Nat} {lv : List (Option Value)} {st : List Value} {hp hp' : jH}
/-- getfield -/
theorem J.get {C ref : String} {T : u_T} {N ix a : Nat} {v : Value} (ci fk : Nat) (hin : ∀ w ∈ u_ws C T N, w ∈ lw_all) (hc : jcl[ci]? = some (C, T, N)) (hk : fk < N) (hlink : jlk y.cls ix ref (T fk).2.1 (T fk).2.2.1) (hsame : jsm ref (T fk).1 (T fk).2.1 (T fk).2.2.1) (hg : jgF hp a ci fk = some v) (hd : decode cc pc = .ok (.getfield ix, 3)) (kk : J X cc nL y k n (pc + 3) lv (v :: st) hp) : J X cc nL y k n pc lv (.ref a :: st) hp := by
  obtain ⟨p, l, e, R, s, m, args, below, meth, c, Q, D, ad0, hp0⟩ := X
  intro hx hb hml hown hmn hts hG hZ ad H locs ls hR hL hS
  obtain ⟨fs, h1, h2⟩ := jgF_spec hg
  obtain ⟨hat, hclo⟩ := hR.1 a _ h1
  obtain ⟨r, hr, hob⟩ := hat
  have hP : va_P D jcl [(ad a, .inr (ci, fs.map (jv ad)))] H := fun i q hq => by
    have hz : i < 1 := (List.getElem?_eq_some_iff.mp hq).1
    rw [show i = 0 by omega] at hq
    cases hq
    exact ⟨r, hr, hob⟩
  have hw : W p l e R s m args below meth c H locs k n Q (F0 m (pc + 3) ls (jv ad v :: st.map (jv ad))) := kk hx hb hml hown hmn hts hG hZ ad H locs ls hR hL (hS.t.p (hclo v (List.mem_of_getElem? h2)))
  have hsm := hsame.use hts
  rcases hlink with hl | ⟨host, hl⟩
  · exact va_get hx hb hts hin hown hG.1 hP 0 rfl hc fk hk (hts _ hl) hsm (jmap_get h2) hd hw
  · exact va_getN hx hb hts hin hown hG.1 hP 0 rfl hc fk hk (va_Nw.use rfl (hG.2.1 _ hl rfl)) hsm (jmap_get h2) hd hw
theorem J.getI {C ref : String} {T : u_T} {N ix a : Nat} {x : Int32} (ci fk : Nat) (hin : ∀ w ∈ u_ws C T N, w ∈ lw_all) (hc : jcl[ci]? = some (C, T, N)) (hk : fk < N) (hlink : jlk y.cls ix ref (T fk).2.1 (T fk).2.2.1) (hsame : jsm ref (T fk).1 (T fk).2.1 (T fk).2.2.1) (hg : jgI hp a ci fk = some x) (hd : decode cc pc = .ok (.getfield ix, 3)) (kk : J X cc nL y k n (pc + 3) lv (.int x :: st) hp) : J X cc nL y k n pc lv (.ref a :: st) hp :=
  J.get ci fk hin hc hk hlink hsame (jgI_spec hg) hd kk
theorem J.getA {C ref : String} {T : u_T} {N ix a : Nat} {x : Nat} (ci fk : Nat) (hin : ∀ w ∈ u_ws C T N, w ∈ lw_all) (hc : jcl[ci]? = some (C, T, N)) (hk : fk < N) (hlink : jlk y.cls ix ref (T fk).2.1 (T fk).2.2.1) (hsame : jsm ref (T fk).1 (T fk).2.1 (T fk).2.2.1) (hg : jgA hp a ci fk = some x) (hd : decode cc pc = .ok (.getfield ix, 3)) (kk : J X cc nL y k n (pc + 3) lv (.ref x :: st) hp) : J X cc nL y k n pc lv (.ref a :: st) hp :=
  J.get ci fk hin hc hk hlink hsame (jgA_spec hg) hd kk
theorem J.getRs {C ref : String} {T : u_T} {N ix a : Nat} {x : Nat} (ci fk : Nat) (hin : ∀ w ∈ u_ws C T N, w ∈ lw_all) (hc : jcl[ci]? = some (C, T, N)) (hk : fk < N) (hlink : jlk y.cls ix ref (T fk).2.1 (T fk).2.2.1) (hsame : jsm ref (T fk).1 (T fk).2.1 (T fk).2.2.1) (hg : jgR hp a ci fk = some (some x)) (hd : decode cc pc = .ok (.getfield ix, 3)) (kk : J X cc nL y k n (pc + 3) lv (.ref x :: st) hp) : J X cc nL y k n pc lv (.ref a :: st) hp :=
  J.get ci fk hin hc hk hlink hsame (jgR_spec hg) hd kk
theorem J.getRn {C ref : String} {T : u_T} {N ix a : Nat} (ci fk : Nat) (hin : ∀ w ∈ u_ws C T N, w ∈ lw_all) (hc : jcl[ci]? = some (C, T, N)) (hk : fk < N) (hlink : jlk y.cls ix ref (T fk).2.1 (T fk).2.2.1) (hsame : jsm ref (T fk).1 (T fk).2.1 (T fk).2.2.1) (hg : jgR hp a ci fk = some none) (hd : decode cc pc = .ok (.getfield ix, 3)) (kk : J X cc nL y k n (pc + 3) lv (.null :: st) hp) : J X cc nL y k n pc lv (.ref a :: st) hp :=
  J.get ci fk hin hc hk hlink hsame (jgR_spec hg) hd kk
/-- putfield, a field that isn't final -/
theorem J.put {C ref : String} {T : u_T} {N ix a : Nat} {v : Value} {ty : FieldType} (ci fk : Nat) (hin : ∀ w ∈ u_ws C T N, w ∈ lw_all) (hap0 : jap ci N) (hc : jcl[ci]? = some (C, T, N)) (hk : fk < N) (hlink : jlk y.cls ix ref (T fk).2.1 (T fk).2.2.1) (hsame : jsm ref (T fk).1 (T fk).2.1 (T fk).2.2.1) (hfin : (T fk).2.2.2 = false) (hd9 : parseFieldDescriptor (T fk).2.2.1 = some ty) (hn : ∀ ad : Nat → Nat, narrow ty (jv ad v) = jv ad v ∧ fits ty (jv ad v) = true) (hg : jpF hp a ci fk v = some hp') (hd : decode cc pc = .ok (.putfield ix, 3)) (kk : J X cc nL y k n (pc + 3) lv st hp') : J X cc nL y k n pc lv (v :: .ref a :: st) hp := by
  obtain ⟨p, l, e, R, s, m, args, below, meth, c, Q, D, ad0, hp0⟩ := X
  intro hx hb hml hown hmn hts hG hZ ad H locs ls hR hL hS
  obtain ⟨fs, h1, hl, h8, rfl⟩ := jpF_spec hg
  have hlv : hp a ≠ none := by rw [h1]; exact fun q => by cases q
  obtain ⟨hat, hclo⟩ := hR.1 a _ h1
  obtain ⟨r, hr, cell, q1, q2, q3, q4⟩ := hat
  have hrr : r = (C, T, N) := Option.some.inj (hr.symm.trans hc)
  subst hrr
  have hap := hap0 D s args hts hG.1
  obtain ⟨hSl, hfc, kC, hkC, hkind⟩ := hG.1.1 ci _ hc
  obtain ⟨cf, kf, fi, f, hi, hsl⟩ := hSl fk hk
  have hlay := hts _ (hin _ (u_in_lay hk))
  unfold u_lay at hlay
  rw [if_neg (by rw [hfin]; decide)] at hlay
  have hst := (u_facts hfc hkC (u_lays hts hin hk) hi).1
  have h6 := u_store hfc hkC hkind hlay hi hd9 (hn ad).1 (hn ad).2
  have hvok : jok hp v := hS.h
  have hsm := hsame.use hts
  have key : ∀ H' : Heap, H'[ad a]? = some (cell.setSlot f.slot (jv ad v)) → H'.size = H.size → (∀ q : Nat, q ≠ ad a → H'[q]? = H[q]?) → W p l e R s m args below meth c H' (locs ++ [⟨ad a, f.slot⟩]) k n Q (F0 m (pc + 3) ls (st.map (jv ad))) := by
    intro H' e1 e2 e3
    rw [hsl] at e1
    refine kk hx hb hml hown hmn hts hG hZ ad H' _ ls (hR.put hlv h8 ?_ ?_ e2 e3) (hL.mono fun n => jset_dom) (hS.t.t.mono fun n => jset_dom)
    · refine ⟨_, hc, ?_⟩
      show t_OB _ _ _ _ _ (vp_V ((fs.set fk v).map (jv ad)))
      rw [jmap_set]
      exact t_OB.to (V := updV (vp_V (fs.map (jv ad))) fk (jv ad v)) ⟨_, e1, q2, q3, t_set q4 hap hk _⟩ (fun j _ => vp_updV_set (by rw [List.length_map]; exact hl) _ j)
    · intro w hw
      rcases List.mem_or_eq_of_mem_set hw with h | h
      · exact hclo w h
      · rw [h]; exact hvok
  rcases hlink with hl | ⟨host, hl⟩
  · exact W.putK hx hb (f := f) ⟨hown, hts _ hl, ⟨_, _, _, hsm _ hi⟩, hst⟩ (by rw [q2]; exact h6) q1 q3 (by rw [hsl]; exact k2_hasslot (q4 fk hk)) rfl rfl hd key
  · exact va_WputK hx hb (f := f) hown (va_Nw.use rfl (hG.2.1 _ hl rfl)) (hsm _ hi) hst (by rw [q2]; exact h6) q1 q3 (by rw [hsl]; exact k2_hasslot (q4 fk hk)) rfl rfl hd key
/-- putfield of a final field in its class's constructor -/
theorem J.putF {C ref : String} {T : u_T} {N ix a : Nat} {v : Value} {ty : FieldType} (ci fk : Nat) (hin : ∀ w ∈ u_ws C T N, w ∈ lw_all) (hap0 : jap ci N) (hc : jcl[ci]? = some (C, T, N)) (hk : fk < N) (hlink : Cond.fieldLink y.cls ix ref (T fk).2.1 (T fk).2.2.1 ∈ lw_all) (hsame : (T fk).1 = ref) (hfin : (T fk).2.2.2 = true) (hini : y.name = "<init>") (hdecl : (T fk).1 = y.cls) (hd9 : parseFieldDescriptor (T fk).2.2.1 = some ty) (hn : ∀ ad : Nat → Nat, narrow ty (jv ad v) = jv ad v ∧ fits ty (jv ad v) = true) (hg : jpF hp a ci fk v = some hp') (hd : decode cc pc = .ok (.putfield ix, 3)) (kk : J X cc nL y k n (pc + 3) lv st hp') : J X cc nL y k n pc lv (v :: .ref a :: st) hp := by
  obtain ⟨p, l, e, R, s, m, args, below, meth, c, Q, D, ad0, hp0⟩ := X
  intro hx hb hml hown hmn hts hG hZ ad H locs ls hR hL hS
  obtain ⟨fs, h1, hl, h8, rfl⟩ := jpF_spec hg
  have hlv : hp a ≠ none := by rw [h1]; exact fun q => by cases q
  obtain ⟨hat, hclo⟩ := hR.1 a _ h1
  obtain ⟨r, hr, cell, q1, q2, q3, q4⟩ := hat
  have hrr : r = (C, T, N) := Option.some.inj (hr.symm.trans hc)
  subst hrr
  have hap := hap0 D s args hts hG.1
  obtain ⟨hSl, hfc, kC, hkC, hkind⟩ := hG.1.1 ci _ hc
  obtain ⟨cf, kf, fi, f, hi, hsl⟩ := hSl fk hk
  have hlay := hts _ (hin _ (u_in_lay hk))
  unfold u_lay at hlay
  rw [if_pos hfin] at hlay
  have hst := (u_facts hfc hkC (u_lays hts hin hk) hi).1
  have hcf : m.cls = cf := by
    obtain ⟨_, _, c', _, _, _, -, -, hf', -, -, -, hown2, -⟩ := Cond.laysFinal_spec hlay
    have e1 : c' = cf := by have := hi.symm.trans hf'; simp at this; exact this.1.symm
    rw [hdecl] at hown2
    rw [← e1]; exact Option.some.inj (hown.symm.trans hown2)
  have h6 := u_fits hfc hkC hkind (Or.inr hlay) hi hd9 (hn ad).1 (hn ad).2
  have hvok : jok hp v := hS.h
  subst hsame
  refine W.putFinK hx hb hown (hts _ hlink) hi hst hcf (hmn.trans hini) (by rw [q2]; exact h6) q1 q3 (by rw [hsl]; exact k2_hasslot (q4 fk hk)) rfl rfl hd ?_
  intro H' e1 e2 e3
  rw [hsl] at e1
  refine kk hx hb hml hown hmn hts hG hZ ad H' _ ls (hR.put hlv h8 ?_ ?_ e2 e3) (hL.mono fun n => jset_dom) (hS.t.t.mono fun n => jset_dom)
  · refine ⟨_, hc, ?_⟩
    show t_OB _ _ _ _ _ (vp_V ((fs.set fk v).map (jv ad)))
    rw [jmap_set]
    exact t_OB.to (V := updV (vp_V (fs.map (jv ad))) fk (jv ad v)) ⟨_, e1, q2, q3, t_set q4 hap hk _⟩ (fun j _ => vp_updV_set (by rw [List.length_map]; exact hl) _ j)
  · intro w hw
    rcases List.mem_or_eq_of_mem_set hw with h | h
    · exact hclo w h
    · rw [h]; exact hvok
end JH
