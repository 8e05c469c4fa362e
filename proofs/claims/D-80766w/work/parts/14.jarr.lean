/-! THE J LAYER, 5: arrays, new cells, casts, statics (printed by gen_arr.py) -/
set_option maxRecDepth 100000
theorem jaI_spec {hp : jH} {a : Nat} {ty : FieldType} {i x : Int32} (h : jaI hp a ty i = some x) : ∃ (len : Nat) (f : Nat → Int32), hp a = some (.inl (ty, len, .inl f)) ∧ vp_in i len ∧ x = f i.toNatClampNeg := by
  unfold jaI at h
  split at h
  · rename_i t len f e
    split at h
    · rename_i hc
      obtain ⟨rfl, h1, h2⟩ := hc
      cases h
      exact ⟨len, f, e, jin h1 h2, rfl⟩
    · cases h
  · cases h
theorem jaL_spec {hp : jH} {a : Nat} {i : Int32} {x : Int64} (h : jaL hp a i = some x) : ∃ (len : Nat) (f : Nat → Int64), hp a = some (.inl (.long, len, .inr (.inl f))) ∧ vp_in i len ∧ x = f i.toNatClampNeg := by
  unfold jaL at h
  split at h
  · rename_i t len f e
    split at h
    · rename_i hc
      obtain ⟨rfl, h1, h2⟩ := hc
      cases h
      exact ⟨len, f, e, jin h1 h2, rfl⟩
    · cases h
  · cases h
theorem jaR_spec {hp : jH} {a : Nat} {i : Int32} {x : Option Nat} (h : jaR hp a i = some x) : ∃ (t : FieldType) (len : Nat) (f : Nat → Option Nat), hp a = some (.inl (t, len, .inr (.inr (.inr (.inr f))))) ∧ t.isReference = true ∧ vp_in i len ∧ x = f i.toNatClampNeg := by
  unfold jaR at h
  split at h
  · rename_i t len f e
    split at h
    · rename_i hc
      obtain ⟨h0, h1, h2⟩ := hc
      cases h
      exact ⟨t, len, f, e, h0, jin h1 h2, rfl⟩
    · cases h
  · cases h
theorem jaA_spec {hp : jH} {a : Nat} {i : Int32} {x : Nat} (h : jaA hp a i = some x) : jaR hp a i = some (some x) := by
  unfold jaA at h
  obtain ⟨r, h1, h2⟩ := Option.bind_eq_some_iff.mp h
  rw [h1]
  exact congrArg some h2
theorem jaSI_spec {hp hp' : jH} {a : Nat} {i x : Int32} (h : jaSI hp a i x = some hp') : ∃ (len : Nat) (f : Nat → Int32), hp a = some (.inl (.int, len, .inl f)) ∧ vp_in i len ∧ 8 ≤ a ∧ hp' = jset hp a (.inl (.int, len, .inl (upd f i.toNatClampNeg x))) := by
  unfold jaSI at h
  split at h
  · rename_i t len f e
    split at h
    · rename_i hc
      obtain ⟨rfl, h1, h2, h3⟩ := hc
      cases h
      exact ⟨len, f, e, jin h1 h2, h3, rfl⟩
    · cases h
  · cases h
theorem jaSB_spec {hp hp' : jH} {a : Nat} {ty : FieldType} {i x : Int32} (h : jaSB hp a ty i x = some hp') : ∃ (len : Nat) (f : Nat → Int32), hp a = some (.inl (ty, len, .inl f)) ∧ vp_in i len ∧ 8 ≤ a ∧ hp' = jset hp a (.inl (ty, len, .inl (upd f i.toNatClampNeg (vp_nar ty x)))) := by
  unfold jaSB at h
  split at h
  · rename_i t len f e
    split at h
    · rename_i hc
      obtain ⟨rfl, h1, h2, h3⟩ := hc
      cases h
      exact ⟨len, f, e, jin h1 h2, h3, rfl⟩
    · cases h
  · cases h
theorem jaSL_spec {hp hp' : jH} {a : Nat} {i : Int32} {x : Int64} (h : jaSL hp a i x = some hp') : ∃ (len : Nat) (f : Nat → Int64), hp a = some (.inl (.long, len, .inr (.inl f))) ∧ vp_in i len ∧ 8 ≤ a ∧ hp' = jset hp a (.inl (.long, len, .inr (.inl (vp_updL f i.toNatClampNeg x)))) := by
  unfold jaSL at h
  split at h
  · rename_i t len f e
    split at h
    · rename_i hc
      obtain ⟨rfl, h1, h2, h3⟩ := hc
      cases h
      exact ⟨len, f, e, jin h1 h2, h3, rfl⟩
    · cases h
  · cases h
theorem jaSR_spec {hp hp' : jH} {a b ci : Nat} {C : String} {i : Int32} (h : jaSR hp a C i b ci = some hp') : ∃ (len : Nat) (f : Nat → Option Nat) (fs : List Value), hp a = some (.inl (.object C, len, .inr (.inr (.inr (.inr f))))) ∧ hp b = some (.inr (ci, fs)) ∧ vp_in i len ∧ 8 ≤ a ∧ hp' = jset hp a (.inl (.object C, len, .inr (.inr (.inr (.inr (va_up f i.toNatClampNeg (some b))))))) := by
  unfold jaSR at h
  split at h
  · rename_i t len f c fs e1 e2
    split at h
    · rename_i hc
      obtain ⟨rfl, rfl, h1, h2, h3⟩ := hc
      cases h
      exact ⟨len, f, fs, e1, e2, jin h1 h2, h3, rfl⟩
    · cases h
  · cases h
theorem jalen_spec {hp : jH} {a : Nat} {x : Int32} (h : jalen hp a = some x) : ∃ (t : FieldType) (v : vp_A), hp a = some (.inl (t, v)) ∧ x = Int32.ofNat v.1 := by
  unfold jalen at h
  split at h
  · rename_i t len z e
    cases h
    exact ⟨t, (len, z), e, rfl⟩
  · cases h
/-- it is an array of that type -/
def jisA (hp : jH) (a : Nat) (ty : FieldType) : Option Unit := match hp a with
  | some (.inl (t, _)) => if t = ty ∧ 8 ≤ a then some () else none
  | _ => none
theorem jisA_spec {hp : jH} {a : Nat} {ty : FieldType} {u : Unit} (h : jisA hp a ty = some u) : 8 ≤ a ∧ ∃ v, hp a = some (.inl (ty, v)) := by
  unfold jisA at h
  split at h
  · rename_i t v e
    split at h
    · rename_i hc
      obtain ⟨rfl, h8⟩ := hc
      exact ⟨h8, v, e⟩
    · cases h
  · cases h
theorem jA_1 (ad : Nat → Nat) (x : vp_A) : (jA ad x).1 = x.1 := by
  obtain ⟨n, f | f | f | f | f⟩ := x <;> rfl

def jnoref (v : Value) : Bool := match v with
  | .ref _ => false
  | _ => true
theorem jnoref_spec {v : Value} (h : jnoref v = true) : ∀ n : Nat, v ≠ .ref n := fun n e => by rw [e] at h; cases h
section JAr
variable {X : jX} {cc : ByteArray} {nL : Nat} {y : MethodName} {k n pc : Nat} {lv : List (Option Value)} {st : List Value} {hp hp' : jH} {F L MC MS : Nat}
theorem J.iald {a : Nat} {i x : Int32} (hg : jaI hp a .int i = some x) (hd : decode cc pc = .ok (.iaload, 1)) (kk : J X cc nL y k n (pc + 1) lv (.int x :: st) hp) : J X cc nL y k n pc lv (.int i :: .ref a :: st) hp := by
  obtain ⟨p, l, e, R, s, m, args, below, meth, c, Q, D, ad0, hp0⟩ := X
  intro hx hb hml hown hmn hts hG hZ ad H locs ls hR hL hS
  obtain ⟨len, f, h1, hin, rfl⟩ := jaI_spec hg
  obtain ⟨cA, cell, hc, hsl, hcl, hkn, hst9, hIs, hA, hRA⟩ := (hR.1 a _ h1).1.arr
  have hlt : i.toNatClampNeg < len := Nat.not_le.mp fun q => hin (Or.inr q)
  exact W.iald (v := .int (f i.toNatClampNeg)) hx hb hc hIs hkn (by rw [hsl]; show ¬ (i < 0 ∨ (arrV _ _ _).slots.size ≤ _); rw [arrV_size]; exact hin) (by rw [hsl]; exact arrV_read cA _ hlt) rfl rfl hd (kk hx hb hml hown hmn hts hG hZ ad H locs ls hR hL hS.t.t.i)
theorem J.bald {a : Nat} {i x : Int32} (hg : jaI hp a .byte i = some x) (hd : decode cc pc = .ok (.baload, 1)) (kk : J X cc nL y k n (pc + 1) lv (.int x :: st) hp) : J X cc nL y k n pc lv (.int i :: .ref a :: st) hp := by
  obtain ⟨p, l, e, R, s, m, args, below, meth, c, Q, D, ad0, hp0⟩ := X
  intro hx hb hml hown hmn hts hG hZ ad H locs ls hR hL hS
  obtain ⟨len, f, h1, hin, rfl⟩ := jaI_spec hg
  obtain ⟨cA, cell, hc, hsl, hcl, hkn, hst9, hIs, hA, hRA⟩ := (hR.1 a _ h1).1.arr
  have hlt : i.toNatClampNeg < len := Nat.not_le.mp fun q => hin (Or.inr q)
  exact W.bald (v := .int (f i.toNatClampNeg)) hx hb hc hIs hkn (by rw [hsl]; show ¬ (i < 0 ∨ (arrV _ _ _).slots.size ≤ _); rw [arrV_size]; exact hin) (by rw [hsl]; exact arrV_read cA _ hlt) rfl rfl hd (kk hx hb hml hown hmn hts hG hZ ad H locs ls hR hL hS.t.t.i)
theorem J.zald {a : Nat} {i x : Int32} (hg : jaI hp a .boolean i = some x) (hd : decode cc pc = .ok (.baload, 1)) (kk : J X cc nL y k n (pc + 1) lv (.int x :: st) hp) : J X cc nL y k n pc lv (.int i :: .ref a :: st) hp := by
  obtain ⟨p, l, e, R, s, m, args, below, meth, c, Q, D, ad0, hp0⟩ := X
  intro hx hb hml hown hmn hts hG hZ ad H locs ls hR hL hS
  obtain ⟨len, f, h1, hin, rfl⟩ := jaI_spec hg
  obtain ⟨cA, cell, hc, hsl, hcl, hkn, hst9, hIs, hA, hRA⟩ := (hR.1 a _ h1).1.arr
  have hlt : i.toNatClampNeg < len := Nat.not_le.mp fun q => hin (Or.inr q)
  exact W.zald (v := .int (f i.toNatClampNeg)) hx hb hc hIs hkn (by rw [hsl]; show ¬ (i < 0 ∨ (arrV _ _ _).slots.size ≤ _); rw [arrV_size]; exact hin) (by rw [hsl]; exact arrV_read cA _ hlt) rfl rfl hd (kk hx hb hml hown hmn hts hG hZ ad H locs ls hR hL hS.t.t.i)
theorem J.sald {a : Nat} {i x : Int32} (hg : jaI hp a .short i = some x) (hd : decode cc pc = .ok (.saload, 1)) (kk : J X cc nL y k n (pc + 1) lv (.int x :: st) hp) : J X cc nL y k n pc lv (.int i :: .ref a :: st) hp := by
  obtain ⟨p, l, e, R, s, m, args, below, meth, c, Q, D, ad0, hp0⟩ := X
  intro hx hb hml hown hmn hts hG hZ ad H locs ls hR hL hS
  obtain ⟨len, f, h1, hin, rfl⟩ := jaI_spec hg
  obtain ⟨cA, cell, hc, hsl, hcl, hkn, hst9, hIs, hA, hRA⟩ := (hR.1 a _ h1).1.arr
  have hlt : i.toNatClampNeg < len := Nat.not_le.mp fun q => hin (Or.inr q)
  exact W.sald (v := .int (f i.toNatClampNeg)) hx hb hc hIs hkn (by rw [hsl]; show ¬ (i < 0 ∨ (arrV _ _ _).slots.size ≤ _); rw [arrV_size]; exact hin) (by rw [hsl]; exact arrV_read cA _ hlt) rfl rfl hd (kk hx hb hml hown hmn hts hG hZ ad H locs ls hR hL hS.t.t.i)
theorem J.lald {a : Nat} {i : Int32} {x : Int64} (hg : jaL hp a i = some x) (hd : decode cc pc = .ok (.laload, 1)) (kk : J X cc nL y k n (pc + 1) lv (.long x :: st) hp) : J X cc nL y k n pc lv (.int i :: .ref a :: st) hp := by
  obtain ⟨p, l, e, R, s, m, args, below, meth, c, Q, D, ad0, hp0⟩ := X
  intro hx hb hml hown hmn hts hG hZ ad H locs ls hR hL hS
  obtain ⟨len, f, h1, hin, rfl⟩ := jaL_spec hg
  obtain ⟨cA, cell, hc, hsl, hcl, hkn, hst9, hIs, hA, hRA⟩ := (hR.1 a _ h1).1.arr
  have hlt : i.toNatClampNeg < len := Nat.not_le.mp fun q => hin (Or.inr q)
  exact W.lald (v := .long (f i.toNatClampNeg)) hx hb hc hIs hkn (by rw [hsl]; show ¬ (i < 0 ∨ (arrV _ _ _).slots.size ≤ _); rw [arrV_size]; exact hin) (by rw [hsl]; exact arrV_read cA _ hlt) rfl rfl hd (kk hx hb hml hown hmn hts hG hZ ad H locs ls hR hL hS.t.t.l)
theorem J.aald {a : Nat} {i : Int32} {r : Option Nat} (hg : jaR hp a i = some r) (hd : decode cc pc = .ok (.aaload, 1)) (kk : J X cc nL y k n (pc + 1) lv (va_rf r :: st) hp) : J X cc nL y k n pc lv (.int i :: .ref a :: st) hp := by
  obtain ⟨p, l, e, R, s, m, args, below, meth, c, Q, D, ad0, hp0⟩ := X
  intro hx hb hml hown hmn hts hG hZ ad H locs ls hR hL hS
  obtain ⟨t, len, f, h1, href, hin, rfl⟩ := jaR_spec hg
  obtain ⟨cA, cell, hc, hsl, hcl, hkn, hst9, hIs, hA, hRA⟩ := (hR.1 a _ h1).1.arr
  have hclo := (hR.1 a _ h1).2
  have hlt : i.toNatClampNeg < len := Nat.not_le.mp fun q => hin (Or.inr q)
  have hok : jok hp (va_rf (f i.toNatClampNeg)) := by
    cases e : f i.toNatClampNeg with
    | none => exact jok_n
    | some b => exact jok_r (hclo _ b e)
  have hjv : va_rf ((f i.toNatClampNeg).map ad) = jv ad (va_rf (f i.toNatClampNeg)) := by
    cases f i.toNatClampNeg <;> rfl
  refine W.aald (v := va_rf ((f i.toNatClampNeg).map ad)) (ty := t) hx hb hc hIs href hkn (by rw [hsl]; show ¬ (i < 0 ∨ (arrV _ _ _).slots.size ≤ _); rw [arrV_size]; exact hin) (by rw [hsl]; exact arrV_read cA _ hlt) rfl rfl hd ?_
  rw [hjv]
  exact kk hx hb hml hown hmn hts hG hZ ad H locs ls hR hL (hS.t.t.p hok)
theorem J.aaldA {a b : Nat} {i : Int32} (hg : jaA hp a i = some b) (hd : decode cc pc = .ok (.aaload, 1)) (kk : J X cc nL y k n (pc + 1) lv (.ref b :: st) hp) : J X cc nL y k n pc lv (.int i :: .ref a :: st) hp := J.aald (r := some b) (jaA_spec hg) hd kk
theorem J.alen {a : Nat} {x : Int32} (hg : jalen hp a = some x) (hd : decode cc pc = .ok (.arraylength, 1)) (kk : J X cc nL y k n (pc + 1) lv (.int x :: st) hp) : J X cc nL y k n pc lv (.ref a :: st) hp := by
  obtain ⟨p, l, e, R, s, m, args, below, meth, c, Q, D, ad0, hp0⟩ := X
  intro hx hb hml hown hmn hts hG hZ ad H locs ls hR hL hS
  obtain ⟨t, v, h1, rfl⟩ := jalen_spec hg
  obtain ⟨cA, cell, hc, hsl, hcl, hkn, hst9, hIs, hA, hRA⟩ := (hR.1 a _ h1).1.arr
  refine W.alen (n := Int32.ofNat v.1) hx hb hc hIs ?_ rfl rfl hd (kk hx hb hml hown hmn hts hG hZ ad H locs ls hR hL hS.t.i)
  rw [hsl]
  have hz : (vp_cell cA (jA ad v)).slots.size = v.1 := by
    obtain ⟨n, f | f | f | f | f⟩ := v <;> exact arrV_size _ _ _
  rw [hz]
  try rfl
theorem J.iast {a : Nat} {i : Int32} {x : Int32} (hg : jaSI hp a i x = some hp') (hd : decode cc pc = .ok (.iastore, 1)) (kk : J X cc nL y k n (pc + 1) lv st hp') : J X cc nL y k n pc lv (.int x :: .int i :: .ref a :: st) hp := by
  obtain ⟨p, l, e, R, s, m, args, below, meth, c, Q, D, ad0, hp0⟩ := X
  intro hx hb hml hown hmn hts hG hZ ad H locs ls hR hL hS
  obtain ⟨len, f, h1, hin, h8, rfl⟩ := jaSI_spec hg
  have hlv : hp a ≠ none := by rw [h1]; exact fun q => by cases q
  obtain ⟨cA, hc, hA, hRA⟩ := (hR.1 a _ h1).1.ex h8
  refine W.iast hx hb hc (hA len (fun j => .int (f j))) (fun q => by cases q) (by show ¬ (i < 0 ∨ (arrV _ _ _).slots.size ≤ _); rw [arrV_size]; exact hin) rfl rfl hd fun H1 e1 z oq => ?_
  refine kk hx hb hml hown hmn hts hG hZ ad H1 _ ls (hR.put hlv h8 (jAt.mk (cA := cA) ?_ hA hRA) trivial z oq) (hL.mono fun n => jset_dom) (hS.t.t.t.mono fun n => jset_dom)
  rw [e1]
  show some ((vp_cell cA (len, .inl f)).setSlot _ _) = some (vp_cell cA (len, .inl _))
  rw [vp_cell_i, vp_cell_i, arrV_store]
  congr 2
  funext q
  by_cases hq : q = i.toNatClampNeg
  · subst hq
    simp [updV, upd, vp_nar, vp_updL]
    try rfl
  · simp [updV, upd, vp_updL, hq]
theorem J.bast {a : Nat} {i : Int32} {x : Int32} (hg : jaSB hp a .byte i x = some hp') (hd : decode cc pc = .ok (.bastore, 1)) (kk : J X cc nL y k n (pc + 1) lv st hp') : J X cc nL y k n pc lv (.int x :: .int i :: .ref a :: st) hp := by
  obtain ⟨p, l, e, R, s, m, args, below, meth, c, Q, D, ad0, hp0⟩ := X
  intro hx hb hml hown hmn hts hG hZ ad H locs ls hR hL hS
  obtain ⟨len, f, h1, hin, h8, rfl⟩ := jaSB_spec hg
  have hlv : hp a ≠ none := by rw [h1]; exact fun q => by cases q
  obtain ⟨cA, hc, hA, hRA⟩ := (hR.1 a _ h1).1.ex h8
  refine W.bast hx hb hc (hA len (fun j => .int (f j))) (fun q => by cases q) (by show ¬ (i < 0 ∨ (arrV _ _ _).slots.size ≤ _); rw [arrV_size]; exact hin) rfl rfl hd fun H1 e1 z oq => ?_
  refine kk hx hb hml hown hmn hts hG hZ ad H1 _ ls (hR.put hlv h8 (jAt.mk (cA := cA) ?_ hA hRA) trivial z oq) (hL.mono fun n => jset_dom) (hS.t.t.t.mono fun n => jset_dom)
  rw [e1]
  show some ((vp_cell cA (len, .inl f)).setSlot _ _) = some (vp_cell cA (len, .inl _))
  rw [vp_cell_i, vp_cell_i, arrV_store]
  congr 2
  funext q
  by_cases hq : q = i.toNatClampNeg
  · subst hq
    simp [updV, upd, vp_nar, vp_updL]
    try rfl
  · simp [updV, upd, vp_updL, hq]
theorem J.zast {a : Nat} {i : Int32} {x : Int32} (hg : jaSB hp a .boolean i x = some hp') (hd : decode cc pc = .ok (.bastore, 1)) (kk : J X cc nL y k n (pc + 1) lv st hp') : J X cc nL y k n pc lv (.int x :: .int i :: .ref a :: st) hp := by
  obtain ⟨p, l, e, R, s, m, args, below, meth, c, Q, D, ad0, hp0⟩ := X
  intro hx hb hml hown hmn hts hG hZ ad H locs ls hR hL hS
  obtain ⟨len, f, h1, hin, h8, rfl⟩ := jaSB_spec hg
  have hlv : hp a ≠ none := by rw [h1]; exact fun q => by cases q
  obtain ⟨cA, hc, hA, hRA⟩ := (hR.1 a _ h1).1.ex h8
  refine W.zast hx hb hc (hA len (fun j => .int (f j))) (fun q => by cases q) (by show ¬ (i < 0 ∨ (arrV _ _ _).slots.size ≤ _); rw [arrV_size]; exact hin) rfl rfl hd fun H1 e1 z oq => ?_
  refine kk hx hb hml hown hmn hts hG hZ ad H1 _ ls (hR.put hlv h8 (jAt.mk (cA := cA) ?_ hA hRA) trivial z oq) (hL.mono fun n => jset_dom) (hS.t.t.t.mono fun n => jset_dom)
  rw [e1]
  show some ((vp_cell cA (len, .inl f)).setSlot _ _) = some (vp_cell cA (len, .inl _))
  rw [vp_cell_i, vp_cell_i, arrV_store]
  congr 2
  funext q
  by_cases hq : q = i.toNatClampNeg
  · subst hq
    simp [updV, upd, vp_nar, vp_updL]
    try rfl
  · simp [updV, upd, vp_updL, hq]
theorem J.sast {a : Nat} {i : Int32} {x : Int32} (hg : jaSB hp a .short i x = some hp') (hd : decode cc pc = .ok (.sastore, 1)) (kk : J X cc nL y k n (pc + 1) lv st hp') : J X cc nL y k n pc lv (.int x :: .int i :: .ref a :: st) hp := by
  obtain ⟨p, l, e, R, s, m, args, below, meth, c, Q, D, ad0, hp0⟩ := X
  intro hx hb hml hown hmn hts hG hZ ad H locs ls hR hL hS
  obtain ⟨len, f, h1, hin, h8, rfl⟩ := jaSB_spec hg
  have hlv : hp a ≠ none := by rw [h1]; exact fun q => by cases q
  obtain ⟨cA, hc, hA, hRA⟩ := (hR.1 a _ h1).1.ex h8
  refine W.sast hx hb hc (hA len (fun j => .int (f j))) (fun q => by cases q) (by show ¬ (i < 0 ∨ (arrV _ _ _).slots.size ≤ _); rw [arrV_size]; exact hin) rfl rfl hd fun H1 e1 z oq => ?_
  refine kk hx hb hml hown hmn hts hG hZ ad H1 _ ls (hR.put hlv h8 (jAt.mk (cA := cA) ?_ hA hRA) trivial z oq) (hL.mono fun n => jset_dom) (hS.t.t.t.mono fun n => jset_dom)
  rw [e1]
  show some ((vp_cell cA (len, .inl f)).setSlot _ _) = some (vp_cell cA (len, .inl _))
  rw [vp_cell_i, vp_cell_i, arrV_store]
  congr 2
  funext q
  by_cases hq : q = i.toNatClampNeg
  · subst hq
    simp [updV, upd, vp_nar, vp_updL]
    try rfl
  · simp [updV, upd, vp_updL, hq]
theorem J.last {a : Nat} {i : Int32} {x : Int64} (hg : jaSL hp a i x = some hp') (hd : decode cc pc = .ok (.lastore, 1)) (kk : J X cc nL y k n (pc + 1) lv st hp') : J X cc nL y k n pc lv (.long x :: .int i :: .ref a :: st) hp := by
  obtain ⟨p, l, e, R, s, m, args, below, meth, c, Q, D, ad0, hp0⟩ := X
  intro hx hb hml hown hmn hts hG hZ ad H locs ls hR hL hS
  obtain ⟨len, f, h1, hin, h8, rfl⟩ := jaSL_spec hg
  have hlv : hp a ≠ none := by rw [h1]; exact fun q => by cases q
  obtain ⟨cA, hc, hA, hRA⟩ := (hR.1 a _ h1).1.ex h8
  refine W.last hx hb hc (hA len (fun j => .long (f j))) (fun q => by cases q) (by show ¬ (i < 0 ∨ (arrV _ _ _).slots.size ≤ _); rw [arrV_size]; exact hin) rfl rfl hd fun H1 e1 z oq => ?_
  refine kk hx hb hml hown hmn hts hG hZ ad H1 _ ls (hR.put hlv h8 (jAt.mk (cA := cA) ?_ hA hRA) trivial z oq) (hL.mono fun n => jset_dom) (hS.t.t.t.mono fun n => jset_dom)
  rw [e1]
  show some ((vp_cell cA (len, .inr (.inl f))).setSlot _ _) = some (vp_cell cA (len, .inr (.inl _)))
  rw [vp_cell_l, vp_cell_l, arrV_store]
  congr 2
  funext q
  by_cases hq : q = i.toNatClampNeg
  · subst hq
    simp [updV, upd, vp_nar, vp_updL]
    try rfl
  · simp [updV, upd, vp_updL, hq]
/-- a reference into an array of its class, or of a wider one -/
theorem J.aast {a b ci : Nat} {i : Int32} {C C' : String} {T : u_T} {N : Nat} (hc : jcl[ci]? = some (C', T, N)) (hcast : C' = C ∨ Cond.castable C' C ∈ lw_tbl) (hg : jaSR hp a C i b ci = some hp') (hd : decode cc pc = .ok (.aastore, 1)) (kk : J X cc nL y k n (pc + 1) lv st hp') : J X cc nL y k n pc lv (.ref b :: .int i :: .ref a :: st) hp := by
  obtain ⟨p, l, e, R, s, m, args, below, meth, c, Q, D, ad0, hp0⟩ := X
  intro hx hb hml hown hmn hts hG hZ ad H locs ls hR hL hS
  obtain ⟨len, f, fs, h1, h2, hin, h8, rfl⟩ := jaSR_spec hg
  have hlv : hp a ≠ none := by rw [h1]; exact fun q => by cases q
  have hlb : hp b ≠ none := by rw [h2]; exact fun q => by cases q
  obtain ⟨cA, hcA, hA, hRA⟩ := (hR.1 a _ h1).1.ex h8
  have hclo := (hR.1 a _ h1).2
  obtain ⟨⟨r, hr, cell, q1, q2, q3, q4⟩, -⟩ := hR.1 b _ h2
  have hrr : r = (C', T, N) := Option.some.inj (hr.symm.trans hc)
  subst hrr
  have hlt : i.toNatClampNeg < len := Nat.not_le.mp fun q => hin (Or.inr q)
  have h0 : ¬ i < 0 := fun q => hin (Or.inl q)
  have hcls := (hG.1.1 ci _ hc).2
  obtain ⟨kA, comp, k1, k2, k3, k4⟩ : ∃ (kA : Class) (comp : ClassId), s.vm.classes[cA]? = some kA ∧ kA.kind = .array comp (.object C) ∧ s.vm.findClass C = some comp ∧ s.vm.findClass ("[" ++ (FieldType.object C).toString) = some cA := (show va_RA s cA (.object C) from hRA)
  obtain ⟨kE, hkE, -⟩ := Vm.findClass_spec k3
  obtain ⟨kC, hkC, hkind⟩ := hcls.2
  have hasg : s.vm.assignable (D.1 ci) comp = true := by
    rcases hcast with rfl | hcast
    · have : comp = D.1 ci := Option.some.inj (k3.symm.trans hcls.1)
      rw [this]
      exact va_assign hcls
    · obtain ⟨c0, t1, f1, f2, f3⟩ := Cond.castable_spec (va_Nw.use (A := args) rfl (hG.2.1 _ hcast rfl))
      cases hcls.1.symm.trans f1
      cases k3.symm.trans f2
      exact f3
  refine W.aast hx hb hcA (fun q h => by cases h) (fun h => by cases h) k1 k2 rfl hkE ⟨h0, by show _ < (arrV _ _ _).slots.size; rw [arrV_size]; exact hlt⟩ q1 (fun q h => by rw [q3] at h; cases h) (by rw [q2]; exact hkC) (by rw [q2]; exact hasg) rfl rfl hd fun H1 e1 z oq => ?_
  refine kk hx hb hml hown hmn hts hG hZ ad H1 _ ls (hR.put hlv h8 (jAt.mk (cA := cA) ?_ hA hRA) ?_ z oq) (hL.mono fun n => jset_dom) (hS.t.t.t.mono fun n => jset_dom)
  · rw [e1]
    show some ((vp_cell cA (len, .inr (.inr (.inr (.inr (fun j => (f j).map ad)))))).setSlot _ _) = some (vp_cell cA (len, .inr (.inr (.inr (.inr (fun j => (va_up f i.toNatClampNeg (some b) j).map ad))))))
    rw [vp_cell_q, vp_cell_q, arrV_store]
    congr 2
    funext q
    by_cases hq : q = i.toNatClampNeg
    · subst hq
      simp [updV, va_up, va_rf]
    · simp [updV, va_up, hq]
  · intro j b' hj
    unfold va_up at hj
    split at hj
    · cases hj; exact hlb
    · exact hclo j b' hj
theorem jroom {X : jX} {fr lo mc ms : Nat} (h : jRoom X fr lo mc ms) : jRoom X fr lo mc ms := h
/-- newarray of a type whose places are ints -/
theorem J.newaI {t : Nat} {cnt : Int32} {N B : Nat} {aty : ArrayType} {ty : FieldType} (hRm : jRoom X F L MC MS) (harr : Cond.arrayClass ty ∈ lw_all) (hty : newarray.typeOf aty = ty) (hty0 : defaultValue ty = .int 0) (hsm : ty.isReference = false) (hn : ¬ cnt < 0) (hN : cnt.toNatClampNeg = N) (hB : N ≤ B) (hby : B * componentBytes ty ≤ 536870912) {k2 n2 : Nat} (hk2 : k + 1 ≤ k2) (hn2 : n + B ≤ n2) (hk : k2 ≤ MC) (hs : n2 ≤ MS) (hg : jnew hp t (.inl (ty, N, .inl (fun _ => 0))) = some hp') (hd : decode cc pc = .ok (.newarray aty, 2)) (kk : J X cc nL y k2 n2 (pc + 2) lv (.ref t :: st) hp') : J X cc nL y k n pc lv (.int cnt :: st) hp := by
  obtain ⟨p, l, e, R, s, m, args, below, meth, c, Q, D, ad0, hp0⟩ := X
  intro hx hb hml hown hmn hts hG hZ ad H locs ls hR hL hS
  obtain ⟨h0, h8, rfl⟩ := jnew_spec hg
  subst hty
  have hRm : F ≤ R.frames ∧ L ≤ R.locals ∧ MC ≤ R.cells ∧ MS ≤ R.slots := hRm
  refine va_newaK hx hb (hts _ harr) rfl hd rfl hn hN (Nat.le_trans (Nat.mul_le_mul_right _ hB) hby) (Nat.le_trans hk2 (Nat.le_trans hk hRm.2.2.1)) (by omega) rfl fun H1 cA e1 z1 o1 hAr hNm => ?_
  obtain ⟨ad', g1, g2, hR'⟩ := hR.new (o := .inl (newarray.typeOf aty, N, .inl (fun _ => 0))) h0 h8 (fun ad' g1 g2 => jAt.mk (cA := cA) (by rw [g1, e1, hty0]; rfl) hAr (by cases aty <;> exact hNm)) trivial z1 o1
  refine W.widen hk2 (Nat.le_trans (Nat.add_le_add_left hB n) hn2) ?_
  have hw := kk hx hb hml hown hmn hts hG hZ ad' H1 locs ls hR' (hL.move (fun i hi => ⟨g2 i hi, jset_dom hi⟩)) ((hS.t.mono fun n => jset_dom).p (jok_r (by rw [jset_self]; exact fun q => by cases q)))
  rw [List.map_cons, hS.t.same g2] at hw
  rw [show jv ad' (.ref t) = .ref H.size from congrArg Value.ref g1] at hw
  exact hw
/-- newarray of longs -/
theorem J.newaL {t : Nat} {cnt : Int32} {N B : Nat} {aty : ArrayType} {ty : FieldType} (hRm : jRoom X F L MC MS) (harr : Cond.arrayClass ty ∈ lw_all) (hty : newarray.typeOf aty = ty) (hty0 : defaultValue ty = .long 0) (hsm : ty.isReference = false) (hn : ¬ cnt < 0) (hN : cnt.toNatClampNeg = N) (hB : N ≤ B) (hby : B * componentBytes ty ≤ 536870912) {k2 n2 : Nat} (hk2 : k + 1 ≤ k2) (hn2 : n + B ≤ n2) (hk : k2 ≤ MC) (hs : n2 ≤ MS) (hg : jnew hp t (.inl (ty, N, .inr (.inl (fun _ => 0)))) = some hp') (hd : decode cc pc = .ok (.newarray aty, 2)) (kk : J X cc nL y k2 n2 (pc + 2) lv (.ref t :: st) hp') : J X cc nL y k n pc lv (.int cnt :: st) hp := by
  obtain ⟨p, l, e, R, s, m, args, below, meth, c, Q, D, ad0, hp0⟩ := X
  intro hx hb hml hown hmn hts hG hZ ad H locs ls hR hL hS
  obtain ⟨h0, h8, rfl⟩ := jnew_spec hg
  subst hty
  have hRm : F ≤ R.frames ∧ L ≤ R.locals ∧ MC ≤ R.cells ∧ MS ≤ R.slots := hRm
  refine va_newaK hx hb (hts _ harr) rfl hd rfl hn hN (Nat.le_trans (Nat.mul_le_mul_right _ hB) hby) (Nat.le_trans hk2 (Nat.le_trans hk hRm.2.2.1)) (by omega) rfl fun H1 cA e1 z1 o1 hAr hNm => ?_
  obtain ⟨ad', g1, g2, hR'⟩ := hR.new (o := .inl (newarray.typeOf aty, N, .inr (.inl (fun _ => 0)))) h0 h8 (fun ad' g1 g2 => jAt.mk (cA := cA) (by rw [g1, e1, hty0]; rfl) hAr (by cases aty <;> exact hNm)) trivial z1 o1
  refine W.widen hk2 (Nat.le_trans (Nat.add_le_add_left hB n) hn2) ?_
  have hw := kk hx hb hml hown hmn hts hG hZ ad' H1 locs ls hR' (hL.move (fun i hi => ⟨g2 i hi, jset_dom hi⟩)) ((hS.t.mono fun n => jset_dom).p (jok_r (by rw [jset_self]; exact fun q => by cases q)))
  rw [List.map_cons, hS.t.same g2] at hw
  rw [show jv ad' (.ref t) = .ref H.size from congrArg Value.ref g1] at hw
  exact hw
/-- anewarray -/
theorem J.newq {t ix : Nat} {cnt : Int32} {N : Nat} {C : String} (hRm : jRoom X F L MC MS) (hcl : Cond.classLink y.cls ix C ∈ lw_all) (hov : Cond.arrayOver (.object C) ∈ lw_tbl) (hn : ¬ cnt < 0) (hN : cnt.toNatClampNeg = N) (hby : N * 4 ≤ 536870912) {k2 n2 : Nat} (hk2 : k + 1 ≤ k2) (hn2 : n + N ≤ n2) (hk : k2 ≤ MC) (hs : n2 ≤ MS) (hg : jnew hp t (.inl (.object C, N, .inr (.inr (.inr (.inr (fun _ => none)))))) = some hp') (hd : decode cc pc = .ok (.anewarray ix, 3)) (kk : J X cc nL y k2 n2 (pc + 3) lv (.ref t :: st) hp') : J X cc nL y k n pc lv (.int cnt :: st) hp := by
  obtain ⟨p, l, e, R, s, m, args, below, meth, c, Q, D, ad0, hp0⟩ := X
  intro hx hb hml hown hmn hts hG hZ ad H locs ls hR hL hS
  obtain ⟨h0, h8, rfl⟩ := jnew_spec hg
  have hRm : F ≤ R.frames ∧ L ≤ R.locals ∧ MC ≤ R.cells ∧ MS ≤ R.slots := hRm
  subst hN
  refine W.anew hx hb hown (hts _ hcl) (va_AO.use (show va_AO C s from hG.2.1 _ hov rfl)) rfl hd rfl hn hby (Nat.le_trans hk2 (Nat.le_trans hk hRm.2.2.1)) (Nat.le_trans hn2 (Nat.le_trans hs hRm.2.2.2)) fun cA kA comp f1 f2 f3 f4 => ?_
  generalize hH1 : H.push ({ cls := cA, slots := Array.replicate cnt.toNatClampNeg .null, vm := .none } : Cell) = H1
  have z1 : H1.size = H.size + 1 := by rw [← hH1, Array.size_push]
  have e1 : H1[H.size]? = some (arrV cA cnt.toNatClampNeg (fun _ => .null)) := by rw [← hH1, Array.getElem?_push_size, ← arrV_new]
  have o1 : ∀ q : Nat, q < H.size → H1[q]? = H[q]? := fun q hq => by rw [← hH1, Array.getElem?_push, if_neg (Nat.ne_of_lt hq)]
  have hAr : ArrOfT s cA (.object C) := fun N z => ⟨(fun k h => by cases h), kA, f2, comp, f3⟩
  obtain ⟨ad', g1, g2, hR'⟩ := hR.new (o := .inl (.object C, cnt.toNatClampNeg, .inr (.inr (.inr (.inr (fun _ => none)))))) h0 h8 (fun ad' g1 g2 => jAt.mk (cA := cA) (by rw [g1, e1]; rfl) hAr ⟨kA, comp, f2, f3, f4, f1⟩) (fun j q h => by cases h) z1 o1
  have hw := kk hx hb hml hown hmn hts hG hZ ad' H1 locs ls hR' (hL.move (fun i hi => ⟨g2 i hi, jset_dom hi⟩)) ((hS.t.mono fun n => jset_dom).p (jok_r (by rw [jset_self]; exact fun q => by cases q)))
  rw [List.map_cons, hS.t.same g2] at hw
  rw [show jv ad' (.ref t) = .ref H.size from congrArg Value.ref g1] at hw
  exact W.widen hk2 hn2 hw
/-- new: an object with what its fields have at first -/
theorem J.new {C : String} {T : u_T} {N nI ix t : Nat} {fs : List Value} (ci : Nat) (hRm : jRoom X F L MC MS) (hin : ∀ w ∈ u_ws C T N, w ∈ lw_all) (ty0 : Nat → FieldType) (hty : ∀ k, k < N → parseFieldDescriptor (T k).2.2.1 = some (ty0 k)) (hc : jcl[ci]? = some (C, T, N)) (hcl : Cond.classLink y.cls ix C ∈ lw_all) (hinst : Cond.instantiable C nI ∈ lw_all) (hini : Cond.initialized C ∈ lw_all) (hfs : ∀ j, j < N → defaultValue (ty0 j) = vp_V fs j) (hfs0 : ∀ ad, fs.map (jv ad) = fs) (hfs1 : fs.all jnoref = true) {k2 n2 : Nat} (hk2 : k + 1 ≤ k2) (hn2 : n + nI ≤ n2) (hk : k2 ≤ MC) (hs : n2 ≤ MS) (hg : jnew hp t (.inr (ci, fs)) = some hp') (hd : decode cc pc = .ok (.new ix, 3)) (kk : J X cc nL y k2 n2 (pc + 3) lv (.ref t :: st) hp') : J X cc nL y k n pc lv st hp := by
  obtain ⟨p, l, e, R, s, m, args, below, meth, c, Q, D, ad0, hp0⟩ := X
  intro hx hb hml hown hmn hts hG hZ ad H locs ls hR hL hS
  obtain ⟨h0, h8, rfl⟩ := jnew_spec hg
  have hRm : F ≤ R.frames ∧ L ≤ R.locals ∧ MC ≤ R.cells ∧ MS ≤ R.slots := hRm
  have hKn := hG.1.1 ci _ hc
  refine W.newcK hx hb hown (hts _ hcl) (hts _ hinst) (hts _ hini) rfl hd (Nat.le_trans hk2 (Nat.le_trans hk hRm.2.2.1)) (Nat.le_trans hn2 (Nat.le_trans hs hRm.2.2.2)) hKn.2.1 rfl fun H1 kC hkC e1 z1 o1 => ?_
  obtain ⟨ad', g1, g2, hR'⟩ := hR.new (o := .inr (ci, fs)) h0 h8 (fun ad' g1 g2 => ⟨_, hc, by
    show t_OB (ad' t) _ _ _ _ (vp_V (fs.map (jv ad')))
    rw [g1, hfs0]
    exact (u_born ty0 hts hin hKn hkC e1 hty).to hfs⟩) (fun v hv => jok_of (jnoref_spec (List.all_eq_true.mp hfs1 v hv))) z1 o1
  have hw := kk hx hb hml hown hmn hts hG hZ ad' H1 locs ls hR' (hL.move (fun i hi => ⟨g2 i hi, jset_dom hi⟩)) ((hS.mono fun n => jset_dom).p (jok_r (by rw [jset_self]; exact fun q => by cases q)))
  rw [List.map_cons, hS.same g2] at hw
  rw [show jv ad' (.ref t) = .ref H.size from congrArg Value.ref g1] at hw
  exact W.widen hk2 hn2 hw
/-- checkcast: null; an object of that class; an array of that type -/
theorem J.castN {ix : Nat} (hd : decode cc pc = .ok (.checkcast ix, 3)) (kk : J X cc nL y k n (pc + 3) lv (.null :: st) hp) : J X cc nL y k n pc lv (.null :: st) hp := by
  obtain ⟨p, l, e, R, s, m, args, below, meth, c, Q, D, ad0, hp0⟩ := X
  intro hx hb hml hown hmn hts hG hZ ad H locs ls hR hL hS
  exact lv_castN hx hb hd (kk hx hb hml hown hmn hts hG hZ ad H locs ls hR hL hS)
theorem J.castO {ix a : Nat} {C : String} {T : u_T} {N : Nat} (ci : Nat) (hc : jcl[ci]? = some (C, T, N)) (hcl : Cond.classLink y.cls ix C ∈ lw_all) (hg : ∃ u, jis hp a ci = some u) (hd : decode cc pc = .ok (.checkcast ix, 3)) (kk : J X cc nL y k n (pc + 3) lv (.ref a :: st) hp) : J X cc nL y k n pc lv (.ref a :: st) hp := by
  obtain ⟨p, l, e, R, s, m, args, below, meth, c, Q, D, ad0, hp0⟩ := X
  intro hx hb hml hown hmn hts hG hZ ad H locs ls hR hL hS
  obtain ⟨u, hu⟩ := hg
  obtain ⟨fs, h1⟩ := jis_spec hu
  obtain ⟨⟨r, hr, cell, q1, q2, q3, q4⟩, -⟩ := hR.1 a _ h1
  have hcls := (hG.1.1 ci _ hc).2
  exact va_castS hx hb hown (hts _ hcl) hcls ⟨cell, q1, by rw [q3]; rfl, by rw [q2]; exact hcls.1⟩ hd (kk hx hb hml hown hmn hts hG hZ ad H locs ls hR hL hS)
theorem J.castA {ix a : Nat} {ty : FieldType} {nm : String} (hnm : "[" ++ ty.toString = nm) (hpr : ∀ C, ty ≠ .object C) (hcl : Cond.classLink y.cls ix nm ∈ lw_all) (hg : ∃ u, jisA hp a ty = some u) (hd : decode cc pc = .ok (.checkcast ix, 3)) (kk : J X cc nL y k n (pc + 3) lv (.ref a :: st) hp) : J X cc nL y k n pc lv (.ref a :: st) hp := by
  obtain ⟨p, l, e, R, s, m, args, below, meth, c, Q, D, ad0, hp0⟩ := X
  intro hx hb hml hown hmn hts hG hZ ad H locs ls hR hL hS
  obtain ⟨u, hu⟩ := hg
  obtain ⟨h8, v, hg⟩ := jisA_spec hu
  obtain ⟨cA, cell, hc, hsl, hcl9, hkn, hst9, hIs, hA, hRA⟩ := (hR.1 a _ hg).1.arr
  have hf : s.vm.findClass nm = some cA := by
    rw [← hnm]
    cases ty with
    | object C => exact absurd rfl (hpr C)
    | _ => exact hRA h8
  intro T hT S
  obtain ⟨vm', X', st'⟩ := S.checkcastYes hx hown (hts _ hcl) (by rw [hT]; exact hc) hst9 hf (by rw [hcl9]; exact va_asg _ _) (g := F0 m pc ls (.ref (ad a) :: st.map (jv ad))) rfl rfl (by rw [hb]; exact hd)
  obtain ⟨t, a1, b1⟩ := kk hx hb hml hown hmn hts hG hZ ad H locs ls hR hL hS (T.setVm vm') hT X'
  exact ⟨t, st' t a1, b1⟩
/-- getstatic of the two that are read -/
theorem J.getMOST {ix : Nat} (hlink : Cond.fieldLink y.cls ix "BilletBars" "MOST" "[I" ∈ lw_all) (hl0 : ∃ u, jaF hp 1 = some u) (hd : decode cc pc = .ok (.getstatic ix, 3)) (kk : J X cc nL y k n (pc + 3) lv (.ref 1 :: st) hp) : J X cc nL y k n pc lv st hp := by
  obtain ⟨p, l, e, R, s, m, args, below, meth, c, Q, D, ad0, hp0⟩ := X
  intro hx hb hml hown hmn hts hG hZ ad H locs ls hR hL hS
  obtain ⟨u, hu⟩ := hl0
  obtain ⟨o, ho⟩ : ∃ o, hp 1 = some o := by
    unfold jaF at hu
    split at hu
    · rename_i x e; exact ⟨_, e⟩
    · cases hu
  have h0 : hp0 1 ≠ none := hR.2.2.2.2.2 1 (by decide) (by rw [ho]; exact fun q => by cases q)
  have hw := kk hx hb hml hown hmn hts hG hZ ad H locs ls hR hL (hS.p (jok_r (a := 1) (by rw [ho]; exact fun q => by cases q)))
  rw [List.map_cons, show jv ad (.ref 1) = .ref (ad0 1) from congrArg Value.ref (hR.2.2.2.2.1 1 h0).1] at hw
  exact va_gets hx hb (hZ.1 h0) hR.2.2.1 hown (hts _ hlink) (fun _ h9 => h9) hd hw
theorem J.getEMPTY {ix : Nat} (hlink : Cond.fieldLink y.cls ix "java/util/ArrayList" "DEFAULTCAPACITY_EMPTY_ELEMENTDATA" "[Ljava/lang/Object;" ∈ lw_all) (hl0 : ∃ u, jaF hp 2 = some u) (hd : decode cc pc = .ok (.getstatic ix, 3)) (kk : J X cc nL y k n (pc + 3) lv (.ref 2 :: st) hp) : J X cc nL y k n pc lv st hp := by
  obtain ⟨p, l, e, R, s, m, args, below, meth, c, Q, D, ad0, hp0⟩ := X
  intro hx hb hml hown hmn hts hG hZ ad H locs ls hR hL hS
  obtain ⟨u, hu⟩ := hl0
  obtain ⟨o, ho⟩ : ∃ o, hp 2 = some o := by
    unfold jaF at hu
    split at hu
    · rename_i x e; exact ⟨_, e⟩
    · cases hu
  have h0 : hp0 2 ≠ none := hR.2.2.2.2.2 2 (by decide) (by rw [ho]; exact fun q => by cases q)
  have hw := kk hx hb hml hown hmn hts hG hZ ad H locs ls hR hL (hS.p (jok_r (a := 2) (by rw [ho]; exact fun q => by cases q)))
  rw [List.map_cons, show jv ad (.ref 2) = .ref (ad0 2) from congrArg Value.ref (hR.2.2.2.2.1 2 h0).1] at hw
  exact va_gets hx hb (hZ.2.1 h0) hR.2.2.1 hown (hts _ hlink) (fun _ h9 => h9) hd hw
end JAr
