/-! what a method forgets -/
set_option maxRecDepth 100000
def jalI (hp : jH) (a : Nat) : Option Nat := match hp a with
  | some (.inl (.int, len, .inl _)) => if len < 2 ^ 31 then some len else none
  | _ => none
theorem jalI_spec {hp : jH} {a len : Nat} (h : jalI hp a = some len) : ∃ f : Nat → Int32, hp a = some (.inl (.int, len, .inl f)) ∧ len < 2 ^ 31 := by
  unfold jalI at h
  split at h
  · rename_i len' f e
    split at h
    · rename_i hl
      cases h
      exact ⟨f, e, hl⟩
    · cases h
  · cases h
/-- nothing but itself tells of it -/
def jno (hp : jH) (a : Nat) : Prop := ∀ i o, i ≠ a → hp i = some o → jclo (jdel hp a) o
noncomputable def jfg (hp : jH) (a : Nat) : Option jH := @ite _ (jno hp a) (Classical.propDecidable _) (some (jdel hp a)) none
theorem jfg_spec {hp hpE : jH} {a : Nat} (h : jfg hp a = some hpE) : hpE = jdel hp a ∧ jno hp a := by
  unfold jfg at h
  rcases Classical.em (jno hp a) with g | g
  · rw [if_pos g] at h
    exact ⟨(Option.some.inj h).symm, g⟩
  · rw [if_neg g] at h
    cases h
theorem jfg_of {hp : jH} {a : Nat} (h : jno hp a) : jfg hp a = some (jdel hp a) := by
  unfold jfg
  rw [if_pos h]
theorem jnew_some {hp : jH} {a : Nat} {o o' : jO} (h : hp a = some o') : jnew hp a o = none := by
  unfold jnew
  rw [h]
theorem J.iretG {X : jX} {cc : ByteArray} {nL : Nat} {y : MethodName} {k n pc : Nat} {lv : List (Option Value)} {hp hp0 hpE : jH} {mc ms a : Nat} {v : Int32} (hg : jfg hp a = some hpE) (hE : jEnds X (some .int) (some (.int v)) hpE mc ms) (hX0 : jX0 X hp0) (hna : hp0 a = none) (hk : k ≤ mc) (hn : n ≤ ms) (hd : decode cc pc = .ok (.ireturn, 1)) : J X cc nL y k n pc lv [.int v] hp := by
  obtain ⟨e1, h1⟩ := jfg_spec hg
  subst e1
  obtain ⟨p, l, e, R, s, m, args, below, meth, c, Q, D, ad0, hp00⟩ := X
  intro hx hb hml hown hmn hts hG hZ ad H locs ls hR hL hS
  have hX0' : hp00 = hp0 := hX0
  refine J.iretF (hp0 := hp0) hE hX0 (fun i o ho => ?_) (fun i hi => ?_) hk hn hd hx hb hml hown hmn hts hG hZ ad H locs ls hR hL hS
  · unfold jdel at ho
    by_cases hia : i = a
    · rw [if_pos hia] at ho
      cases ho
    · rw [if_neg hia] at ho
      exact ⟨ho, h1 i o hia ho⟩
  · have hia : i ≠ a := fun h => hi (by rw [h]; exact hna)
    unfold jdel
    rw [if_neg hia]
    subst hX0'
    exact (hR.2.2.2.2.1 i hi).2
abbrev hh_account : List (Nat × Nat × Nat × Nat) := [((112 : Nat), (115 : Nat), (116 : Nat), (252 : Nat))]
theorem ps_account : jPs yX0_account.cls Bundle.idxN 114 hh_account 116 := .inr ⟨⟨by decide, by decide⟩, by decide, "java/lang/ArrayIndexOutOfBoundsException", q569, .inl ⟨q634, rfl⟩⟩
