/-! rules: what throws out of a method; calls of methods with handlers -/
set_option maxRecDepth 100000
section JO
variable {X : jX} {cc : ByteArray} {nL : Nat} {y : MethodName} {k n pc : Nat} {lv : List (Option Value)} {st : List Value} {hp : jH} {F L MC MS mc ms : Nat}
theorem jout {i : Int32} {len : Nat} (hout : ¬ (0 ≤ i.toInt ∧ i.toInt < len)) : i < 0 ∨ len ≤ i.toNatClampNeg := by
  rcases Classical.em (i < 0) with g | g
  · exact .inl g
  · right
    rw [Int32.lt_iff_toInt_lt] at g
    have e0 : (0 : Int32).toInt = 0 := by decide
    rw [e0] at g
    have h1 : (i.toNatClampNeg : Int) = i.toInt := by unfold Int32.toNatClampNeg; omega
    omega
theorem J.baldO {a len : Nat} {f : Nat → Int32} {i : Int32} (hRm : jRoom X F L MC MS) (hE : jEndsT X Bundle.idxN hp mc ms) (ha : hp a = some (.inl (.byte, len, .inl f))) (hlen : len < 2 ^ 31) (hout : ¬ (0 ≤ i.toInt ∧ i.toInt < len)) (hF : 7 < F) (hLo : (st.map (fun v => v.category)).sum + 10240 ≤ L) (hkM : k + 3 ≤ MC) (hnM : n + 222 ≤ MS) (hk : k + 3 ≤ mc) (hn : n + 222 ≤ ms) (hd : decode cc pc = .ok (.baload, 1)) : J X cc nL y k n pc lv (.int i :: .ref a :: st) hp := by
  obtain ⟨p, l, e, R, s, m, args, below, meth, c, Q, D, ad0, hp0⟩ := X
  intro hx hb hml hown hmn hts hG hZ ad H locs ls hR hL hS T hT S
  obtain ⟨hNT, hlk, htab, rfl⟩ := hE
  subst hT
  obtain ⟨cA, ce, hcell, hsl, hcl9, hkn, hst9, hIs, hA, hRA⟩ := (hR.1 a _ ha).1.arr
  have hsz : ce.slots.size = len := by rw [hsl]; exact arrV_size _ _ _
  have hst := S.baloadOut hx hcell hIs (j := i) (by rw [hsz]; exact jout hout) (g := F0 m pc ls (.int i :: .ref (ad a) :: st.map (jv ad))) rfl rfl (by rw [hb]; exact hd)
  rw [hsz] at hst
  exact jThrowO (B := 212) (st := st) (pc := pc) (ls := ls) hRm hNT hlk htab (names := Bundle.idxUp) (by decide +kernel) (by decide +kernel) (by decide +kernel) (by decide +kernel) atoms_idx (index_text_modelled i len) (index_text_bytes i hlen) (by decide) (by show 3 + 4 < F; omega) (by decide) hLo hkM hnM hk hn hx hml hts hG hZ S hR hL hst
theorem J.baldN {i : Int32} (hRm : jRoom X F L MC MS) (hE : jEndsT X "java/lang/NullPointerException" hp mc ms) (hF : 7 < F) (hLo : (st.map (fun v => v.category)).sum + 10240 ≤ L) (hkM : k + 1 ≤ MC) (hnM : n + 8 ≤ MS) (hk : k + 1 ≤ mc) (hn : n + 8 ≤ ms) (hd : decode cc pc = .ok (.baload, 1)) : J X cc nL y k n pc lv (.int i :: .null :: st) hp := by
  obtain ⟨p, l, e, R, s, m, args, below, meth, c, Q, D, ad0, hp0⟩ := X
  intro hx hb hml hown hmn hts hG hZ ad H locs ls hR hL hS T hT S
  obtain ⟨hNT, hlk, htab, rfl⟩ := hE
  subst hT
  have hst := S.baloadNull hx (g := F0 m pc ls (.int i :: .null :: st.map (jv ad))) rfl rfl (by rw [hb]; exact hd)
  exact jThrowN (st := st) (pc := pc) (ls := ls) hRm hNT hlk htab hF hLo hkM hnM hk hn hx hml hts hG hZ S hR hL hst
theorem J.saldO {a len : Nat} {f : Nat → Int32} {i : Int32} (hRm : jRoom X F L MC MS) (hE : jEndsT X Bundle.idxN hp mc ms) (ha : hp a = some (.inl (.short, len, .inl f))) (hlen : len < 2 ^ 31) (hout : ¬ (0 ≤ i.toInt ∧ i.toInt < len)) (hF : 7 < F) (hLo : (st.map (fun v => v.category)).sum + 10240 ≤ L) (hkM : k + 3 ≤ MC) (hnM : n + 222 ≤ MS) (hk : k + 3 ≤ mc) (hn : n + 222 ≤ ms) (hd : decode cc pc = .ok (.saload, 1)) : J X cc nL y k n pc lv (.int i :: .ref a :: st) hp := by
  obtain ⟨p, l, e, R, s, m, args, below, meth, c, Q, D, ad0, hp0⟩ := X
  intro hx hb hml hown hmn hts hG hZ ad H locs ls hR hL hS T hT S
  obtain ⟨hNT, hlk, htab, rfl⟩ := hE
  subst hT
  obtain ⟨cA, ce, hcell, hsl, hcl9, hkn, hst9, hIs, hA, hRA⟩ := (hR.1 a _ ha).1.arr
  have hsz : ce.slots.size = len := by rw [hsl]; exact arrV_size _ _ _
  have hst := S.saloadOut hx hcell hIs (j := i) (by rw [hsz]; exact jout hout) (g := F0 m pc ls (.int i :: .ref (ad a) :: st.map (jv ad))) rfl rfl (by rw [hb]; exact hd)
  rw [hsz] at hst
  exact jThrowO (B := 212) (st := st) (pc := pc) (ls := ls) hRm hNT hlk htab (names := Bundle.idxUp) (by decide +kernel) (by decide +kernel) (by decide +kernel) (by decide +kernel) atoms_idx (index_text_modelled i len) (index_text_bytes i hlen) (by decide) (by show 3 + 4 < F; omega) (by decide) hLo hkM hnM hk hn hx hml hts hG hZ S hR hL hst
theorem J.saldN {i : Int32} (hRm : jRoom X F L MC MS) (hE : jEndsT X "java/lang/NullPointerException" hp mc ms) (hF : 7 < F) (hLo : (st.map (fun v => v.category)).sum + 10240 ≤ L) (hkM : k + 1 ≤ MC) (hnM : n + 8 ≤ MS) (hk : k + 1 ≤ mc) (hn : n + 8 ≤ ms) (hd : decode cc pc = .ok (.saload, 1)) : J X cc nL y k n pc lv (.int i :: .null :: st) hp := by
  obtain ⟨p, l, e, R, s, m, args, below, meth, c, Q, D, ad0, hp0⟩ := X
  intro hx hb hml hown hmn hts hG hZ ad H locs ls hR hL hS T hT S
  obtain ⟨hNT, hlk, htab, rfl⟩ := hE
  subst hT
  have hst := S.saloadNull hx (g := F0 m pc ls (.int i :: .null :: st.map (jv ad))) rfl rfl (by rw [hb]; exact hd)
  exact jThrowN (st := st) (pc := pc) (ls := ls) hRm hNT hlk htab hF hLo hkM hnM hk hn hx hml hts hG hZ S hR hL hst
theorem J.ialdO {a len : Nat} {f : Nat → Int32} {i : Int32} (hRm : jRoom X F L MC MS) (hE : jEndsT X Bundle.idxN hp mc ms) (ha : hp a = some (.inl (.int, len, .inl f))) (hlen : len < 2 ^ 31) (hout : ¬ (0 ≤ i.toInt ∧ i.toInt < len)) (hF : 7 < F) (hLo : (st.map (fun v => v.category)).sum + 10240 ≤ L) (hkM : k + 3 ≤ MC) (hnM : n + 222 ≤ MS) (hk : k + 3 ≤ mc) (hn : n + 222 ≤ ms) (hd : decode cc pc = .ok (.iaload, 1)) : J X cc nL y k n pc lv (.int i :: .ref a :: st) hp := by
  obtain ⟨p, l, e, R, s, m, args, below, meth, c, Q, D, ad0, hp0⟩ := X
  intro hx hb hml hown hmn hts hG hZ ad H locs ls hR hL hS T hT S
  obtain ⟨hNT, hlk, htab, rfl⟩ := hE
  subst hT
  obtain ⟨cA, ce, hcell, hsl, hcl9, hkn, hst9, hIs, hA, hRA⟩ := (hR.1 a _ ha).1.arr
  have hsz : ce.slots.size = len := by rw [hsl]; exact arrV_size _ _ _
  have hst := S.ialoadOut hx hcell hIs (j := i) (by rw [hsz]; exact jout hout) (g := F0 m pc ls (.int i :: .ref (ad a) :: st.map (jv ad))) rfl rfl (by rw [hb]; exact hd)
  rw [hsz] at hst
  exact jThrowO (B := 212) (st := st) (pc := pc) (ls := ls) hRm hNT hlk htab (names := Bundle.idxUp) (by decide +kernel) (by decide +kernel) (by decide +kernel) (by decide +kernel) atoms_idx (index_text_modelled i len) (index_text_bytes i hlen) (by decide) (by show 3 + 4 < F; omega) (by decide) hLo hkM hnM hk hn hx hml hts hG hZ S hR hL hst
theorem J.ialdN {i : Int32} (hRm : jRoom X F L MC MS) (hE : jEndsT X "java/lang/NullPointerException" hp mc ms) (hF : 7 < F) (hLo : (st.map (fun v => v.category)).sum + 10240 ≤ L) (hkM : k + 1 ≤ MC) (hnM : n + 8 ≤ MS) (hk : k + 1 ≤ mc) (hn : n + 8 ≤ ms) (hd : decode cc pc = .ok (.iaload, 1)) : J X cc nL y k n pc lv (.int i :: .null :: st) hp := by
  obtain ⟨p, l, e, R, s, m, args, below, meth, c, Q, D, ad0, hp0⟩ := X
  intro hx hb hml hown hmn hts hG hZ ad H locs ls hR hL hS T hT S
  obtain ⟨hNT, hlk, htab, rfl⟩ := hE
  subst hT
  have hst := S.ialoadNull hx (g := F0 m pc ls (.int i :: .null :: st.map (jv ad))) rfl rfl (by rw [hb]; exact hd)
  exact jThrowN (st := st) (pc := pc) (ls := ls) hRm hNT hlk htab hF hLo hkM hnM hk hn hx hml hts hG hZ S hR hL hst
theorem J.bastO {x : Int32} {a len : Nat} {f : Nat → Int32} {i : Int32} (hRm : jRoom X F L MC MS) (hE : jEndsT X Bundle.idxN hp mc ms) (ha : hp a = some (.inl (.byte, len, .inl f))) (hlen : len < 2 ^ 31) (hout : ¬ (0 ≤ i.toInt ∧ i.toInt < len)) (hF : 7 < F) (hLo : (st.map (fun v => v.category)).sum + 10240 ≤ L) (hkM : k + 3 ≤ MC) (hnM : n + 222 ≤ MS) (hk : k + 3 ≤ mc) (hn : n + 222 ≤ ms) (hd : decode cc pc = .ok (.bastore, 1)) : J X cc nL y k n pc lv (.int x :: .int i :: .ref a :: st) hp := by
  obtain ⟨p, l, e, R, s, m, args, below, meth, c, Q, D, ad0, hp0⟩ := X
  intro hx hb hml hown hmn hts hG hZ ad H locs ls hR hL hS T hT S
  obtain ⟨hNT, hlk, htab, rfl⟩ := hE
  subst hT
  obtain ⟨cA, ce, hcell, hsl, hcl9, hkn, hst9, hIs, hA, hRA⟩ := (hR.1 a _ ha).1.arr
  have hsz : ce.slots.size = len := by rw [hsl]; exact arrV_size _ _ _
  have hst := S.bastoreOut hx hcell hIs (j := i) (by rw [hsz]; exact jout hout) (g := F0 m pc ls (.int x :: .int i :: .ref (ad a) :: st.map (jv ad))) rfl rfl (by rw [hb]; exact hd)
  rw [hsz] at hst
  exact jThrowO (B := 212) (st := st) (pc := pc) (ls := ls) hRm hNT hlk htab (names := Bundle.idxUp) (by decide +kernel) (by decide +kernel) (by decide +kernel) (by decide +kernel) atoms_idx (index_text_modelled i len) (index_text_bytes i hlen) (by decide) (by show 3 + 4 < F; omega) (by decide) hLo hkM hnM hk hn hx hml hts hG hZ S hR hL hst
theorem J.bastN {x : Int32} {i : Int32} (hRm : jRoom X F L MC MS) (hE : jEndsT X "java/lang/NullPointerException" hp mc ms) (hF : 7 < F) (hLo : (st.map (fun v => v.category)).sum + 10240 ≤ L) (hkM : k + 1 ≤ MC) (hnM : n + 8 ≤ MS) (hk : k + 1 ≤ mc) (hn : n + 8 ≤ ms) (hd : decode cc pc = .ok (.bastore, 1)) : J X cc nL y k n pc lv (.int x :: .int i :: .null :: st) hp := by
  obtain ⟨p, l, e, R, s, m, args, below, meth, c, Q, D, ad0, hp0⟩ := X
  intro hx hb hml hown hmn hts hG hZ ad H locs ls hR hL hS T hT S
  obtain ⟨hNT, hlk, htab, rfl⟩ := hE
  subst hT
  have hst := S.bastoreNull hx (g := F0 m pc ls (.int x :: .int i :: .null :: st.map (jv ad))) rfl rfl (by rw [hb]; exact hd)
  exact jThrowN (st := st) (pc := pc) (ls := ls) hRm hNT hlk htab hF hLo hkM hnM hk hn hx hml hts hG hZ S hR hL hst
theorem J.sastO {x : Int32} {a len : Nat} {f : Nat → Int32} {i : Int32} (hRm : jRoom X F L MC MS) (hE : jEndsT X Bundle.idxN hp mc ms) (ha : hp a = some (.inl (.short, len, .inl f))) (hlen : len < 2 ^ 31) (hout : ¬ (0 ≤ i.toInt ∧ i.toInt < len)) (hF : 7 < F) (hLo : (st.map (fun v => v.category)).sum + 10240 ≤ L) (hkM : k + 3 ≤ MC) (hnM : n + 222 ≤ MS) (hk : k + 3 ≤ mc) (hn : n + 222 ≤ ms) (hd : decode cc pc = .ok (.sastore, 1)) : J X cc nL y k n pc lv (.int x :: .int i :: .ref a :: st) hp := by
  obtain ⟨p, l, e, R, s, m, args, below, meth, c, Q, D, ad0, hp0⟩ := X
  intro hx hb hml hown hmn hts hG hZ ad H locs ls hR hL hS T hT S
  obtain ⟨hNT, hlk, htab, rfl⟩ := hE
  subst hT
  obtain ⟨cA, ce, hcell, hsl, hcl9, hkn, hst9, hIs, hA, hRA⟩ := (hR.1 a _ ha).1.arr
  have hsz : ce.slots.size = len := by rw [hsl]; exact arrV_size _ _ _
  have hst := S.sastoreOut hx hcell hIs (j := i) (by rw [hsz]; exact jout hout) (g := F0 m pc ls (.int x :: .int i :: .ref (ad a) :: st.map (jv ad))) rfl rfl (by rw [hb]; exact hd)
  rw [hsz] at hst
  exact jThrowO (B := 212) (st := st) (pc := pc) (ls := ls) hRm hNT hlk htab (names := Bundle.idxUp) (by decide +kernel) (by decide +kernel) (by decide +kernel) (by decide +kernel) atoms_idx (index_text_modelled i len) (index_text_bytes i hlen) (by decide) (by show 3 + 4 < F; omega) (by decide) hLo hkM hnM hk hn hx hml hts hG hZ S hR hL hst
theorem J.sastN {x : Int32} {i : Int32} (hRm : jRoom X F L MC MS) (hE : jEndsT X "java/lang/NullPointerException" hp mc ms) (hF : 7 < F) (hLo : (st.map (fun v => v.category)).sum + 10240 ≤ L) (hkM : k + 1 ≤ MC) (hnM : n + 8 ≤ MS) (hk : k + 1 ≤ mc) (hn : n + 8 ≤ ms) (hd : decode cc pc = .ok (.sastore, 1)) : J X cc nL y k n pc lv (.int x :: .int i :: .null :: st) hp := by
  obtain ⟨p, l, e, R, s, m, args, below, meth, c, Q, D, ad0, hp0⟩ := X
  intro hx hb hml hown hmn hts hG hZ ad H locs ls hR hL hS T hT S
  obtain ⟨hNT, hlk, htab, rfl⟩ := hE
  subst hT
  have hst := S.sastoreNull hx (g := F0 m pc ls (.int x :: .int i :: .null :: st.map (jv ad))) rfl rfl (by rw [hb]; exact hd)
  exact jThrowN (st := st) (pc := pc) (ls := ls) hRm hNT hlk htab hF hLo hkM hnM hk hn hx hml hts hG hZ S hR hL hst
theorem J.iastO {x : Int32} {a len : Nat} {f : Nat → Int32} {i : Int32} (hRm : jRoom X F L MC MS) (hE : jEndsT X Bundle.idxN hp mc ms) (ha : hp a = some (.inl (.int, len, .inl f))) (hlen : len < 2 ^ 31) (hout : ¬ (0 ≤ i.toInt ∧ i.toInt < len)) (hF : 7 < F) (hLo : (st.map (fun v => v.category)).sum + 10240 ≤ L) (hkM : k + 3 ≤ MC) (hnM : n + 222 ≤ MS) (hk : k + 3 ≤ mc) (hn : n + 222 ≤ ms) (hd : decode cc pc = .ok (.iastore, 1)) : J X cc nL y k n pc lv (.int x :: .int i :: .ref a :: st) hp := by
  obtain ⟨p, l, e, R, s, m, args, below, meth, c, Q, D, ad0, hp0⟩ := X
  intro hx hb hml hown hmn hts hG hZ ad H locs ls hR hL hS T hT S
  obtain ⟨hNT, hlk, htab, rfl⟩ := hE
  subst hT
  obtain ⟨cA, ce, hcell, hsl, hcl9, hkn, hst9, hIs, hA, hRA⟩ := (hR.1 a _ ha).1.arr
  have hsz : ce.slots.size = len := by rw [hsl]; exact arrV_size _ _ _
  have hst := S.iastoreOut hx hcell hIs (j := i) (by rw [hsz]; exact jout hout) (g := F0 m pc ls (.int x :: .int i :: .ref (ad a) :: st.map (jv ad))) rfl rfl (by rw [hb]; exact hd)
  rw [hsz] at hst
  exact jThrowO (B := 212) (st := st) (pc := pc) (ls := ls) hRm hNT hlk htab (names := Bundle.idxUp) (by decide +kernel) (by decide +kernel) (by decide +kernel) (by decide +kernel) atoms_idx (index_text_modelled i len) (index_text_bytes i hlen) (by decide) (by show 3 + 4 < F; omega) (by decide) hLo hkM hnM hk hn hx hml hts hG hZ S hR hL hst
theorem J.iastN {x : Int32} {i : Int32} (hRm : jRoom X F L MC MS) (hE : jEndsT X "java/lang/NullPointerException" hp mc ms) (hF : 7 < F) (hLo : (st.map (fun v => v.category)).sum + 10240 ≤ L) (hkM : k + 1 ≤ MC) (hnM : n + 8 ≤ MS) (hk : k + 1 ≤ mc) (hn : n + 8 ≤ ms) (hd : decode cc pc = .ok (.iastore, 1)) : J X cc nL y k n pc lv (.int x :: .int i :: .null :: st) hp := by
  obtain ⟨p, l, e, R, s, m, args, below, meth, c, Q, D, ad0, hp0⟩ := X
  intro hx hb hml hown hmn hts hG hZ ad H locs ls hR hL hS T hT S
  obtain ⟨hNT, hlk, htab, rfl⟩ := hE
  subst hT
  have hst := S.iastoreNull hx (g := F0 m pc ls (.int x :: .int i :: .null :: st.map (jv ad))) rfl rfl (by rw [hb]; exact hd)
  exact jThrowN (st := st) (pc := pc) (ls := ls) hRm hNT hlk htab hF hLo hkM hnM hk hn hx hml hts hG hZ S hR hL hst
/-- newarray of a negative length -/
theorem J.newN {i : Int32} {at' : ArrayType} (hRm : jRoom X F L MC MS) (hE : jEndsT X "java/lang/NegativeArraySizeException" hp mc ms) (hi : i < 0) (hF : 6 < F) (hLo : (st.map (fun v => v.category)).sum + 10240 ≤ L) (hkM : k + 3 ≤ MC) (hnM : n + 54 ≤ MS) (hk : k + 3 ≤ mc) (hn : n + 54 ≤ ms) (hd : decode cc pc = .ok (.newarray at', 2)) : J X cc nL y k n pc lv (.int i :: st) hp := by
  obtain ⟨p, l, e, R, s, m, args, below, meth, c, Q, D, ad0, hp0⟩ := X
  intro hx hb hml hown hmn hts hG hZ ad H locs ls hR hL hS T hT S
  obtain ⟨hNT, hlk, htab, rfl⟩ := hE
  subst hT
  have hst := S.newarrayNegative hx (g := F0 m pc ls (.int i :: st.map (jv ad))) rfl hi rfl (by rw [hb]; exact hd)
  exact jThrowO (B := 44) (st := st) (pc := pc) (ls := ls) hRm hNT hlk htab (names := ["java/lang/RuntimeException", "java/lang/Exception"]) (by decide +kernel) (by decide +kernel) (by decide +kernel) (by decide +kernel) atoms_neg (negative_text_modelled hi) (negative_text_bytes i) (by decide) (by show 2 + 4 < F; omega) (by decide) hLo hkM hnM hk hn hx hml hts hG hZ S hR hL hst
end JO
