/-! a contract in a bigger heap -/
set_option maxRecDepth 100000
/-- a cell with its names renamed -/
def rnO (ρ : Nat → Nat) (o : jO) : jO := match o with
  | .inl q => .inl (q.1, jA ρ q.2)
  | .inr q => .inr (q.1, q.2.map (jv ρ))
theorem jv_comp (ad ρ : Nat → Nat) (v : Value) : jv ad (jv ρ v) = jv (fun n => ad (ρ n)) v := by cases v <;> rfl
theorem jA_comp (ad ρ : Nat → Nat) (x : vp_A) : jA ad (jA ρ x) = jA (fun n => ad (ρ n)) x := by
  obtain ⟨n, f | f | f | f | f⟩ := x <;> try rfl
  show (n, Sum.inr (Sum.inr (Sum.inr (Sum.inr (fun j => ((f j).map ρ).map ad))))) = (n, Sum.inr (Sum.inr (Sum.inr (Sum.inr (fun j => (f j).map (fun n => ad (ρ n)))))))
  congr 1
  congr 1
  congr 1
  congr 1
  congr 1
  funext j
  cases f j <;> rfl
theorem jAt_rn {D : va_G} {s : State} {ad ρ : Nat → Nat} {n : Nat} {o : jO} {H : Heap} (hn8 : 8 ≤ ρ n ↔ 8 ≤ n) : jAt D s ad (ρ n) (rnO ρ o) H ↔ jAt D s (fun n => ad (ρ n)) n o H := by
  cases o with
  | inl q =>
    show (∃ (cA : ClassId) (cell : Cell), H[ad (ρ n)]? = some cell ∧ jCe (ρ n) cA (jA ad (jA ρ q.2)) cell ∧ ArrOfT s cA q.1 ∧ (8 ≤ ρ n → va_RA s cA q.1)) ↔ ∃ (cA : ClassId) (cell : Cell), H[ad (ρ n)]? = some cell ∧ jCe n cA (jA (fun n => ad (ρ n)) q.2) cell ∧ ArrOfT s cA q.1 ∧ (8 ≤ n → va_RA s cA q.1)
    rw [jA_comp]
    unfold jCe
    simp only [hn8]
  | inr q =>
    show (∃ r : vw_C, jcl[q.1]? = some r ∧ t_OB (ad (ρ n)) (D.1 q.1) r.2.2 (D.2 q.1) H (vp_V ((q.2.map (jv ρ)).map (jv ad)))) ↔ _
    rw [List.map_map, show (jv ad ∘ jv ρ) = jv (fun n => ad (ρ n)) from funext fun v => jv_comp ad ρ v]
    exact Iff.rfl
theorem jok_rn {ρ : Nat → Nat} {h hB : jH} (he : ∀ n, hB (ρ n) ≠ none → h n ≠ none) {v : Value} (hv : jok hB (jv ρ v)) : jok h v := by
  intro n e
  subst e
  exact he n (hv (ρ n) rfl)
theorem jok_up {ρ : Nat → Nat} {h hB : jH} (he : ∀ n, h n ≠ none → hB (ρ n) ≠ none) {v : Value} (hv : jok h v) : jok hB (jv ρ v) := by
  intro n e
  cases v with
  | ref k =>
    have : ρ k = n := by injection e
    rw [← this]
    exact he k (hv k rfl)
  | _ => cases e
theorem jclo_rn {ρ : Nat → Nat} {h hB : jH} (he : ∀ n, hB (ρ n) ≠ none → h n ≠ none) {o : jO} (hc : jclo hB (rnO ρ o)) : jclo h o := by
  cases o with
  | inl q =>
    obtain ⟨ty, len, f | f | f | f | f⟩ := q <;> try trivial
    intro j n hj
    refine he n (hc j (ρ n) ?_)
    show (f j).map ρ = some (ρ n)
    rw [hj]
    rfl
  | inr q =>
    intro v hv
    exact jok_rn he (hc _ (List.mem_map.mpr ⟨v, hv, rfl⟩))
theorem jclo_up {ρ : Nat → Nat} {h hB : jH} (he : ∀ n, h n ≠ none → hB (ρ n) ≠ none) {o : jO} (hc : jclo h o) : jclo hB (rnO ρ o) := by
  cases o with
  | inl q =>
    obtain ⟨ty, len, f | f | f | f | f⟩ := q <;> try trivial
    intro j n hj
    have hj : (f j).map ρ = some n := hj
    cases hf : f j with
    | none => rw [hf] at hj; cases hj
    | some k =>
      rw [hf] at hj
      cases hj
      exact he k (hc j k hf)
  | inr q =>
    intro v hv
    obtain ⟨w, hw, rfl⟩ := List.mem_map.mp hv
    exact jok_up he (hc w hw)
/-- the heap h lies in hB, by ρ -/
def emb (ρ : Nat → Nat) (h hB : jH) : Prop := (∀ n o, h n = some o → hB (ρ n) = some (rnO ρ o)) ∧ (∀ n, hB (ρ n) ≠ none → h n ≠ none)
theorem emb.up {ρ : Nat → Nat} {h hB : jH} (he : emb ρ h hB) (n : Nat) (hn : h n ≠ none) : hB (ρ n) ≠ none := by
  obtain ⟨o, ho⟩ := jlive hn
  rw [he.1 n o ho]
  exact fun q => by cases q
theorem jM.big {D : va_G} {l : Launch} {y : MethodName} {ws : List Cond} {rm : Room} {h h' hB hB' : jH} {av : List Value} {r : Option Value} {ρ : Nat → Nat} (hM : jM D l y ws rm h av r h') (hρ : ∀ i j, ρ i = ρ j → i = j) (h8 : ∀ n, 8 ≤ n → 8 ≤ ρ n) (hl8 : ∀ n, n < 8 → h n ≠ none → ρ n = n) (he : emb ρ h hB) (he' : emb ρ h' hB') (hrest : ∀ m, (∀ n, ρ n ≠ m) → hB' m = hB m) : jM D l y ws rm hB (av.map (jv ρ)) (r.map (jv ρ)) hB' := by
  intro ad sz p e ha hc hk s m args below hf happ hP _
  obtain ⟨rfl, hsz, hG, hZ, hC, hI, hS⟩ := hP
  have hsub : ∀ q, jF (fun n => ad (ρ n)) h sz q → jF ad hB sz q := by
    rintro q (⟨n, h1, h2, rfl⟩ | h)
    · exact .inl ⟨ρ n, he.up n h1, h8 n h2, rfl⟩
    · exact .inr h
  have hsub' : ∀ q, jF (fun n => ad (ρ n)) h s.heap.size q → jF ad hB s.heap.size q := by rw [hsz]; exact hsub
  have hn8 : ∀ n, h n ≠ none → (8 ≤ ρ n ↔ 8 ≤ n) := fun n hn => ⟨fun q => by
    rcases Nat.lt_or_ge n 8 with c | c
    · rw [hl8 n c hn] at q
      exact q
    · exact c, h8 n⟩
  have hC1 : jCells D s (fun n => ad (ρ n)) h s.heap := fun n o ho => by
    obtain ⟨h1, h2⟩ := hC (ρ n) _ (he.1 n o ho)
    exact ⟨(jAt_rn (hn8 n (by rw [ho]; exact fun q => by cases q))).mp h1, jclo_rn he.2 h2⟩
  have hI1 : jInj (fun n => ad (ρ n)) h := fun i j hi hj e => hρ i j (hI _ _ (he.up i hi) (he.up j hj) e)
  have hZ1 : jZ (fun n => ad (ρ n)) h s := by
    refine ⟨fun q => ?_, fun q => ?_, hZ.2.2.1.narrow hsub', hZ.2.2.2.narrow hsub'⟩
    · have e1 := hl8 1 (by decide) q
      have := hZ.1 (by rw [← e1]; exact he.up 1 q)
      show va_Z _ _ _ (.ref (ad (ρ 1))) _ _ _
      rw [e1]
      exact this.narrow hsub'
    · have e1 := hl8 2 (by decide) q
      have := hZ.2.1 (by rw [← e1]; exact he.up 2 q)
      show va_Z _ _ _ (.ref (ad (ρ 2))) _ _ _
      rw [e1]
      exact this.narrow hsub'
  have hav : ((av.map (jv ρ)).map (jv ad)).toArray = (av.map (jv (fun n => ad (ρ n)))).toArray := by
    rw [List.map_map, show (jv ad ∘ jv ρ) = jv (fun n => ad (ρ n)) from funext fun v => jv_comp ad ρ v]
  rw [hav] at hf ⊢
  obtain ⟨n, o, w1, w2, w3, ⟨ad', ho, hC', hI', hF', hW', hE', h9', hok'⟩, L, hFE, hL⟩ := hM (fun n => ad (ρ n)) sz p e ha hc hk s m _ below hf happ ⟨rfl, hsz, hG, hZ1, hC1, hI1, fun v hv => jok_rn he.2 (hS _ (List.mem_map.mpr ⟨v, hv, rfl⟩))⟩ trivial
  generalize hT : stepsAlone p.tables e n s = t at w1 w2 w3 hC' hF' hFE ⊢
  have hvm : s.vm.Alike t.vm := hFE.2.1.alike
  let adB : Nat → Nat := fun m => @dite _ (∃ n, ρ n = m) (Classical.propDecidable _) (fun hx => ad' (Classical.choose hx)) (fun _ => ad m)
  have aB1 : ∀ n, adB (ρ n) = ad' n := fun n => by
    have hx : ∃ k, ρ k = ρ n := ⟨n, rfl⟩
    show @dite _ (∃ k, ρ k = ρ n) (Classical.propDecidable _) (fun hx => ad' (Classical.choose hx)) (fun _ => ad (ρ n)) = _
    rw [dif_pos hx, hρ _ _ (Classical.choose_spec hx)]
  have aB2 : ∀ m, (∀ n, ρ n ≠ m) → adB m = ad m := fun m hm => by
    show @dite _ (∃ k, ρ k = m) (Classical.propDecidable _) (fun hx => ad' (Classical.choose hx)) (fun _ => ad m) = _
    rw [dif_neg (fun ⟨k, hk⟩ => hm k hk)]
  have keep : ∀ m, hB m ≠ none → adB m = ad m ∧ hB' m ≠ none := by
    intro m hm
    rcases Classical.em (∃ n, ρ n = m) with ⟨n, rfl⟩ | hx
    · obtain ⟨g1, g2⟩ := hE' n (he.2 n hm)
      exact ⟨by rw [aB1, g1], he'.up n g2⟩
    · have hx' : ∀ n, ρ n ≠ m := fun n hn => hx ⟨n, hn⟩
      exact ⟨aB2 m hx', by rw [hrest m hx']; exact hm⟩
  have lt : ∀ m, hB m ≠ none → ad m < s.heap.size := by
    intro m hm
    obtain ⟨o, ho⟩ := jlive hm
    have hat := (hC m o ho).1
    cases o with
    | inl q =>
      obtain ⟨cA, ce, h6, -⟩ := hat
      exact (Array.getElem?_eq_some_iff.mp h6).1
    | inr q =>
      obtain ⟨r, -, ce, h6, -⟩ := hat
      exact (Array.getElem?_eq_some_iff.mp h6).1
  have hcomp : (fun n => adB (ρ n)) = ad' := funext aB1
  have hn8' : ∀ n, h' n ≠ none → (8 ≤ ρ n ↔ 8 ≤ n) := fun n hn => by
    rcases Nat.lt_or_ge n 8 with c | c
    · exact hn8 n (h9' n c hn)
    · exact ⟨fun _ => c, h8 n⟩
  have apart : ∀ n m, h' n ≠ none → hB m ≠ none → (∀ k, ρ k ≠ m) → ad' n ≠ ad m := by
    intro n m hn hm hx e
    rcases Nat.lt_or_ge n 8 with h1 | h1
    · have h2 := h9' n h1 hn
      rw [(hE' n h2).1] at e
      exact hx n (hI _ _ (he.up n h2) hm e)
    · rcases hW' n hn h1 with ⟨k, g1, g2, g3⟩ | g
      · rw [← g3] at e
        exact hx k (hI _ _ (he.up k g1) hm e)
      · have := lt m hm
        rw [e] at g
        omega
  refine ⟨n, o, by rw [hT] at *; exact w1, w2, w3, ⟨adB, ?_, ?_, ?_, ?_, ?_, keep, ?_, ?_⟩, L, hFE, fun q hq => hsub _ (hL q hq)⟩
  · rw [ho]
    cases r with
    | none => rfl
    | some v =>
      show Outcome.returned (some (jv ad' v)) = .returned (some (jv adB (jv ρ v)))
      rw [jv_comp, hcomp]
  · intro m o ho
    rcases Classical.em (∃ n, ρ n = m) with ⟨n, rfl⟩ | hx
    · have hn : h' n ≠ none := he'.2 n (by rw [ho]; exact fun q => by cases q)
      obtain ⟨o', ho'⟩ := jlive hn
      have e2 := he'.1 n o' ho'
      rw [ho] at e2
      cases e2
      obtain ⟨g1, g2⟩ := hC' n o' ho'
      refine ⟨(jAt_rn (hn8' n hn)).mpr (by rw [hcomp]; exact g1), jclo_up he'.up g2⟩
    · have hx' : ∀ n, ρ n ≠ m := fun n hn => hx ⟨n, hn⟩
      rw [hrest m hx'] at ho
      have hm : hB m ≠ none := by rw [ho]; exact fun q => by cases q
      obtain ⟨g1, g2⟩ := hC m o ho
      have hq : t.heap[ad m]? = s.heap[ad m]? := by
        refine hF'.2 (ad m) (lt m hm) ?_
        rintro (⟨k, k1, k2, k3⟩ | k)
        · exact hx' k (hI _ _ (he.up k k1) hm k3)
        · have := lt m hm
          omega
      exact ⟨(g1.kept g2 hm (fun i hi => (keep i hi).1) hq).moved hvm, g2.mono (fun i hi => (keep i hi).2)⟩
  · intro i j hi hj e
    rcases Classical.em (∃ n, ρ n = i) with ⟨a, rfl⟩ | hx
    · rcases Classical.em (∃ n, ρ n = j) with ⟨b, rfl⟩ | hy
      · rw [aB1, aB1] at e
        rw [hI' a b (he'.2 a hi) (he'.2 b hj) e]
      · have hy' : ∀ n, ρ n ≠ j := fun n hn => hy ⟨n, hn⟩
        rw [aB1, aB2 j hy'] at e
        rw [hrest j hy'] at hj
        exact absurd e (apart a j (he'.2 a hi) hj hy')
    · have hx' : ∀ n, ρ n ≠ i := fun n hn => hx ⟨n, hn⟩
      rw [hrest i hx'] at hi
      rcases Classical.em (∃ n, ρ n = j) with ⟨b, rfl⟩ | hy
      · rw [aB1, aB2 i hx'] at e
        exact absurd e.symm (apart b i (he'.2 b hj) hi hx')
      · have hy' : ∀ n, ρ n ≠ j := fun n hn => hy ⟨n, hn⟩
        rw [hrest j hy'] at hj
        rw [aB2 i hx', aB2 j hy'] at e
        exact hI i j hi hj e
  · exact ⟨hF'.1, fun q h1 h2 => hF'.2 q h1 (fun z => h2 (hsub q z))⟩
  · intro m hm h8'
    rcases Classical.em (∃ n, ρ n = m) with ⟨n, rfl⟩ | hx
    · rw [aB1]
      rcases Nat.lt_or_ge n 8 with h1 | h1
      · have h2 := h9' n h1 (he'.2 n hm)
        have h3 := hl8 n h1 h2
        omega
      · exact hsub _ (hW' n (he'.2 n hm) h1)
    · have hx' : ∀ n, ρ n ≠ m := fun n hn => hx ⟨n, hn⟩
      rw [hrest m hx'] at hm
      rw [aB2 m hx']
      exact .inl ⟨m, hm, h8', rfl⟩
  · intro m hm hB9
    rcases Classical.em (∃ n, ρ n = m) with ⟨n, rfl⟩ | hx
    · rcases Nat.lt_or_ge n 8 with h1 | h1
      · exact he.up n (h9' n h1 (he'.2 n hB9))
      · have := h8 n h1
        omega
    · rw [hrest m (fun n hn => hx ⟨n, hn⟩)] at hB9
      exact hB9
  · intro v hv
    cases r with
    | none => cases hv
    | some w =>
      cases hv
      exact jok_up he'.up (hok' w rfl)
/-- J with less told -/
theorem J.sub {X : jX} {cc : ByteArray} {nL : Nat} {y : MethodName} {k n pc : Nat} {lv : List (Option Value)} {st : List Value} {hp hp' hp0 : jH} (hX0 : jX0 X hp0) (hsub : ∀ i o, hp' i = some o → hp i = some o ∧ jclo hp' o) (hdom : ∀ i, hp0 i ≠ none → hp' i ≠ none) (hlv : ∀ (i : Nat) (v : Value), lv[i]? = some (some v) → jok hp' v) (hst : jS hp' st) (kk : J X cc nL y k n pc lv st hp') : J X cc nL y k n pc lv st hp := by
  obtain ⟨p, l, e, R, s, m, args, below, meth, c, Q, D, ad0, hp00⟩ := X
  intro hx hb hml hown hmn hts hG hZ ad H locs ls hR hL hS
  have hX0 : hp00 = hp0 := hX0
  subst hX0
  have hlive : ∀ i, hp' i ≠ none → hp i ≠ none := fun i hi => by
    obtain ⟨o, ho⟩ := jlive hi
    rw [(hsub i o ho).1]
    exact fun q => by cases q
  refine kk hx hb hml hown hmn hts hG hZ ad H locs ls ⟨fun i o ho => ⟨(hR.1 i o (hsub i o ho).1).1, (hsub i o ho).2⟩, fun i j hi hj e => hR.2.1 i j (hlive i hi) (hlive j hj) e, hR.2.2.1, fun i hi h => hR.2.2.2.1 i (hlive i hi) h, fun i hi => ⟨(hR.2.2.2.2.1 i hi).1, hdom i hi⟩, fun i hi h => hR.2.2.2.2.2 i hi (hlive i h)⟩ ⟨hL.1, hL.2.1, fun i v hv => ⟨(hL.2.2 i v hv).1, hlv i v hv⟩⟩ hst
