/-! the law's loop -/
set_option maxRecDepth 100000
theorem clo_M {F : Nat → Int32} {A : Nat → Nat → Int32} {L : Nat → Int64} {GF : Nat → Int32} {GA : Nat → Nat → Int32} (n : Nat) (o : jO) (h : layM F A L GF GA n = some o) : jclo (layM F A L GF GA) o := by
  have live : ∀ k, 8 ≤ k → k ≤ 42 → layM F A L GF GA k ≠ none := by
    intro k h1 h2
    unfold layM
    by_cases c1 : k = 8
    · rw [if_pos c1]; exact fun q => by cases q
    rw [if_neg c1]
    by_cases c2 : k = 27
    · rw [if_pos c2]; exact fun q => by cases q
    rw [if_neg c2, if_pos (by omega)]
    exact fun q => by cases q
  unfold layM at h
  split at h
  · cases h
    intro v hv k e
    subst e
    unfold fsM at hv
    simp only [List.mem_cons, List.not_mem_nil, or_false] at hv
    repeat (rcases hv with hv | hv; · first | (cases hv; done) | (cases hv; exact live _ (by decide) (by decide)))
    first | (cases hv; done) | (cases hv; exact live _ (by decide) (by decide))
  · split at h
    · cases h
      trivial
    · split at h
      · cases h
        trivial
      · cases h
theorem Rst_cloM {c : Nat} {hx hm : jH} (h : Rst c hx hm) (n : Nat) (o : jO) (ho : hm n = some o) : jclo hm o := by
  obtain ⟨np, nd, nb, ns, nj, no, dp, bd, jp, ld, rw, rk, T, A, F, L, GF, GA, rfl, rfl, hR⟩ := h
  exact clo_M n o ho
theorem Rst_2 {c : Nat} {hx hm : jH} (h : Rst c hx hm) : hx 2 ≠ none := by
  obtain ⟨np, nd, nb, ns, nj, no, dp, bd, jp, ld, rw, rk, T, A, F, L, GF, GA, rfl, rfl, hR⟩ := h
  exact fun q => by cases q
/-- the merged heap with less told -/
theorem mg_sub {c : Nat} {sc : Option jO} {hx hm h1 h2 : jH} (hR : Rst c hx hm) (hs : jsub hx h1) (hs2 : ∀ n o, hm n = some o → h2 n = some o) (hsc : ∀ o, sc = some o → ∀ hp, jclo hp o) : ∀ i o, mg sc hx hm i = some o → mg sc h1 h2 i = some o ∧ jclo (mg sc hx hm) o := by
  intro i o ho
  rcases Classical.em (∃ n, ρ1 n = i) with ⟨n, rfl⟩ | c1
  · rw [mg_1] at ho ⊢
    cases hn : hx n with
    | none => rw [hn] at ho; cases ho
    | some o' =>
      rw [hn] at ho
      cases ho
      obtain ⟨g1, g2⟩ := hs n o' hn
      rw [g1]
      exact ⟨rfl, jclo_up emb_1.up g2⟩
  · rcases Classical.em (∃ n, ρ2 n = i) with ⟨n, rfl⟩ | c2
    · rw [mg_2] at ho ⊢
      cases hn : hm n with
      | none => rw [hn] at ho; cases ho
      | some o' =>
        rw [hn] at ho
        cases ho
        rw [hs2 n o' hn]
        exact ⟨rfl, jclo_up emb_2.up (Rst_cloM hR n o' hn)⟩
    · have e1 : mg sc hx hm i = mg sc h1 h2 i := by
        rw [mg_r1 (h1 := h1) i (fun n hn => c1 ⟨n, hn⟩), mg_r2 (h2 := h2) i (fun n hn => c2 ⟨n, hn⟩)]
      rw [← e1]
      refine ⟨ho, ?_⟩
      have h3 : i = 3 := by
        rcases Nat.lt_or_ge i 3 with q | q
        · exact absurd ⟨i, by unfold ρ1; rw [if_pos q]⟩ c1
        rcases Nat.lt_or_ge i 4 with q2 | q2
        · omega
        exfalso
        unfold mg at ho
        rw [if_neg (by omega), if_neg (by omega)] at ho
        split at ho
        · cases ho
        · split at ho
          · split at ho
            · cases ho
            · exact c1 ⟨(i - 10) / 2, by unfold ρ1; rw [if_neg (by omega)]; omega⟩
          · exact c2 ⟨(i - 11) / 2, by unfold ρ2; omega⟩
      subst h3
      exact hsc o ho _
/-- the heap at the law's entry -/
def hp9 (sc : Option jO) : jH := fun n => if n = 1 then some cMost else if n = 2 then some (.inl (.object "java/lang/Object", 0, .inr (.inr (.inr (.inr (fun _ => none)))))) else if n = 3 then sc else none
theorem mg_dom {c : Nat} {sc : Option jO} {hx hm : jH} (hR : Rst c hx hm) : ∀ i, hp9 sc i ≠ none → mg sc hx hm i ≠ none := by
  intro i hi
  unfold hp9 at hi
  split at hi
  · rename_i e
    subst e
    show (hx 1).map (rnO ρ1) ≠ none
    rw [Rst_1 hR]
    exact fun q => by cases q
  · split at hi
    · rename_i e
      subst e
      show (hx 2).map (rnO ρ1) ≠ none
      obtain ⟨o, ho⟩ := jlive (Rst_2 hR)
      rw [ho]
      exact fun q => by cases q
    · split at hi
      · rename_i e
        subst e
        exact hi
      · exact absurd rfl hi
theorem live26 {c : Nat} {sc : Option jO} {hx hm : jH} (hR : Rst c hx hm) : mg sc hx hm 26 ≠ none := by
  obtain ⟨fs, h⟩ := Rst_8 hR
  have := mg_1 (sc := sc) (h1 := hx) (h2 := hm) 8
  rw [h] at this
  rw [show (26 : Nat) = ρ1 8 from rfl, this]
  exact fun q => by cases q
theorem live27 {c : Nat} {sc : Option jO} {hx hm : jH} (hR : Rst c hx hm) : mg sc hx hm 27 ≠ none := by
  obtain ⟨fs, h⟩ := Rst_8m hR
  have := mg_2 (sc := sc) (h1 := hx) (h2 := hm) 8
  rw [h] at this
  rw [show (27 : Nat) = ρ2 8 from rfl, this]
  exact fun q => by cases q
theorem lv_jok {hp : jH} {sn : Nat} {x : Int32} (h1 : hp sn ≠ none) (h2 : hp 26 ≠ none) (h3 : hp 27 ≠ none) : ∀ (i : Nat) (v : Value), ([some (.ref sn), some (.ref 26), some (.ref 27), some (.int x)] : List (Option Value))[i]? = some (some v) → jok hp v := by
  intro i v hv
  match i, hv with
  | 0, hv => cases hv; exact fun n e => by cases e; exact h1
  | 1, hv => cases hv; exact fun n e => by cases e; exact h2
  | 2, hv => cases hv; exact fun n e => by cases e; exact h3
  | 3, hv => cases hv; exact jok_i
  | i + 4, hv => cases hv
set_option maxHeartbeats 8000000 in
theorem law_L {X : jX} {D : va_G} {l : Launch} {L sn : Nat} {sc : Option jO} {xs : Nat → Int32} (hDl : jDl X D l) (hRm : jRoom X 2048 94400 603072 7262314) (hl : jNT l) (hX0 : jX0 X (hp9 sc)) (hL : L ≤ 384) (hsc0 : ∀ o, sc = some o → ∀ hp, jclo hp o)
    (hscr : ∀ h1 h2 : jH, h1 1 = some cMost → mg sc h1 h2 sn = some (.inl (.int, L, .inl xs)))
    (hend : ∀ (k n : Nat) (lv : List (Option Value)) (hp : jH), k ≤ 603072 → n ≤ 7262314 → J X cL_law 4 yL k n 1273 lv [.int 1] hp) :
    ∀ (m c : Nat) (hx hm : jH), L < 6 * (c + m) + 6 → c ≤ 64 → Rst c hx hm → J X cL_law 4 yL (1000 + 100 * c) (20000 + 5000 * c) 18 [some (.ref sn), some (.ref 26), some (.ref 27), some (.int (Int32.ofNat (6 * c)))] [] (mg sc hx hm) := by
  have key : ∀ (c : Nat) (hx hm : jH), c ≤ 64 → Rst c hx hm → (6 * c + 6 ≤ L → ∀ h1 h2 hy : jH, jsub hy h1 → Rst (c + 1) hy h2 → J X cL_law 4 yL (1000 + 100 * c + 100) (20000 + 5000 * c + 5000) 1266 [some (.ref sn), some (.ref 26), some (.ref 27), some (.int (Int32.ofNat (6 * c)))] [] (mg sc h1 h2)) → J X cL_law 4 yL (1000 + 100 * c) (20000 + 5000 * c) 18 [some (.ref sn), some (.ref 26), some (.ref 27), some (.int (Int32.ofNat (6 * c)))] [] (mg sc hx hm) := by
    intro c hx hm hc hR next
    have hs := hscr hx hm (Rst_1 hR)
    have e6 : (6 : Int32).toInt = 6 := by decide
    have eL : (Int32.ofNat L).toInt = L := oi (by omega)
    have ec : (Int32.ofNat (6 * c)).toInt = 6 * (c : Int) := by rw [oi (by omega)]; omega
    have eS : (Int32.ofNat L - 6).toInt = (L : Int) - 6 := by rw [sub32 (by rw [eL, e6]; omega) (by rw [eL, e6]; omega), eL, e6]
    refine J.iload_n (i := 3) dL_law_18 rfl rfl ?_
    refine J.aload_n (i := 0) dL_law_19 rfl rfl ?_
    refine J.alen (x := Int32.ofNat L) (by unfold jalen; rw [hs]) dL_law_20 ?_
    refine J.bipush (v := 6) dL_law_21 (by decide) ?_
    refine J.isub dL_law_23 ?_
    refine J.icmp_gt (tgt := 1272) dL_law_24 (by decide) (fun h => ?_) (fun h => ?_)
    · refine J.iconst (v := 1) dL_law_1272 (by decide) ?_
      exact hend _ _ _ _ (by omega) (by omega)
    · rw [Int32.lt_iff_toInt_lt, eS, ec] at h
      have hc6 : 6 * c + 6 ≤ L := by omega
      have hc64 : c < 64 := by omega
      have next := next hc6
      have hidx : ∀ q : Nat, q < 6 → (Int32.ofNat (6 * c) + Int32.ofNat q) = Int32.ofNat (6 * c + q) := fun q hq => on_add (by omega)
      have hg : ∀ (h1 h2 : jH), h1 1 = some cMost → ∀ q, q < 6 → jaI (mg sc h1 h2) sn .int (Int32.ofNat (6 * c) + Int32.ofNat q) = some (xs (6 * c + q)) := by
        intro h1 h2 hm1 q hq
        rw [hidx q hq, jaI_of (hscr h1 h2 hm1), if_pos (by rw [oi (by omega)]; omega), on (by omega)]
      have hg0 : jaI (mg sc hx hm) sn .int (Int32.ofNat (6 * c)) = some (xs (6 * c)) := by
        rw [jaI_of hs, if_pos (by rw [oi (by omega)]; omega), on (by omega)]
      refine J.aload_n (i := 0) dL_law_27 rfl rfl ?_
      refine J.iload_n (i := 3) dL_law_28 rfl rfl ?_
      refine J.iald hg0 dL_law_29 ?_
      refine J.bipush (v := 63) dL_law_30 (by decide) ?_
      refine J.iand dL_law_32 ?_
      by_cases ho : (xs (6 * c) &&& 63).toInt < 0 ∨ 34 < (xs (6 * c) &&& 63).toInt
      · refine J.tableOut (tgt := 1266) dL_law_33 ho (by decide) ?_
        exact J.widen (Nat.le_add_right _ _) (Nat.le_add_right _ _) (next hx hm hx (Rst_clo hR) (Rst_s hR))
      · obtain ⟨t, ht, ht2⟩ : ∃ t : Nat, (xs (6 * c) &&& 63).toInt = (t : Int) ∧ t < 35 := ⟨(xs (6 * c) &&& 63).toInt.toNat, by omega, by omega⟩
        have h1 : ¬ (xs (6 * c) &&& 63).toInt < 0 := fun z => ho (.inl z)
        have h2 : ¬ 34 < (xs (6 * c) &&& 63).toInt := fun z => ho (.inr z)
        have hdis : t = 0 ∨ t = 1 ∨ t = 2 ∨ t = 3 ∨ t = 4 ∨ t = 5 ∨ t = 6 ∨ t = 7 ∨ t = 8 ∨ t = 9 ∨ t = 10 ∨ t = 11 ∨ t = 12 ∨ t = 13 ∨ t = 14 ∨ t = 15 ∨ t = 16 ∨ t = 17 ∨ t = 18 ∨ t = 19 ∨ t = 20 ∨ t = 21 ∨ t = 22 ∨ t = 23 ∨ t = 24 ∨ t = 25 ∨ t = 26 ∨ t = 27 ∨ t = 28 ∨ t = 29 ∨ t = 30 ∨ t = 31 ∨ t = 32 ∨ t = 33 ∨ t = 34 := by omega
        rcases hdis with rfl | rfl | rfl | rfl | rfl | rfl | rfl | rfl | rfl | rfl | rfl | rfl | rfl | rfl | rfl | rfl | rfl | rfl | rfl | rfl | rfl | rfl | rfl | rfl | rfl | rfl | rfl | rfl | rfl | rfl | rfl | rfl | rfl | rfl | rfl
        · exact J.tableIn (off := 155) (tgt := 188) dL_law_33 h1 h2 (by rw [ht]; rfl) (by decide) (lc_profile hDl hRm hl hc64 hR hg (by omega) (by omega) next)
        · exact J.tableIn (off := 208) (tgt := 241) dL_law_33 h1 h2 (by rw [ht]; rfl) (by decide) (lc_die hDl hRm hl hc64 hR hg (by omega) (by omega) next)
        · exact J.tableIn (off := 241) (tgt := 274) dL_law_33 h1 h2 (by rw [ht]; rfl) (by decide) (lc_warm hDl hRm hl hc64 hR hg (by omega) (by omega) next)
        · exact J.tableIn (off := 264) (tgt := 297) dL_law_33 h1 h2 (by rw [ht]; rfl) (by decide) (lc_cool hDl hRm hl hc64 hR hg (by omega) (by omega) next)
        · exact J.tableIn (off := 287) (tgt := 320) dL_law_33 h1 h2 (by rw [ht]; rfl) (by decide) (lc_nitride hDl hRm hl hc64 hR hg (by omega) (by omega) next)
        · exact J.tableIn (off := 310) (tgt := 343) dL_law_33 h1 h2 (by rw [ht]; rfl) (by decide) (lc_about hDl hRm hl hc64 hR hg (by omega) (by omega) next)
        · exact J.tableIn (off := 343) (tgt := 376) dL_law_33 h1 h2 (by rw [ht]; rfl) (by decide) (lc_ready hDl hRm hl hc64 hR hg (by omega) (by omega) next)
        · exact J.tableIn (off := 366) (tgt := 399) dL_law_33 h1 h2 (by rw [ht]; rfl) (by decide) (lc_pass hDl hRm hl hc64 hR hg (by omega) (by omega) next)
        · exact J.tableIn (off := 389) (tgt := 422) dL_law_33 h1 h2 (by rw [ht]; rfl) (by decide) (lc_law hDl hRm hl hc64 hR hg (by omega) (by omega) next)
        · exact J.tableIn (off := 422) (tgt := 455) dL_law_33 h1 h2 (by rw [ht]; rfl) (by decide) (lc_press hDl hRm hl hc64 hR hg (by omega) (by omega) next)
        · exact J.tableIn (off := 455) (tgt := 488) dL_law_33 h1 h2 (by rw [ht]; rfl) (by decide) (lc_bar hDl hRm hl hc64 hR hg (by omega) (by omega) next)
        · exact J.tableIn (off := 488) (tgt := 521) dL_law_33 h1 h2 (by rw [ht]; rfl) (by decide) (lc_order hDl hRm hl hc64 hR hg (by omega) (by omega) next)
        · exact J.tableIn (off := 531) (tgt := 564) dL_law_33 h1 h2 (by rw [ht]; rfl) (by decide) (lc_wanted hDl hRm hl hc64 hR hg (by omega) (by omega) next)
        · exact J.tableIn (off := 564) (tgt := 597) dL_law_33 h1 h2 (by rw [ht]; rfl) (by decide) (lc_pattern hDl hRm hl hc64 hR hg (by omega) (by omega) next)
        · exact J.tableIn (off := 607) (tgt := 640) dL_law_33 h1 h2 (by rw [ht]; rfl) (by decide) (lc_account hDl hRm hl hc64 hR hg (by omega) (by omega) next)
        · exact J.tableIn (off := 630) (tgt := 663) dL_law_33 h1 h2 (by rw [ht]; rfl) (by decide) (lc_stock hDl hRm hl hc64 hR hg (by omega) (by omega) next)
        · exact J.tableIn (off := 653) (tgt := 686) dL_law_33 h1 h2 (by rw [ht]; rfl) (by decide) (lc_best hDl hRm hl hc64 hR hg (by omega) (by omega) next)
        · exact J.tableIn (off := 702) (tgt := 735) dL_law_33 h1 h2 (by rw [ht]; rfl) (by decide) (lc_job hDl hRm hl hc64 hR hg (by omega) (by omega) next)
        · exact J.tableIn (off := 745) (tgt := 778) dL_law_33 h1 h2 (by rw [ht]; rfl) (by decide) (lc_change hDl hRm hl hc64 hR hg (by omega) (by omega) next)
        · exact J.tableIn (off := 768) (tgt := 801) dL_law_33 h1 h2 (by rw [ht]; rfl) (by decide) (lc_late hDl hRm hl hc64 hR hg (by omega) (by omega) next)
        · exact J.tableIn (off := 781) (tgt := 814) dL_law_33 h1 h2 (by rw [ht]; rfl) (by decide) (lc_planned hDl hRm hl hc64 hR hg (by omega) (by omega) next)
        · exact J.tableIn (off := 804) (tgt := 837) dL_law_33 h1 h2 (by rw [ht]; rfl) (by decide) (lc_room hDl hRm hl hc64 hR hg (by omega) (by omega) next)
        · exact J.tableIn (off := 827) (tgt := 860) dL_law_33 h1 h2 (by rw [ht]; rfl) (by decide) (lc_age hDl hRm hl hc64 hR hg (by omega) (by omega) next)
        · exact J.tableIn (off := 840) (tgt := 873) dL_law_33 h1 h2 (by rw [ht]; rfl) (by decide) (lc_batches hDl hRm hl hc64 hR hg (by omega) (by omega) next)
        · exact J.tableIn (off := 853) (tgt := 886) dL_law_33 h1 h2 (by rw [ht]; rfl) (by decide) (lc_sample hDl hRm hl hc64 hR hg (by omega) (by omega) next)
        · exact J.tableIn (off := 902) (tgt := 935) dL_law_33 h1 h2 (by rw [ht]; rfl) (by decide) (lc_suspect hDl hRm hl hc64 hR hg (by omega) (by omega) next)
        · exact J.tableIn (off := 925) (tgt := 958) dL_law_33 h1 h2 (by rw [ht]; rfl) (by decide) (lc_held hDl hRm hl hc64 hR hg (by omega) (by omega) next)
        · exact J.tableIn (off := 938) (tgt := 971) dL_law_33 h1 h2 (by rw [ht]; rfl) (by decide) (lc_drift hDl hRm hl hc64 hR hg (by omega) (by omega) next)
        · exact J.tableIn (off := 971) (tgt := 1004) dL_law_33 h1 h2 (by rw [ht]; rfl) (by decide) (lc_sheet hDl hRm hl hc64 hR hg (by omega) (by omega) next)
        · exact J.tableIn (off := 1014) (tgt := 1047) dL_law_33 h1 h2 (by rw [ht]; rfl) (by decide) (lc_lose hDl hRm hl hc64 hR hg (by omega) (by omega) next)
        · exact J.tableIn (off := 1037) (tgt := 1070) dL_law_33 h1 h2 (by rw [ht]; rfl) (by decide) (lc_put hDl hRm hl hc64 hR hg (by omega) (by omega) next)
        · exact J.tableIn (off := 1090) (tgt := 1123) dL_law_33 h1 h2 (by rw [ht]; rfl) (by decide) (lc_get hDl hRm hl hc64 hR hg (by omega) (by omega) next)
        · exact J.tableIn (off := 1133) (tgt := 1166) dL_law_33 h1 h2 (by rw [ht]; rfl) (by decide) (lc_copy hDl hRm hl hc64 hR hg (by omega) (by omega) next)
        · exact J.tableIn (off := 1196) (tgt := 1229) dL_law_33 h1 h2 (by rw [ht]; rfl) (by decide) (lc_count hDl hRm hl hc64 hR hg (by omega) (by omega) next)
        · exact J.tableIn (off := 1219) (tgt := 1252) dL_law_33 h1 h2 (by rw [ht]; rfl) (by decide) (lc_digest hDl hRm hl hc64 hR hg (by omega) (by omega) next)
  intro m
  induction m with
  | zero =>
    intro c hx hm hlt hc hR
    exact key c hx hm hc hR (fun h => absurd h (by omega))
  | succ m ih =>
    intro c hx hm hlt hc hR
    refine key c hx hm hc hR (fun h6 h1 h2 hy hs hR' => ?_)
    refine J.sub hX0 (mg_sub hR' hs (fun _ _ h => h) hsc0) (mg_dom hR') (lv_jok (by rw [hscr hy h2 (Rst_1 hR')]; exact fun q => by cases q) (live26 hR') (live27 hR')) jS.nil ?_
    refine J.iinc (i := 3) (v := Int32.ofNat (6 * (c + 1))) (lv' := [some (.ref sn), some (.ref 26), some (.ref 27), some (.int (Int32.ofNat (6 * (c + 1))))]) dL_law_1266 rfl (by rw [show Int32.ofInt 6 = Int32.ofNat 6 from by decide, on_add (by omega)]; rfl) (by decide) rfl ?_
    refine J.goto (tgt := 18) dL_law_1269 (by decide) ?_
    have := ih (c + 1) hy h2 (by omega) (by omega) hR'
    rw [show 1000 + 100 * c + 100 = 1000 + 100 * (c + 1) by omega, show 20000 + 5000 * c + 5000 = 20000 + 5000 * (c + 1) by omega]
    exact this
