/-! the component's references are live -/
set_option maxRecDepth 100000
section LV
variable {c c' np nd nb na ns nj : Nat} {no dp bd jp : Nat → Nat} {ld : Option Nat} {rw : Nat → Option Nat} {rk : Nat → Nat × Nat} {T T' A A' : Nat → Nat → Int32} {F F' GF : Nat → Int32} {L : Nat → Int64} {GA : Nat → Nat → Int32}
theorem rX_live (hR : Rel c np nd nb ns nj no dp bd jp ld rw rk T A F L) (n k m : Nat) (hn : (kX np nd nb no rk n).1 ≠ 0) (h : rX np nd nb no dp bd ld rw n k = some m) : kok (kX np nd nb no rk m).1 := by
  obtain ⟨hP, hD, hB, hA, hL, hT, hK, hJ, hO, hS⟩ := id hR
  obtain ⟨p8, pF, pT, pp⟩ := id hP
  obtain ⟨d12, dF, dT, dt, dd⟩ := id hD
  obtain ⟨b2, bF, bT, bt, bb⟩ := id hB
  have hrow : ∀ s r, s < 4 → rw s = some r → kok (kX np nd nb no rk r).1 := by
    intro s r hs hr
    rcases hS.1 s hs with ⟨e1, e2⟩ | ⟨r', f, z, e1, e2, e3, e4, e5, e6, e7, e8⟩
    · rw [e1] at hr; cases hr
    · cases e1.symm.trans hr
      rw [kX_row e2 e3, e7]
      have : f = 0 ∨ f = 1 ∨ f = 2 := by omega
      rcases this with rfl | rfl | rfl <;> (first | exact Or.inl ⟨Nat.le_of_ble_eq_true rfl, Nat.le_of_ble_eq_true rfl⟩ | exact Or.inr ⟨Nat.le_of_ble_eq_true rfl, Nat.le_of_ble_eq_true rfl⟩)
  unfold rX at h
  by_cases c1 : n < 64
  · rw [if_pos c1] at h
    unfold rfix at h
    split at h
    · unfold r8 at h
      split at h <;> first | (cases h; (first | exact Or.inl ⟨Nat.le_of_ble_eq_true rfl, Nat.le_of_ble_eq_true rfl⟩ | exact Or.inr ⟨Nat.le_of_ble_eq_true rfl, Nat.le_of_ble_eq_true rfl⟩); done) | skip
      · rcases hT with ⟨t1, _⟩ | ⟨d, hd, t1, _⟩
        · rw [t1] at h; cases h
        · rw [t1] at h; cases h
          rw [kX_die hd d12]
          first | exact Or.inl ⟨Nat.le_of_ble_eq_true rfl, Nat.le_of_ble_eq_true rfl⟩ | exact Or.inr ⟨Nat.le_of_ble_eq_true rfl, Nat.le_of_ble_eq_true rfl⟩
      · cases h
    · split at h
      · rename_i hk
        cases h
        rw [kX_prof hk p8]
        first | exact Or.inl ⟨Nat.le_of_ble_eq_true rfl, Nat.le_of_ble_eq_true rfl⟩ | exact Or.inr ⟨Nat.le_of_ble_eq_true rfl, Nat.le_of_ble_eq_true rfl⟩
      · cases h
    · split at h
      · rename_i hk
        cases h
        rw [kX_die hk d12]
        first | exact Or.inl ⟨Nat.le_of_ble_eq_true rfl, Nat.le_of_ble_eq_true rfl⟩ | exact Or.inr ⟨Nat.le_of_ble_eq_true rfl, Nat.le_of_ble_eq_true rfl⟩
      · cases h
    · split at h
      · cases h; first | exact Or.inl ⟨Nat.le_of_ble_eq_true rfl, Nat.le_of_ble_eq_true rfl⟩ | exact Or.inr ⟨Nat.le_of_ble_eq_true rfl, Nat.le_of_ble_eq_true rfl⟩
      · cases h
    · split at h
      · cases h; first | exact Or.inl ⟨Nat.le_of_ble_eq_true rfl, Nat.le_of_ble_eq_true rfl⟩ | exact Or.inr ⟨Nat.le_of_ble_eq_true rfl, Nat.le_of_ble_eq_true rfl⟩
      · cases h
    · split at h
      · cases h; first | exact Or.inl ⟨Nat.le_of_ble_eq_true rfl, Nat.le_of_ble_eq_true rfl⟩ | exact Or.inr ⟨Nat.le_of_ble_eq_true rfl, Nat.le_of_ble_eq_true rfl⟩
      · cases h
    · split at h
      · rename_i hk
        cases h
        rw [kX_bar hk]
        first | exact Or.inl ⟨Nat.le_of_ble_eq_true rfl, Nat.le_of_ble_eq_true rfl⟩ | exact Or.inr ⟨Nat.le_of_ble_eq_true rfl, Nat.le_of_ble_eq_true rfl⟩
      · cases h
    · split at h
      · rename_i hk
        cases h
        rw [kX_job hk]
        first | exact Or.inl ⟨Nat.le_of_ble_eq_true rfl, Nat.le_of_ble_eq_true rfl⟩ | exact Or.inr ⟨Nat.le_of_ble_eq_true rfl, Nat.le_of_ble_eq_true rfl⟩
      · cases h
    · split at h
      · rename_i hk
        cases h
        rw [kX_sheet hk]
        first | exact Or.inl ⟨Nat.le_of_ble_eq_true rfl, Nat.le_of_ble_eq_true rfl⟩ | exact Or.inr ⟨Nat.le_of_ble_eq_true rfl, Nat.le_of_ble_eq_true rfl⟩
      · cases h
    · split at h
      · exact hrow 0 m (by decide) h
      · cases h
    · split at h
      · exact hrow 1 m (by decide) h
      · cases h
    · split at h
      · exact hrow 2 m (by decide) h
      · cases h
    · split at h
      · exact hrow 3 m (by decide) h
      · cases h
    · cases h
  · rw [if_neg c1] at h
    by_cases c2 : n < 192
    · rw [if_pos c2] at h
      unfold rpro at h
      split at h
      · rename_i hp
        have h3 := (pp _ hp).2.2.1.1
        split at h
        · split at h
          · cases h
            rw [kX_list hp p8]
            first | exact Or.inl ⟨Nat.le_of_ble_eq_true rfl, Nat.le_of_ble_eq_true rfl⟩ | exact Or.inr ⟨Nat.le_of_ble_eq_true rfl, Nat.le_of_ble_eq_true rfl⟩
          · cases h
        · split at h
          · split at h
            · split at h
              · cases h; first | exact Or.inl ⟨Nat.le_of_ble_eq_true rfl, Nat.le_of_ble_eq_true rfl⟩ | exact Or.inr ⟨Nat.le_of_ble_eq_true rfl, Nat.le_of_ble_eq_true rfl⟩
              · rename_i hne
                cases h
                rw [kX_elem hp p8 hne]
                first | exact Or.inl ⟨Nat.le_of_ble_eq_true rfl, Nat.le_of_ble_eq_true rfl⟩ | exact Or.inr ⟨Nat.le_of_ble_eq_true rfl, Nat.le_of_ble_eq_true rfl⟩
            · cases h
          · split at h
            · split at h
              · rename_i hk
                cases h
                rw [kX_ord hp p8 hk h3]
                first | exact Or.inl ⟨Nat.le_of_ble_eq_true rfl, Nat.le_of_ble_eq_true rfl⟩ | exact Or.inr ⟨Nat.le_of_ble_eq_true rfl, Nat.le_of_ble_eq_true rfl⟩
              · cases h
            · cases h
      · cases h
    · rw [if_neg c2] at h
      by_cases c3 : n < 200
      · rw [if_pos c3] at h; cases h
      · rw [if_neg c3] at h
        by_cases c4 : n < 1000
        · rw [if_pos c4] at h
          split at h
          · rename_i hk
            cases h
            rw [kX_prof (dd _ (by omega)).1 p8]
            first | exact Or.inl ⟨Nat.le_of_ble_eq_true rfl, Nat.le_of_ble_eq_true rfl⟩ | exact Or.inr ⟨Nat.le_of_ble_eq_true rfl, Nat.le_of_ble_eq_true rfl⟩
          · cases h
        · rw [if_neg c4] at h
          split at h
          · cases h
            have hnb : n < 1000 + nb := by
              unfold kX at hn
              rw [if_neg c1, if_neg c2, if_neg c3, if_neg c4] at hn
              by_cases g : n < 1000 + nb
              · exact g
              · rw [if_neg g] at hn
                exact absurd rfl hn
            rw [kX_die (bb _ (by omega)).1.1 d12]
            first | exact Or.inl ⟨Nat.le_of_ble_eq_true rfl, Nat.le_of_ble_eq_true rfl⟩ | exact Or.inr ⟨Nat.le_of_ble_eq_true rfl, Nat.le_of_ble_eq_true rfl⟩
          · cases h
theorem lay_clo (hR : Rel c np nd nb ns nj no dp bd jp ld rw rk T A F L) (n : Nat) (o : jO) (h : (lay (kX np nd nb no rk) T (rX np nd nb no dp bd ld rw)) n = some o) : jclo (lay (kX np nd nb no rk) T (rX np nd nb no dp bd ld rw)) o := by
  refine clo_lay h (fun k m hm => cel_some (rX_live hR n k m ?_ hm))
  intro e
  have : (lay (kX np nd nb no rk) T (rX np nd nb no dp bd ld rw)) n = none := by
    unfold lay cel
    rw [e]
    rfl
  rw [this] at h
  cases h
end LV
