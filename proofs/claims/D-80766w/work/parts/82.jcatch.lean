/-! exceptions in J -/
set_option maxRecDepth 100000
def jAt0 (a : Cond) : Bool := (lw_tbl.contains a && (goodWord a || jnk a)) || a == .isRef (.static Bundle.tN "UNASSIGNED_STACK" Bundle.steD) || a == .isRef (.static Bundle.tN "SUPPRESSED_SENTINEL" Bundle.listD) || a == .laysStatic Bundle.tN "UNASSIGNED_STACK" Bundle.steD || a == .laysStatic Bundle.tN "SUPPRESSED_SENTINEL" Bundle.listD
theorem atoms_idx : (Bundle.messageArmAtoms Bundle.idxN Bundle.idxUp).all jAt0 = true := by decide +kernel
theorem atoms_neg : (Bundle.messageArmAtoms "java/lang/NegativeArraySizeException" ["java/lang/RuntimeException", "java/lang/Exception"]).all jAt0 = true := by decide +kernel
theorem atoms_cce : (Bundle.messageArmAtoms "java/lang/ClassCastException" ["java/lang/RuntimeException", "java/lang/Exception"]).all jAt0 = true := by decide +kernel
theorem atoms_npe : (Bundle.npeArmAtoms 8).all jAt0 = true := by decide +kernel
theorem jnk_use {D : va_G} {s : State} {args : Array Value} (hG : jG D s) {w : Cond} (hw : w ∈ lw_tbl) (hk : jnk w = true) : w.before args s = true := by
  have h0 := hG.2.1 w hw hk
  cases w with
  | fieldLinkNest a i b n d q => exact va_Nw.use rfl h0
  | methodLinkNest a i x q => exact va_Nw.use rfl h0
  | castable a b => exact va_Nw.use rfl h0
  | declares x => exact va_Nw.use rfl h0
  | arrayOver t =>
    cases t with
    | object C => exact va_AO.use (show va_AO C s from h0)
    | _ => exact Bool.noConfusion (show false = true from hk)
  | _ => exact Bool.noConfusion (show false = true from hk)
theorem jAtoms {D : va_G} {s : State} {args : Array Value} {ad0 : Nat → Nat} {hp0 : jH} (hts : ∀ w ∈ lw_all, w.before args s = true) (hG : jG D s) (hZ : jZ ad0 hp0 s) {L : List Cond} (hL : L.all jAt0 = true) : ∀ a ∈ L, a.before args s = true := by
  intro a ha
  have h := List.all_eq_true.mp hL a ha
  unfold jAt0 at h
  simp only [Bool.or_eq_true, Bool.and_eq_true, beq_iff_eq, List.contains_iff_mem] at h
  rcases h with (((⟨h1, h2⟩ | h) | h) | h) | h
  · rcases h2 with h2 | h2
    · exact hts a (lw_g h1 h2)
    · exact jnk_use hG h1 h2
  · rw [h]; exact hZ.2.2.1.isRef
  · rw [h]; exact hZ.2.2.2.isRef
  · rw [h]; exact hZ.2.2.1.lays
  · rw [h]; exact hZ.2.2.2.lays
/-- the launch makes no stack traces -/
def jNT (l : Launch) : Prop := ∀ e : Env, l.admits e → e.platform.stackTraces = false
/-- the table of handlers -/
def jTab (X : jX) (hh : List (Nat × Nat × Nat × Nat)) : Prop := match X with
  | (_, l, _, _, _, _, _, _, _, c, _, _, _, _) => jNT l ∧ c.exceptionTable.toList.map (fun x => (x.startPc, x.endPc, x.handlerPc, x.catchType)) = hh
