/-! THE J LAYER, 1: names for addresses, the abstract heap, what the machine's heap has to do with it -/
set_option maxRecDepth 100000
/-- the classes of which objects are told, by number -/
def jcl : List vw_C := [(RX0, TX0, 28), (RX2, TX2, 4), (RX3, TX3, 4), (RX4, TX4, 2), (RX6, TX6, 5), (RJ2, TJ2, 3), (RX7, TX7, 7), (RX8, TX8, 8), (RX9, TX9, 2), (RX5, TX5, 52)]
/-- a value whose references are names, with the names' addresses -/
def jv (ad : Nat → Nat) (v : Value) : Value := match v with
  | .ref n => .ref (ad n)
  | .int x => .int x
  | .long x => .long x
  | .float x => .float x
  | .double x => .double x
  | .null => .null
  | .retAddr x => .retAddr x
/-- an abstract cell: an array (what its places are of, length and contents), or an object (its class by number, its fields); references are names -/
abbrev jO : Type := (FieldType × vp_A) ⊕ (Nat × List Value)
abbrev jH : Type := Nat → Option jO
def jA (ad : Nat → Nat) (x : vp_A) : vp_A := match x with
  | (n, .inl f) => (n, .inl f)
  | (n, .inr (.inl f)) => (n, .inr (.inl f))
  | (n, .inr (.inr (.inl f))) => (n, .inr (.inr (.inl f)))
  | (n, .inr (.inr (.inr (.inl f)))) => (n, .inr (.inr (.inr (.inl f))))
  | (n, .inr (.inr (.inr (.inr f)))) => (n, .inr (.inr (.inr (.inr (fun j => (f j).map ad)))))
/-- a cell for an array: of those below 8 (that were there before) its class, its places and that it's a plain cell are told; of others all of it -/
def jCe (n : Nat) (cA : ClassId) (x : vp_A) (cell : Cell) : Prop := cell.cls = cA ∧ cell.slots = (vp_cell cA x).slots ∧ cell.vm ≠ .unknown ∧ (∀ k, cell.vm ≠ .statics k) ∧ (8 ≤ n → cell = vp_cell cA x)
def jAt (D : va_G) (s : State) (ad : Nat → Nat) (n : Nat) (o : jO) (H : Heap) : Prop := match o with
  | .inl q => ∃ (cA : ClassId) (cell : Cell), H[ad n]? = some cell ∧ jCe n cA (jA ad q.2) cell ∧ ArrOfT s cA q.1 ∧ (8 ≤ n → va_RA s cA q.1)
  | .inr q => ∃ r : vw_C, jcl[q.1]? = some r ∧ t_OB (ad n) (D.1 q.1) r.2.2 (D.2 q.1) H (vp_V (q.2.map (jv ad)))
/-- a value's name is live -/
def jok (hp : jH) (v : Value) : Prop := ∀ n : Nat, v = .ref n → hp n ≠ none
def jclo (hp : jH) (o : jO) : Prop := match o with
  | .inl (_, _, .inr (.inr (.inr (.inr f)))) => ∀ (j n : Nat), f j = some n → hp n ≠ none
  | .inl _ => True
  | .inr q => ∀ v ∈ q.2, jok hp v
/-- the cells hold, and tell of live names alone -/
def jCells (D : va_G) (s : State) (ad : Nat → Nat) (hp : jH) (H : Heap) : Prop := ∀ (n : Nat) (o : jO), hp n = some o → jAt D s ad n o H ∧ jclo hp o
def jInj (ad : Nat → Nat) (hp : jH) : Prop := ∀ i j : Nat, hp i ≠ none → hp j ≠ none → ad i = ad j → i = j
/-- which cells may be written: those of the names from 8 on at the start, and new ones -/
def jF (ad0 : Nat → Nat) (hp0 : jH) (sz : Nat) : Nat → Prop := fun q => (∃ n : Nat, hp0 n ≠ none ∧ 8 ≤ n ∧ ad0 n = q) ∨ sz ≤ q
/-- words of the tables that don't ride in lw_all, but hold all through a run -/
def jnk (w : Cond) : Bool := match w with
  | .fieldLinkNest _ _ _ _ _ _ => true
  | .methodLinkNest _ _ _ _ => true
  | .castable _ _ => true
  | .arrayOver (.object _) => true
  | .declares _ => true
  | _ => false
/-- int[] and int[][] are known classes -/
def jAA (s : State) : Prop := ∃ (comp cA cc : ClassId) (kC kA : Class), s.vm.findClass "[I" = some comp ∧ s.vm.classes[comp]? = some kC ∧ kC.kind = .array cc .int ∧ s.vm.findClass "[[I" = some cA ∧ s.vm.classes[cA]? = some kA ∧ kA.kind = .array comp (.array .int)
theorem jAA.moved {s U : State} (hvm : s.vm.Alike U.vm) (h : jAA s) : jAA U := by
  obtain ⟨comp, cA, cc, kC, kA, h1, h2, h3, h4, h5, h6⟩ := h
  obtain ⟨k1, g1, e1⟩ := hvm.2.2 _ _ h2
  obtain ⟨k2, g2, e2⟩ := hvm.2.2 _ _ h5
  exact ⟨comp, cA, cc, k1, k2, by rw [hvm.findClass]; exact h1, g1, by rw [e1]; exact h3, by rw [hvm.findClass]; exact h4, g2, by rw [e2]; exact h6⟩
/-- classes that are told apart -/
def jncL : List (String × String) := [("[B", "[S"), ("[B", "[I"), ("[S", "[B"), ("[S", "[I"), ("[I", "[B"), ("[I", "[S"), ("java/lang/ArrayIndexOutOfBoundsException", "java/lang/NullPointerException"), ("java/lang/ArrayIndexOutOfBoundsException", "java/lang/ClassCastException"), ("java/lang/ClassCastException", "java/lang/NullPointerException")]
def jNC (s : State) : Prop := ∀ q ∈ jncL, va_Nc q.1 q.2 s
theorem jNC.moved {s U : State} (hvm : s.vm.Alike U.vm) (h : jNC s) : jNC U := fun q hq => (h q hq).moved hvm
def jG (D : va_G) (s : State) : Prop := va_K D jcl [] s ∧ (∀ w ∈ lw_tbl, jnk w = true → va_Nw w s) ∧ jAA s ∧ jNC s
/-- the two statics that a new Throwable is made with -/
def jLS (n d : String) (A : Nat → Prop) (U : State) (H : Heap) : Prop := ∃ (c : ClassId) (k : Class) (i : Nat) (f : Field) (a : Nat) (cell : Cell) (v : Value), U.vm.findClass Bundle.tN = some c ∧ U.fieldFound? Bundle.tN n d = some (c, k, i, f) ∧ f.isStatic = true ∧ k.statics = some a ∧ H[a]? = some cell ∧ cell.vm.isStatics = true ∧ cell.cls = c ∧ f.slot < cell.slots.size ∧ k.staticTypes[f.slot]? = some f.type ∧ cell.slots[f.slot]? = some v ∧ v.isRef = true ∧ ¬ A a
theorem jLS.moved {n d : String} {A : Nat → Prop} {u U : State} {H : Heap} (hvm : u.vm.Alike U.vm) (h : jLS n d A u H) : jLS n d A U H := by
  obtain ⟨c, k, i, f, a, cell, v, h1, h2, h3, h4, h5, h6, h7, h8, h9, h10⟩ := h
  obtain ⟨k', hi', he⟩ := State.fieldFound?_setVm hvm h2
  exact ⟨c, k', i, f, a, cell, v, by rw [hvm.findClass]; exact h1, hi', h3, by rw [he]; exact h4, h5, h6, h7, h8, by rw [he]; exact h9, h10⟩
theorem jLS.kept {n d : String} {A : Nat → Prop} {U : State} {H H1 : Heap} (h : jLS n d A U H) (hq : ∀ a : Nat, a < H.size → ¬ A a → H1[a]? = H[a]?) : jLS n d A U H1 := by
  obtain ⟨c, k, i, f, a, cell, v, h1, h2, h3, h4, h5, h6, h7, h8, h9, h10, h11, h12⟩ := h
  exact ⟨c, k, i, f, a, cell, v, h1, h2, h3, h4, by rw [hq a (Array.getElem?_eq_some_iff.mp h5).1 h12]; exact h5, h6, h7, h8, h9, h10, h11, h12⟩
theorem jLS.narrow {n d : String} {A B : Nat → Prop} {U : State} {H : Heap} (h : jLS n d A U H) (hAB : ∀ q, B q → A q) : jLS n d B U H := by
  obtain ⟨c, k, i, f, a, cell, v, h1, h2, h3, h4, h5, h6, h7, h8, h9, h10, h11, h12⟩ := h
  exact ⟨c, k, i, f, a, cell, v, h1, h2, h3, h4, h5, h6, h7, h8, h9, h10, h11, fun hb => h12 (hAB _ hb)⟩
theorem jLS.lays {n d : String} {A : Nat → Prop} {U : State} {args : Array Value} (h : jLS n d A U U.heap) : (Cond.laysStatic Bundle.tN n d).before args U = true := by
  obtain ⟨c, k, i, f, a, cell, v, h1, h2, h3, h4, h5, h6, h7, h8, h9, h10, h11, h12⟩ := h
  simp [Cond.before, Cond.holds, Cond.value, h1, h2, h3, h4, h5, h6, h7, h8, h9]
theorem jLS.isRef {n d : String} {A : Nat → Prop} {U : State} {args : Array Value} (h : jLS n d A U U.heap) : (Cond.isRef (.static Bundle.tN n d)).before args U = true := by
  obtain ⟨c, k, i, f, a, cell, v, h1, h2, h3, h4, h5, h6, h7, h8, h9, h10, h11, h12⟩ := h
  have he : (Term.static Bundle.tN n d).eval args U none [] U = some v := by
    simp [Term.eval, State.fieldNamed?, h2, h3, h4, h5, h6, h10]
  simp only [Cond.before, Cond.holds, Cond.value, he]
  cases v <;> simp [Value.isRef] at h11 ⊢
def jZs (A : Nat → Prop) (s : State) : Prop := jLS "UNASSIGNED_STACK" Bundle.steD A s s.heap ∧ jLS "SUPPRESSED_SENTINEL" Bundle.listD A s s.heap
/-- the statics that are read: names 1 and 2 -/
def jZ (ad0 : Nat → Nat) (hp0 : jH) (s : State) : Prop :=
  (hp0 1 ≠ none → va_Z "BilletBars" "MOST" "[I" (.ref (ad0 1)) (jF ad0 hp0 s.heap.size) s s.heap) ∧
  (hp0 2 ≠ none → va_Z "java/util/ArrayList" "DEFAULTCAPACITY_EMPTY_ELEMENTDATA" "[Ljava/lang/Object;" (.ref (ad0 2)) (jF ad0 hp0 s.heap.size) s s.heap) ∧ jZs (jF ad0 hp0 s.heap.size) s
def jR (D : va_G) (s : State) (ad0 : Nat → Nat) (hp0 : jH) (ad : Nat → Nat) (hp : jH) (H : Heap) (locs : List Loc) : Prop :=
  jCells D s ad hp H ∧ jInj ad hp ∧ va_S (jF ad0 hp0 s.heap.size) s.heap H locs ∧ (∀ n : Nat, hp n ≠ none → 8 ≤ n → jF ad0 hp0 s.heap.size (ad n)) ∧ (∀ n : Nat, hp0 n ≠ none → ad n = ad0 n ∧ hp n ≠ none) ∧ (∀ n : Nat, n < 8 → hp n ≠ none → hp0 n ≠ none)
/-- the locals by place -/
def jL (hp : jH) (ad : Nat → Nat) (ls : Array Slot) (nL : Nat) (lv : List (Option Value)) : Prop := ls.size = nL ∧ lv_wf ls ∧ ∀ (i : Nat) (v : Value), lv[i]? = some (some v) → ls[i]? = some (.val (jv ad v)) ∧ jok hp v
def jS (hp : jH) (st : List Value) : Prop := ∀ v ∈ st, jok hp v
/-- what a run of a method is about -/
abbrev jX : Type := Program × Launch × Env × Room × State × MethodId × Array Value × List Frame × Method × Code × (State → Prop) × va_G × (Nat → Nat) × jH
/-- the machine at pc with locals lv, stack st, heap hp, k cells and n slots made so far, comes to the end that X says -/
def J (X : jX) (cc : ByteArray) (nL : Nat) (y : MethodName) (k n pc : Nat) (lv : List (Option Value)) (st : List Value) (hp : jH) : Prop :=
  match X with
  | (p, l, e, R, s, m, args, below, meth, c, Q, D, ad0, hp0) =>
    p.tables.exec = Jvm.exec → c.code = cc → c.maxLocals = nL → s.vm.findClass y.cls = some m.cls → meth.name = y.name → (∀ w ∈ lw_all, w.before args s = true) → jG D s → jZ ad0 hp0 s →
    ∀ (ad : Nat → Nat) (H : Heap) (locs : List Loc) (ls : Array Slot), jR D s ad0 hp0 ad hp H locs → jL hp ad ls nL lv → jS hp st → W p l e R s m args below meth c H locs k n Q (F0 m pc ls (st.map (jv ad)))
/-- the room that X has -/
def jRoom (X : jX) (fr lo mc ms : Nat) : Prop := match X with
  | (_, _, _, R, _) => fr ≤ R.frames ∧ lo ≤ R.locals ∧ mc ≤ R.cells ∧ ms ≤ R.slots
/-- how a method ends -/
def jQ (D : va_G) (ad0 : Nat → Nat) (hp0 : jH) (sz : Nat) (r : Option Value) (hpE : jH) : Array Value → State → Outcome → State → Prop := fun _ st o t =>
  ∃ ad : Nat → Nat, o = .returned (r.map (jv ad)) ∧ jCells D t ad hpE t.heap ∧ jInj ad hpE ∧ va_F (jF ad0 hp0 sz) st t ∧ (∀ n : Nat, hpE n ≠ none → 8 ≤ n → jF ad0 hp0 sz (ad n)) ∧ (∀ n : Nat, hp0 n ≠ none → ad n = ad0 n ∧ hpE n ≠ none) ∧ (∀ n : Nat, n < 8 → hpE n ≠ none → hp0 n ≠ none) ∧ (∀ v, r = some v → jok hpE v)
/-- how a method begins -/
def jPc (D : va_G) (ad : Nat → Nat) (sz : Nat) (hp : jH) (av : List Value) : Array Value → State → Prop := fun v U =>
  v = (av.map (jv ad)).toArray ∧ U.heap.size = sz ∧ jG D U ∧ jZ ad hp U ∧ jCells D U ad hp U.heap ∧ jInj ad hp ∧ jS hp av
/-- A CONTRACT: from the heap hp, called with av, the method returns r and leaves the heap hp' -/
def jM (D : va_G) (l : Launch) (y : MethodName) (ws : List Cond) (rm : Room) (hp : jH) (av : List Value) (r : Option Value) (hp' : jH) : Prop :=
  ∀ (ad : Nat → Nat) (sz : Nat), Met l y ws rm (jPc D ad sz hp av) (jQ D ad hp sz r hp') rm.cells rm.slots (jF ad hp sz)
def jEnds (X : jX) (ret : Option FieldType) (r : Option Value) (hpE : jH) (mc ms : Nat) : Prop := match X with
  | (_, _, _, _, s, _, args, below, meth, _, Q, D, ad0, hp0) => meth.sig.returnType = ret ∧ meth.locks = false ∧ Q = MQ below (jQ D ad0 hp0 s.heap.size r hpE) args s mc ms (jF ad0 hp0 s.heap.size)
def jDl (X : jX) (D : va_G) (l : Launch) : Prop := match X with
  | (_, l', _, _, _, _, _, _, _, _, _, D', _, _) => l' = l ∧ D' = D
