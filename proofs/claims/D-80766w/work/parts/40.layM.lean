/-! the model's heap out of a mathematical state (printed by gen/layM.py): F the int fields, A the int arrays, L the accounts; GF, GA the fields and arrays that mean nothing between calls -/
set_option maxRecDepth 100000
def fsM (F GF : Nat → Int32) : List Value := [.ref 9, .int (F 1), .ref 10, .ref 11, .ref 12, .ref 13, .int (F 6), .ref 14, .ref 15, .ref 16, .ref 17, .ref 18, .int (F 12), .int (F 13), .ref 19, .ref 20, .ref 21, .ref 22, .ref 23, .ref 24, .ref 25, .ref 26, .int (F 22), .int (F 23), .ref 27, .ref 28, .ref 29, .ref 30, .ref 31, .int (GF 29), .int (GF 30), .int (GF 31), .int (GF 32), .int (GF 33), .int (GF 34), .int (F 35), .ref 32, .int (F 37), .ref 33, .ref 34, .ref 35, .int (F 41), .ref 36, .ref 37, .int (F 44), .int (F 45), .ref 38, .ref 39, .ref 40, .ref 41, .ref 42, .int (F 51)]
def tyM (n : Nat) : FieldType := if n = 30 then .boolean else .int
def lnM (n : Nat) : Nat := match n with
  | 1 => 6
  | 2 => 8
  | 3 => 8
  | 4 => 8
  | 5 => 8
  | 6 => 12
  | 7 => 12
  | 8 => 12
  | 9 => 12
  | 10 => 12
  | 11 => 200
  | 12 => 200
  | 13 => 200
  | 14 => 200
  | 15 => 200
  | 16 => 200
  | 17 => 200
  | 18 => 200
  | 19 => 7
  | 20 => 8
  | 21 => 24
  | 22 => 24
  | 23 => 3
  | 24 => 6
  | 25 => 7
  | 26 => 7
  | 27 => 7
  | 28 => 7
  | 29 => 7
  | 30 => 200
  | 31 => 4
  | 32 => 4
  | 33 => 800
  | 34 => 200
  | _ => 0
def layM (F : Nat → Int32) (A : Nat → Nat → Int32) (L : Nat → Int64) (GF : Nat → Int32) (GA : Nat → Nat → Int32) : jH := fun n =>
  if n = 8 then some (.inr (9, fsM F GF)) else if n = 27 then some (.inl (.long, 7, .inr (.inl L))) else if 9 ≤ n ∧ n ≤ 42 then some (.inl (tyM (n - 8), lnM (n - 8), .inl (if n = 31 ∨ n = 36 ∨ n = 37 ∨ n = 38 ∨ n = 42 then GA (n - 8) else A (n - 8)))) else none
theorem jaI_of {hp : jH} {a len : Nat} {ty : FieldType} {f : Nat → Int32} {i : Int32} (h : hp a = some (.inl (ty, len, .inl f))) : jaI hp a ty i = if 0 ≤ i.toInt ∧ i.toInt < (len : Int) then some (f i.toNatClampNeg) else none := by
  unfold jaI
  rw [h]
  simp
theorem jaL_of {hp : jH} {a len : Nat} {f : Nat → Int64} {i : Int32} (h : hp a = some (.inl (.long, len, .inr (.inl f)))) : jaL hp a i = if 0 ≤ i.toInt ∧ i.toInt < (len : Int) then some (f i.toNatClampNeg) else none := by
  unfold jaL
  rw [h]
  simp
theorem jaSI_of {hp : jH} {a len : Nat} {f : Nat → Int32} {i x : Int32} (h : hp a = some (.inl (.int, len, .inl f))) (h8 : 8 ≤ a) : jaSI hp a i x = if 0 ≤ i.toInt ∧ i.toInt < (len : Int) then some (jset hp a (.inl (.int, len, .inl (upd f i.toNatClampNeg x)))) else none := by
  unfold jaSI
  rw [h]
  simp [h8]
theorem jaSB_of {hp : jH} {a len : Nat} {ty : FieldType} {f : Nat → Int32} {i x : Int32} (h : hp a = some (.inl (ty, len, .inl f))) (h8 : 8 ≤ a) : jaSB hp a ty i x = if 0 ≤ i.toInt ∧ i.toInt < (len : Int) then some (jset hp a (.inl (ty, len, .inl (upd f i.toNatClampNeg (vp_nar ty x))))) else none := by
  unfold jaSB
  rw [h]
  simp [h8]
theorem jaSL_of {hp : jH} {a len : Nat} {f : Nat → Int64} {i : Int32} {x : Int64} (h : hp a = some (.inl (.long, len, .inr (.inl f)))) (h8 : 8 ≤ a) : jaSL hp a i x = if 0 ≤ i.toInt ∧ i.toInt < (len : Int) then some (jset hp a (.inl (.long, len, .inr (.inl (vp_updL f i.toNatClampNeg x))))) else none := by
  unfold jaSL
  rw [h]
  simp [h8]
section LM
variable (F GF : Nat → Int32) (A GA : Nat → Nat → Int32) (L : Nat → Int64)
theorem lm_is : jis (layM F A L GF GA) 8 9 = some () := rfl
theorem lm_g0 : jgA (layM F A L GF GA) 8 9 0 = some 9 := rfl
theorem lm_g1 : jgI (layM F A L GF GA) 8 9 1 = some (F 1) := rfl
theorem lm_g2 : jgA (layM F A L GF GA) 8 9 2 = some 10 := rfl
theorem lm_g3 : jgA (layM F A L GF GA) 8 9 3 = some 11 := rfl
theorem lm_g4 : jgA (layM F A L GF GA) 8 9 4 = some 12 := rfl
theorem lm_g5 : jgA (layM F A L GF GA) 8 9 5 = some 13 := rfl
theorem lm_g6 : jgI (layM F A L GF GA) 8 9 6 = some (F 6) := rfl
theorem lm_g7 : jgA (layM F A L GF GA) 8 9 7 = some 14 := rfl
theorem lm_g8 : jgA (layM F A L GF GA) 8 9 8 = some 15 := rfl
theorem lm_g9 : jgA (layM F A L GF GA) 8 9 9 = some 16 := rfl
theorem lm_g10 : jgA (layM F A L GF GA) 8 9 10 = some 17 := rfl
theorem lm_g11 : jgA (layM F A L GF GA) 8 9 11 = some 18 := rfl
theorem lm_g12 : jgI (layM F A L GF GA) 8 9 12 = some (F 12) := rfl
theorem lm_g13 : jgI (layM F A L GF GA) 8 9 13 = some (F 13) := rfl
theorem lm_g14 : jgA (layM F A L GF GA) 8 9 14 = some 19 := rfl
theorem lm_g15 : jgA (layM F A L GF GA) 8 9 15 = some 20 := rfl
theorem lm_g16 : jgA (layM F A L GF GA) 8 9 16 = some 21 := rfl
theorem lm_g17 : jgA (layM F A L GF GA) 8 9 17 = some 22 := rfl
theorem lm_g18 : jgA (layM F A L GF GA) 8 9 18 = some 23 := rfl
theorem lm_g19 : jgA (layM F A L GF GA) 8 9 19 = some 24 := rfl
theorem lm_g20 : jgA (layM F A L GF GA) 8 9 20 = some 25 := rfl
theorem lm_g21 : jgA (layM F A L GF GA) 8 9 21 = some 26 := rfl
theorem lm_g22 : jgI (layM F A L GF GA) 8 9 22 = some (F 22) := rfl
theorem lm_g23 : jgI (layM F A L GF GA) 8 9 23 = some (F 23) := rfl
theorem lm_g24 : jgA (layM F A L GF GA) 8 9 24 = some 27 := rfl
theorem lm_g25 : jgA (layM F A L GF GA) 8 9 25 = some 28 := rfl
theorem lm_g26 : jgA (layM F A L GF GA) 8 9 26 = some 29 := rfl
theorem lm_g27 : jgA (layM F A L GF GA) 8 9 27 = some 30 := rfl
theorem lm_g28 : jgA (layM F A L GF GA) 8 9 28 = some 31 := rfl
theorem lm_g29 : jgI (layM F A L GF GA) 8 9 29 = some (GF 29) := rfl
theorem lm_g30 : jgI (layM F A L GF GA) 8 9 30 = some (GF 30) := rfl
theorem lm_g31 : jgI (layM F A L GF GA) 8 9 31 = some (GF 31) := rfl
theorem lm_g32 : jgI (layM F A L GF GA) 8 9 32 = some (GF 32) := rfl
theorem lm_g33 : jgI (layM F A L GF GA) 8 9 33 = some (GF 33) := rfl
theorem lm_g34 : jgI (layM F A L GF GA) 8 9 34 = some (GF 34) := rfl
theorem lm_g35 : jgI (layM F A L GF GA) 8 9 35 = some (F 35) := rfl
theorem lm_g36 : jgA (layM F A L GF GA) 8 9 36 = some 32 := rfl
theorem lm_g37 : jgI (layM F A L GF GA) 8 9 37 = some (F 37) := rfl
theorem lm_g38 : jgA (layM F A L GF GA) 8 9 38 = some 33 := rfl
theorem lm_g39 : jgA (layM F A L GF GA) 8 9 39 = some 34 := rfl
theorem lm_g40 : jgA (layM F A L GF GA) 8 9 40 = some 35 := rfl
theorem lm_g41 : jgI (layM F A L GF GA) 8 9 41 = some (F 41) := rfl
theorem lm_g42 : jgA (layM F A L GF GA) 8 9 42 = some 36 := rfl
theorem lm_g43 : jgA (layM F A L GF GA) 8 9 43 = some 37 := rfl
theorem lm_g44 : jgI (layM F A L GF GA) 8 9 44 = some (F 44) := rfl
theorem lm_g45 : jgI (layM F A L GF GA) 8 9 45 = some (F 45) := rfl
theorem lm_g46 : jgA (layM F A L GF GA) 8 9 46 = some 38 := rfl
theorem lm_g47 : jgA (layM F A L GF GA) 8 9 47 = some 39 := rfl
theorem lm_g48 : jgA (layM F A L GF GA) 8 9 48 = some 40 := rfl
theorem lm_g49 : jgA (layM F A L GF GA) 8 9 49 = some 41 := rfl
theorem lm_g50 : jgA (layM F A L GF GA) 8 9 50 = some 42 := rfl
theorem lm_g51 : jgI (layM F A L GF GA) 8 9 51 = some (F 51) := rfl
theorem lm_a1 (i : Int32) : jaI (layM F A L GF GA) 9 .int i = if 0 ≤ i.toInt ∧ i.toInt < 6 then some (A 1 i.toNatClampNeg) else none := jaI_of (len := 6) rfl
theorem lm_a2 (i : Int32) : jaI (layM F A L GF GA) 10 .int i = if 0 ≤ i.toInt ∧ i.toInt < 8 then some (A 2 i.toNatClampNeg) else none := jaI_of (len := 8) rfl
theorem lm_a3 (i : Int32) : jaI (layM F A L GF GA) 11 .int i = if 0 ≤ i.toInt ∧ i.toInt < 8 then some (A 3 i.toNatClampNeg) else none := jaI_of (len := 8) rfl
theorem lm_a4 (i : Int32) : jaI (layM F A L GF GA) 12 .int i = if 0 ≤ i.toInt ∧ i.toInt < 8 then some (A 4 i.toNatClampNeg) else none := jaI_of (len := 8) rfl
theorem lm_a5 (i : Int32) : jaI (layM F A L GF GA) 13 .int i = if 0 ≤ i.toInt ∧ i.toInt < 8 then some (A 5 i.toNatClampNeg) else none := jaI_of (len := 8) rfl
theorem lm_a6 (i : Int32) : jaI (layM F A L GF GA) 14 .int i = if 0 ≤ i.toInt ∧ i.toInt < 12 then some (A 6 i.toNatClampNeg) else none := jaI_of (len := 12) rfl
theorem lm_a7 (i : Int32) : jaI (layM F A L GF GA) 15 .int i = if 0 ≤ i.toInt ∧ i.toInt < 12 then some (A 7 i.toNatClampNeg) else none := jaI_of (len := 12) rfl
theorem lm_a8 (i : Int32) : jaI (layM F A L GF GA) 16 .int i = if 0 ≤ i.toInt ∧ i.toInt < 12 then some (A 8 i.toNatClampNeg) else none := jaI_of (len := 12) rfl
theorem lm_a9 (i : Int32) : jaI (layM F A L GF GA) 17 .int i = if 0 ≤ i.toInt ∧ i.toInt < 12 then some (A 9 i.toNatClampNeg) else none := jaI_of (len := 12) rfl
theorem lm_a10 (i : Int32) : jaI (layM F A L GF GA) 18 .int i = if 0 ≤ i.toInt ∧ i.toInt < 12 then some (A 10 i.toNatClampNeg) else none := jaI_of (len := 12) rfl
theorem lm_a11 (i : Int32) : jaI (layM F A L GF GA) 19 .int i = if 0 ≤ i.toInt ∧ i.toInt < 200 then some (A 11 i.toNatClampNeg) else none := jaI_of (len := 200) rfl
theorem lm_a12 (i : Int32) : jaI (layM F A L GF GA) 20 .int i = if 0 ≤ i.toInt ∧ i.toInt < 200 then some (A 12 i.toNatClampNeg) else none := jaI_of (len := 200) rfl
theorem lm_a13 (i : Int32) : jaI (layM F A L GF GA) 21 .int i = if 0 ≤ i.toInt ∧ i.toInt < 200 then some (A 13 i.toNatClampNeg) else none := jaI_of (len := 200) rfl
theorem lm_a14 (i : Int32) : jaI (layM F A L GF GA) 22 .int i = if 0 ≤ i.toInt ∧ i.toInt < 200 then some (A 14 i.toNatClampNeg) else none := jaI_of (len := 200) rfl
theorem lm_a15 (i : Int32) : jaI (layM F A L GF GA) 23 .int i = if 0 ≤ i.toInt ∧ i.toInt < 200 then some (A 15 i.toNatClampNeg) else none := jaI_of (len := 200) rfl
theorem lm_a16 (i : Int32) : jaI (layM F A L GF GA) 24 .int i = if 0 ≤ i.toInt ∧ i.toInt < 200 then some (A 16 i.toNatClampNeg) else none := jaI_of (len := 200) rfl
theorem lm_a17 (i : Int32) : jaI (layM F A L GF GA) 25 .int i = if 0 ≤ i.toInt ∧ i.toInt < 200 then some (A 17 i.toNatClampNeg) else none := jaI_of (len := 200) rfl
theorem lm_a18 (i : Int32) : jaI (layM F A L GF GA) 26 .int i = if 0 ≤ i.toInt ∧ i.toInt < 200 then some (A 18 i.toNatClampNeg) else none := jaI_of (len := 200) rfl
theorem lm_a19 (i : Int32) : jaL (layM F A L GF GA) 27 i = if 0 ≤ i.toInt ∧ i.toInt < 7 then some (L i.toNatClampNeg) else none := jaL_of (len := 7) rfl
theorem lm_a20 (i : Int32) : jaI (layM F A L GF GA) 28 .int i = if 0 ≤ i.toInt ∧ i.toInt < 8 then some (A 20 i.toNatClampNeg) else none := jaI_of (len := 8) rfl
theorem lm_a21 (i : Int32) : jaI (layM F A L GF GA) 29 .int i = if 0 ≤ i.toInt ∧ i.toInt < 24 then some (A 21 i.toNatClampNeg) else none := jaI_of (len := 24) rfl
theorem lm_a22 (i : Int32) : jaI (layM F A L GF GA) 30 .int i = if 0 ≤ i.toInt ∧ i.toInt < 24 then some (A 22 i.toNatClampNeg) else none := jaI_of (len := 24) rfl
theorem lm_a23 (i : Int32) : jaI (layM F A L GF GA) 31 .int i = if 0 ≤ i.toInt ∧ i.toInt < 3 then some (GA 23 i.toNatClampNeg) else none := jaI_of (len := 3) rfl
theorem lm_a24 (i : Int32) : jaI (layM F A L GF GA) 32 .int i = if 0 ≤ i.toInt ∧ i.toInt < 6 then some (A 24 i.toNatClampNeg) else none := jaI_of (len := 6) rfl
theorem lm_a25 (i : Int32) : jaI (layM F A L GF GA) 33 .int i = if 0 ≤ i.toInt ∧ i.toInt < 7 then some (A 25 i.toNatClampNeg) else none := jaI_of (len := 7) rfl
theorem lm_a26 (i : Int32) : jaI (layM F A L GF GA) 34 .int i = if 0 ≤ i.toInt ∧ i.toInt < 7 then some (A 26 i.toNatClampNeg) else none := jaI_of (len := 7) rfl
theorem lm_a27 (i : Int32) : jaI (layM F A L GF GA) 35 .int i = if 0 ≤ i.toInt ∧ i.toInt < 7 then some (A 27 i.toNatClampNeg) else none := jaI_of (len := 7) rfl
theorem lm_a28 (i : Int32) : jaI (layM F A L GF GA) 36 .int i = if 0 ≤ i.toInt ∧ i.toInt < 7 then some (GA 28 i.toNatClampNeg) else none := jaI_of (len := 7) rfl
theorem lm_a29 (i : Int32) : jaI (layM F A L GF GA) 37 .int i = if 0 ≤ i.toInt ∧ i.toInt < 7 then some (GA 29 i.toNatClampNeg) else none := jaI_of (len := 7) rfl
theorem lm_a30 (i : Int32) : jaI (layM F A L GF GA) 38 .boolean i = if 0 ≤ i.toInt ∧ i.toInt < 200 then some (GA 30 i.toNatClampNeg) else none := jaI_of (len := 200) rfl
theorem lm_a31 (i : Int32) : jaI (layM F A L GF GA) 39 .int i = if 0 ≤ i.toInt ∧ i.toInt < 4 then some (A 31 i.toNatClampNeg) else none := jaI_of (len := 4) rfl
theorem lm_a32 (i : Int32) : jaI (layM F A L GF GA) 40 .int i = if 0 ≤ i.toInt ∧ i.toInt < 4 then some (A 32 i.toNatClampNeg) else none := jaI_of (len := 4) rfl
theorem lm_a33 (i : Int32) : jaI (layM F A L GF GA) 41 .int i = if 0 ≤ i.toInt ∧ i.toInt < 800 then some (A 33 i.toNatClampNeg) else none := jaI_of (len := 800) rfl
theorem lm_a34 (i : Int32) : jaI (layM F A L GF GA) 42 .int i = if 0 ≤ i.toInt ∧ i.toInt < 200 then some (GA 34 i.toNatClampNeg) else none := jaI_of (len := 200) rfl
theorem lm_p1 (v : Int32) : jpF (layM F A L GF GA) 8 9 1 (.int v) = some (layM (va_up F 1 v) A L GF GA) := by
  show some (jset (layM F A L GF GA) 8 (.inr (9, (fsM F GF).set 1 (.int v)))) = _
  congr 1
  funext j
  unfold jset layM
  by_cases h : j = 8
  · simp only [h, if_true]; rfl
  · simp only [h, if_false]
theorem lm_p6 (v : Int32) : jpF (layM F A L GF GA) 8 9 6 (.int v) = some (layM (va_up F 6 v) A L GF GA) := by
  show some (jset (layM F A L GF GA) 8 (.inr (9, (fsM F GF).set 6 (.int v)))) = _
  congr 1
  funext j
  unfold jset layM
  by_cases h : j = 8
  · simp only [h, if_true]; rfl
  · simp only [h, if_false]
theorem lm_p12 (v : Int32) : jpF (layM F A L GF GA) 8 9 12 (.int v) = some (layM (va_up F 12 v) A L GF GA) := by
  show some (jset (layM F A L GF GA) 8 (.inr (9, (fsM F GF).set 12 (.int v)))) = _
  congr 1
  funext j
  unfold jset layM
  by_cases h : j = 8
  · simp only [h, if_true]; rfl
  · simp only [h, if_false]
theorem lm_p13 (v : Int32) : jpF (layM F A L GF GA) 8 9 13 (.int v) = some (layM (va_up F 13 v) A L GF GA) := by
  show some (jset (layM F A L GF GA) 8 (.inr (9, (fsM F GF).set 13 (.int v)))) = _
  congr 1
  funext j
  unfold jset layM
  by_cases h : j = 8
  · simp only [h, if_true]; rfl
  · simp only [h, if_false]
theorem lm_p22 (v : Int32) : jpF (layM F A L GF GA) 8 9 22 (.int v) = some (layM (va_up F 22 v) A L GF GA) := by
  show some (jset (layM F A L GF GA) 8 (.inr (9, (fsM F GF).set 22 (.int v)))) = _
  congr 1
  funext j
  unfold jset layM
  by_cases h : j = 8
  · simp only [h, if_true]; rfl
  · simp only [h, if_false]
theorem lm_p23 (v : Int32) : jpF (layM F A L GF GA) 8 9 23 (.int v) = some (layM (va_up F 23 v) A L GF GA) := by
  show some (jset (layM F A L GF GA) 8 (.inr (9, (fsM F GF).set 23 (.int v)))) = _
  congr 1
  funext j
  unfold jset layM
  by_cases h : j = 8
  · simp only [h, if_true]; rfl
  · simp only [h, if_false]
theorem lm_p29 (v : Int32) : jpF (layM F A L GF GA) 8 9 29 (.int v) = some (layM F A L (va_up GF 29 v) GA) := by
  show some (jset (layM F A L GF GA) 8 (.inr (9, (fsM F GF).set 29 (.int v)))) = _
  congr 1
  funext j
  unfold jset layM
  by_cases h : j = 8
  · simp only [h, if_true]; rfl
  · simp only [h, if_false]
theorem lm_p30 (v : Int32) : jpF (layM F A L GF GA) 8 9 30 (.int v) = some (layM F A L (va_up GF 30 v) GA) := by
  show some (jset (layM F A L GF GA) 8 (.inr (9, (fsM F GF).set 30 (.int v)))) = _
  congr 1
  funext j
  unfold jset layM
  by_cases h : j = 8
  · simp only [h, if_true]; rfl
  · simp only [h, if_false]
theorem lm_p31 (v : Int32) : jpF (layM F A L GF GA) 8 9 31 (.int v) = some (layM F A L (va_up GF 31 v) GA) := by
  show some (jset (layM F A L GF GA) 8 (.inr (9, (fsM F GF).set 31 (.int v)))) = _
  congr 1
  funext j
  unfold jset layM
  by_cases h : j = 8
  · simp only [h, if_true]; rfl
  · simp only [h, if_false]
theorem lm_p32 (v : Int32) : jpF (layM F A L GF GA) 8 9 32 (.int v) = some (layM F A L (va_up GF 32 v) GA) := by
  show some (jset (layM F A L GF GA) 8 (.inr (9, (fsM F GF).set 32 (.int v)))) = _
  congr 1
  funext j
  unfold jset layM
  by_cases h : j = 8
  · simp only [h, if_true]; rfl
  · simp only [h, if_false]
theorem lm_p33 (v : Int32) : jpF (layM F A L GF GA) 8 9 33 (.int v) = some (layM F A L (va_up GF 33 v) GA) := by
  show some (jset (layM F A L GF GA) 8 (.inr (9, (fsM F GF).set 33 (.int v)))) = _
  congr 1
  funext j
  unfold jset layM
  by_cases h : j = 8
  · simp only [h, if_true]; rfl
  · simp only [h, if_false]
theorem lm_p34 (v : Int32) : jpF (layM F A L GF GA) 8 9 34 (.int v) = some (layM F A L (va_up GF 34 v) GA) := by
  show some (jset (layM F A L GF GA) 8 (.inr (9, (fsM F GF).set 34 (.int v)))) = _
  congr 1
  funext j
  unfold jset layM
  by_cases h : j = 8
  · simp only [h, if_true]; rfl
  · simp only [h, if_false]
theorem lm_p35 (v : Int32) : jpF (layM F A L GF GA) 8 9 35 (.int v) = some (layM (va_up F 35 v) A L GF GA) := by
  show some (jset (layM F A L GF GA) 8 (.inr (9, (fsM F GF).set 35 (.int v)))) = _
  congr 1
  funext j
  unfold jset layM
  by_cases h : j = 8
  · simp only [h, if_true]; rfl
  · simp only [h, if_false]
theorem lm_p37 (v : Int32) : jpF (layM F A L GF GA) 8 9 37 (.int v) = some (layM (va_up F 37 v) A L GF GA) := by
  show some (jset (layM F A L GF GA) 8 (.inr (9, (fsM F GF).set 37 (.int v)))) = _
  congr 1
  funext j
  unfold jset layM
  by_cases h : j = 8
  · simp only [h, if_true]; rfl
  · simp only [h, if_false]
theorem lm_p41 (v : Int32) : jpF (layM F A L GF GA) 8 9 41 (.int v) = some (layM (va_up F 41 v) A L GF GA) := by
  show some (jset (layM F A L GF GA) 8 (.inr (9, (fsM F GF).set 41 (.int v)))) = _
  congr 1
  funext j
  unfold jset layM
  by_cases h : j = 8
  · simp only [h, if_true]; rfl
  · simp only [h, if_false]
theorem lm_p44 (v : Int32) : jpF (layM F A L GF GA) 8 9 44 (.int v) = some (layM (va_up F 44 v) A L GF GA) := by
  show some (jset (layM F A L GF GA) 8 (.inr (9, (fsM F GF).set 44 (.int v)))) = _
  congr 1
  funext j
  unfold jset layM
  by_cases h : j = 8
  · simp only [h, if_true]; rfl
  · simp only [h, if_false]
theorem lm_p45 (v : Int32) : jpF (layM F A L GF GA) 8 9 45 (.int v) = some (layM (va_up F 45 v) A L GF GA) := by
  show some (jset (layM F A L GF GA) 8 (.inr (9, (fsM F GF).set 45 (.int v)))) = _
  congr 1
  funext j
  unfold jset layM
  by_cases h : j = 8
  · simp only [h, if_true]; rfl
  · simp only [h, if_false]
theorem lm_p51 (v : Int32) : jpF (layM F A L GF GA) 8 9 51 (.int v) = some (layM (va_up F 51 v) A L GF GA) := by
  show some (jset (layM F A L GF GA) 8 (.inr (9, (fsM F GF).set 51 (.int v)))) = _
  congr 1
  funext j
  unfold jset layM
  by_cases h : j = 8
  · simp only [h, if_true]; rfl
  · simp only [h, if_false]
theorem lm_setA (n : Nat) (f : Nat → Int32) (h1 : 1 ≤ n) (h2 : n ≤ 34) (h3 : n ≠ 19) (h4 : n ≠ 23 ∧ n ≠ 28 ∧ n ≠ 29 ∧ n ≠ 30 ∧ n ≠ 34) : jset (layM F A L GF GA) (8 + n) (.inl (tyM n, lnM n, .inl f)) = layM F (va_up A n f) L GF GA := by
  funext j
  unfold jset layM
  by_cases h : j = 8 + n
  · subst h
    rw [if_pos rfl, if_neg (by omega), if_neg (by omega), if_pos (by omega), if_neg (by omega), Nat.add_sub_cancel_left]
    simp [va_up]
  · rw [if_neg h]
    by_cases hr : 9 ≤ j ∧ j ≤ 42
    · have hne : j - 8 ≠ n := by omega
      simp only [va_up, hne, if_false]
    · simp only [hr, if_false]
theorem lm_setG (n : Nat) (f : Nat → Int32) (h4 : n = 23 ∨ n = 28 ∨ n = 29 ∨ n = 30 ∨ n = 34) : jset (layM F A L GF GA) (8 + n) (.inl (tyM n, lnM n, .inl f)) = layM F A L GF (va_up GA n f) := by
  funext j
  unfold jset layM
  by_cases h : j = 8 + n
  · subst h
    rw [if_pos rfl, if_neg (by omega), if_neg (by omega), if_pos (by omega), if_pos (by omega), Nat.add_sub_cancel_left]
    simp [va_up]
  · rw [if_neg h]
    by_cases hr : 9 ≤ j ∧ j ≤ 42
    · have hne : j - 8 ≠ n := by omega
      simp only [va_up, hne, if_false]
    · simp only [hr, if_false]
theorem lm_setL (f : Nat → Int64) : jset (layM F A L GF GA) 27 (.inl (.long, 7, .inr (.inl f))) = layM F A f GF GA := by
  funext j
  unfold jset layM
  by_cases h : j = 27
  · subst h; rfl
  · simp only [h, if_false]
theorem lm_s1 (i v : Int32) : jaSI (layM F A L GF GA) 9 i v = if 0 ≤ i.toInt ∧ i.toInt < 6 then some (layM F (va_up A 1 (upd (A 1) i.toNatClampNeg v)) L GF GA) else none := by
  have e := lm_setA F GF A GA L 1 (upd (A 1) i.toNatClampNeg v) (by decide) (by decide) (by decide) (by decide)
  rw [jaSI_of (hp := (layM F A L GF GA)) (a := 9) (len := 6) (f := A 1) rfl (by decide)]
  rw [show jset (layM F A L GF GA) 9 (.inl (.int, 6, .inl (upd (A 1) i.toNatClampNeg v))) = _ from e]
  rfl
theorem lm_s2 (i v : Int32) : jaSI (layM F A L GF GA) 10 i v = if 0 ≤ i.toInt ∧ i.toInt < 8 then some (layM F (va_up A 2 (upd (A 2) i.toNatClampNeg v)) L GF GA) else none := by
  have e := lm_setA F GF A GA L 2 (upd (A 2) i.toNatClampNeg v) (by decide) (by decide) (by decide) (by decide)
  rw [jaSI_of (hp := (layM F A L GF GA)) (a := 10) (len := 8) (f := A 2) rfl (by decide)]
  rw [show jset (layM F A L GF GA) 10 (.inl (.int, 8, .inl (upd (A 2) i.toNatClampNeg v))) = _ from e]
  rfl
theorem lm_s3 (i v : Int32) : jaSI (layM F A L GF GA) 11 i v = if 0 ≤ i.toInt ∧ i.toInt < 8 then some (layM F (va_up A 3 (upd (A 3) i.toNatClampNeg v)) L GF GA) else none := by
  have e := lm_setA F GF A GA L 3 (upd (A 3) i.toNatClampNeg v) (by decide) (by decide) (by decide) (by decide)
  rw [jaSI_of (hp := (layM F A L GF GA)) (a := 11) (len := 8) (f := A 3) rfl (by decide)]
  rw [show jset (layM F A L GF GA) 11 (.inl (.int, 8, .inl (upd (A 3) i.toNatClampNeg v))) = _ from e]
  rfl
theorem lm_s4 (i v : Int32) : jaSI (layM F A L GF GA) 12 i v = if 0 ≤ i.toInt ∧ i.toInt < 8 then some (layM F (va_up A 4 (upd (A 4) i.toNatClampNeg v)) L GF GA) else none := by
  have e := lm_setA F GF A GA L 4 (upd (A 4) i.toNatClampNeg v) (by decide) (by decide) (by decide) (by decide)
  rw [jaSI_of (hp := (layM F A L GF GA)) (a := 12) (len := 8) (f := A 4) rfl (by decide)]
  rw [show jset (layM F A L GF GA) 12 (.inl (.int, 8, .inl (upd (A 4) i.toNatClampNeg v))) = _ from e]
  rfl
theorem lm_s5 (i v : Int32) : jaSI (layM F A L GF GA) 13 i v = if 0 ≤ i.toInt ∧ i.toInt < 8 then some (layM F (va_up A 5 (upd (A 5) i.toNatClampNeg v)) L GF GA) else none := by
  have e := lm_setA F GF A GA L 5 (upd (A 5) i.toNatClampNeg v) (by decide) (by decide) (by decide) (by decide)
  rw [jaSI_of (hp := (layM F A L GF GA)) (a := 13) (len := 8) (f := A 5) rfl (by decide)]
  rw [show jset (layM F A L GF GA) 13 (.inl (.int, 8, .inl (upd (A 5) i.toNatClampNeg v))) = _ from e]
  rfl
theorem lm_s6 (i v : Int32) : jaSI (layM F A L GF GA) 14 i v = if 0 ≤ i.toInt ∧ i.toInt < 12 then some (layM F (va_up A 6 (upd (A 6) i.toNatClampNeg v)) L GF GA) else none := by
  have e := lm_setA F GF A GA L 6 (upd (A 6) i.toNatClampNeg v) (by decide) (by decide) (by decide) (by decide)
  rw [jaSI_of (hp := (layM F A L GF GA)) (a := 14) (len := 12) (f := A 6) rfl (by decide)]
  rw [show jset (layM F A L GF GA) 14 (.inl (.int, 12, .inl (upd (A 6) i.toNatClampNeg v))) = _ from e]
  rfl
theorem lm_s7 (i v : Int32) : jaSI (layM F A L GF GA) 15 i v = if 0 ≤ i.toInt ∧ i.toInt < 12 then some (layM F (va_up A 7 (upd (A 7) i.toNatClampNeg v)) L GF GA) else none := by
  have e := lm_setA F GF A GA L 7 (upd (A 7) i.toNatClampNeg v) (by decide) (by decide) (by decide) (by decide)
  rw [jaSI_of (hp := (layM F A L GF GA)) (a := 15) (len := 12) (f := A 7) rfl (by decide)]
  rw [show jset (layM F A L GF GA) 15 (.inl (.int, 12, .inl (upd (A 7) i.toNatClampNeg v))) = _ from e]
  rfl
theorem lm_s8 (i v : Int32) : jaSI (layM F A L GF GA) 16 i v = if 0 ≤ i.toInt ∧ i.toInt < 12 then some (layM F (va_up A 8 (upd (A 8) i.toNatClampNeg v)) L GF GA) else none := by
  have e := lm_setA F GF A GA L 8 (upd (A 8) i.toNatClampNeg v) (by decide) (by decide) (by decide) (by decide)
  rw [jaSI_of (hp := (layM F A L GF GA)) (a := 16) (len := 12) (f := A 8) rfl (by decide)]
  rw [show jset (layM F A L GF GA) 16 (.inl (.int, 12, .inl (upd (A 8) i.toNatClampNeg v))) = _ from e]
  rfl
theorem lm_s9 (i v : Int32) : jaSI (layM F A L GF GA) 17 i v = if 0 ≤ i.toInt ∧ i.toInt < 12 then some (layM F (va_up A 9 (upd (A 9) i.toNatClampNeg v)) L GF GA) else none := by
  have e := lm_setA F GF A GA L 9 (upd (A 9) i.toNatClampNeg v) (by decide) (by decide) (by decide) (by decide)
  rw [jaSI_of (hp := (layM F A L GF GA)) (a := 17) (len := 12) (f := A 9) rfl (by decide)]
  rw [show jset (layM F A L GF GA) 17 (.inl (.int, 12, .inl (upd (A 9) i.toNatClampNeg v))) = _ from e]
  rfl
theorem lm_s10 (i v : Int32) : jaSI (layM F A L GF GA) 18 i v = if 0 ≤ i.toInt ∧ i.toInt < 12 then some (layM F (va_up A 10 (upd (A 10) i.toNatClampNeg v)) L GF GA) else none := by
  have e := lm_setA F GF A GA L 10 (upd (A 10) i.toNatClampNeg v) (by decide) (by decide) (by decide) (by decide)
  rw [jaSI_of (hp := (layM F A L GF GA)) (a := 18) (len := 12) (f := A 10) rfl (by decide)]
  rw [show jset (layM F A L GF GA) 18 (.inl (.int, 12, .inl (upd (A 10) i.toNatClampNeg v))) = _ from e]
  rfl
theorem lm_s11 (i v : Int32) : jaSI (layM F A L GF GA) 19 i v = if 0 ≤ i.toInt ∧ i.toInt < 200 then some (layM F (va_up A 11 (upd (A 11) i.toNatClampNeg v)) L GF GA) else none := by
  have e := lm_setA F GF A GA L 11 (upd (A 11) i.toNatClampNeg v) (by decide) (by decide) (by decide) (by decide)
  rw [jaSI_of (hp := (layM F A L GF GA)) (a := 19) (len := 200) (f := A 11) rfl (by decide)]
  rw [show jset (layM F A L GF GA) 19 (.inl (.int, 200, .inl (upd (A 11) i.toNatClampNeg v))) = _ from e]
  rfl
theorem lm_s12 (i v : Int32) : jaSI (layM F A L GF GA) 20 i v = if 0 ≤ i.toInt ∧ i.toInt < 200 then some (layM F (va_up A 12 (upd (A 12) i.toNatClampNeg v)) L GF GA) else none := by
  have e := lm_setA F GF A GA L 12 (upd (A 12) i.toNatClampNeg v) (by decide) (by decide) (by decide) (by decide)
  rw [jaSI_of (hp := (layM F A L GF GA)) (a := 20) (len := 200) (f := A 12) rfl (by decide)]
  rw [show jset (layM F A L GF GA) 20 (.inl (.int, 200, .inl (upd (A 12) i.toNatClampNeg v))) = _ from e]
  rfl
theorem lm_s13 (i v : Int32) : jaSI (layM F A L GF GA) 21 i v = if 0 ≤ i.toInt ∧ i.toInt < 200 then some (layM F (va_up A 13 (upd (A 13) i.toNatClampNeg v)) L GF GA) else none := by
  have e := lm_setA F GF A GA L 13 (upd (A 13) i.toNatClampNeg v) (by decide) (by decide) (by decide) (by decide)
  rw [jaSI_of (hp := (layM F A L GF GA)) (a := 21) (len := 200) (f := A 13) rfl (by decide)]
  rw [show jset (layM F A L GF GA) 21 (.inl (.int, 200, .inl (upd (A 13) i.toNatClampNeg v))) = _ from e]
  rfl
theorem lm_s14 (i v : Int32) : jaSI (layM F A L GF GA) 22 i v = if 0 ≤ i.toInt ∧ i.toInt < 200 then some (layM F (va_up A 14 (upd (A 14) i.toNatClampNeg v)) L GF GA) else none := by
  have e := lm_setA F GF A GA L 14 (upd (A 14) i.toNatClampNeg v) (by decide) (by decide) (by decide) (by decide)
  rw [jaSI_of (hp := (layM F A L GF GA)) (a := 22) (len := 200) (f := A 14) rfl (by decide)]
  rw [show jset (layM F A L GF GA) 22 (.inl (.int, 200, .inl (upd (A 14) i.toNatClampNeg v))) = _ from e]
  rfl
theorem lm_s15 (i v : Int32) : jaSI (layM F A L GF GA) 23 i v = if 0 ≤ i.toInt ∧ i.toInt < 200 then some (layM F (va_up A 15 (upd (A 15) i.toNatClampNeg v)) L GF GA) else none := by
  have e := lm_setA F GF A GA L 15 (upd (A 15) i.toNatClampNeg v) (by decide) (by decide) (by decide) (by decide)
  rw [jaSI_of (hp := (layM F A L GF GA)) (a := 23) (len := 200) (f := A 15) rfl (by decide)]
  rw [show jset (layM F A L GF GA) 23 (.inl (.int, 200, .inl (upd (A 15) i.toNatClampNeg v))) = _ from e]
  rfl
theorem lm_s16 (i v : Int32) : jaSI (layM F A L GF GA) 24 i v = if 0 ≤ i.toInt ∧ i.toInt < 200 then some (layM F (va_up A 16 (upd (A 16) i.toNatClampNeg v)) L GF GA) else none := by
  have e := lm_setA F GF A GA L 16 (upd (A 16) i.toNatClampNeg v) (by decide) (by decide) (by decide) (by decide)
  rw [jaSI_of (hp := (layM F A L GF GA)) (a := 24) (len := 200) (f := A 16) rfl (by decide)]
  rw [show jset (layM F A L GF GA) 24 (.inl (.int, 200, .inl (upd (A 16) i.toNatClampNeg v))) = _ from e]
  rfl
theorem lm_s17 (i v : Int32) : jaSI (layM F A L GF GA) 25 i v = if 0 ≤ i.toInt ∧ i.toInt < 200 then some (layM F (va_up A 17 (upd (A 17) i.toNatClampNeg v)) L GF GA) else none := by
  have e := lm_setA F GF A GA L 17 (upd (A 17) i.toNatClampNeg v) (by decide) (by decide) (by decide) (by decide)
  rw [jaSI_of (hp := (layM F A L GF GA)) (a := 25) (len := 200) (f := A 17) rfl (by decide)]
  rw [show jset (layM F A L GF GA) 25 (.inl (.int, 200, .inl (upd (A 17) i.toNatClampNeg v))) = _ from e]
  rfl
theorem lm_s18 (i v : Int32) : jaSI (layM F A L GF GA) 26 i v = if 0 ≤ i.toInt ∧ i.toInt < 200 then some (layM F (va_up A 18 (upd (A 18) i.toNatClampNeg v)) L GF GA) else none := by
  have e := lm_setA F GF A GA L 18 (upd (A 18) i.toNatClampNeg v) (by decide) (by decide) (by decide) (by decide)
  rw [jaSI_of (hp := (layM F A L GF GA)) (a := 26) (len := 200) (f := A 18) rfl (by decide)]
  rw [show jset (layM F A L GF GA) 26 (.inl (.int, 200, .inl (upd (A 18) i.toNatClampNeg v))) = _ from e]
  rfl
theorem lm_s19 (i : Int32) (v : Int64) : jaSL (layM F A L GF GA) 27 i v = if 0 ≤ i.toInt ∧ i.toInt < 7 then some (layM F A (vp_updL L i.toNatClampNeg v) GF GA) else none := by
  rw [jaSL_of (hp := (layM F A L GF GA)) (a := 27) (len := 7) (f := L) rfl (by decide), lm_setL]
  rfl
theorem lm_s20 (i v : Int32) : jaSI (layM F A L GF GA) 28 i v = if 0 ≤ i.toInt ∧ i.toInt < 8 then some (layM F (va_up A 20 (upd (A 20) i.toNatClampNeg v)) L GF GA) else none := by
  have e := lm_setA F GF A GA L 20 (upd (A 20) i.toNatClampNeg v) (by decide) (by decide) (by decide) (by decide)
  rw [jaSI_of (hp := (layM F A L GF GA)) (a := 28) (len := 8) (f := A 20) rfl (by decide)]
  rw [show jset (layM F A L GF GA) 28 (.inl (.int, 8, .inl (upd (A 20) i.toNatClampNeg v))) = _ from e]
  rfl
theorem lm_s21 (i v : Int32) : jaSI (layM F A L GF GA) 29 i v = if 0 ≤ i.toInt ∧ i.toInt < 24 then some (layM F (va_up A 21 (upd (A 21) i.toNatClampNeg v)) L GF GA) else none := by
  have e := lm_setA F GF A GA L 21 (upd (A 21) i.toNatClampNeg v) (by decide) (by decide) (by decide) (by decide)
  rw [jaSI_of (hp := (layM F A L GF GA)) (a := 29) (len := 24) (f := A 21) rfl (by decide)]
  rw [show jset (layM F A L GF GA) 29 (.inl (.int, 24, .inl (upd (A 21) i.toNatClampNeg v))) = _ from e]
  rfl
theorem lm_s22 (i v : Int32) : jaSI (layM F A L GF GA) 30 i v = if 0 ≤ i.toInt ∧ i.toInt < 24 then some (layM F (va_up A 22 (upd (A 22) i.toNatClampNeg v)) L GF GA) else none := by
  have e := lm_setA F GF A GA L 22 (upd (A 22) i.toNatClampNeg v) (by decide) (by decide) (by decide) (by decide)
  rw [jaSI_of (hp := (layM F A L GF GA)) (a := 30) (len := 24) (f := A 22) rfl (by decide)]
  rw [show jset (layM F A L GF GA) 30 (.inl (.int, 24, .inl (upd (A 22) i.toNatClampNeg v))) = _ from e]
  rfl
theorem lm_s23 (i v : Int32) : jaSI (layM F A L GF GA) 31 i v = if 0 ≤ i.toInt ∧ i.toInt < 3 then some (layM F A L GF (va_up GA 23 (upd (GA 23) i.toNatClampNeg v))) else none := by
  have e := lm_setG F GF A GA L 23 (upd (GA 23) i.toNatClampNeg v) (by decide)
  rw [jaSI_of (hp := (layM F A L GF GA)) (a := 31) (len := 3) (f := GA 23) rfl (by decide)]
  rw [show jset (layM F A L GF GA) 31 (.inl (.int, 3, .inl (upd (GA 23) i.toNatClampNeg v))) = _ from e]
  rfl
theorem lm_s24 (i v : Int32) : jaSI (layM F A L GF GA) 32 i v = if 0 ≤ i.toInt ∧ i.toInt < 6 then some (layM F (va_up A 24 (upd (A 24) i.toNatClampNeg v)) L GF GA) else none := by
  have e := lm_setA F GF A GA L 24 (upd (A 24) i.toNatClampNeg v) (by decide) (by decide) (by decide) (by decide)
  rw [jaSI_of (hp := (layM F A L GF GA)) (a := 32) (len := 6) (f := A 24) rfl (by decide)]
  rw [show jset (layM F A L GF GA) 32 (.inl (.int, 6, .inl (upd (A 24) i.toNatClampNeg v))) = _ from e]
  rfl
theorem lm_s25 (i v : Int32) : jaSI (layM F A L GF GA) 33 i v = if 0 ≤ i.toInt ∧ i.toInt < 7 then some (layM F (va_up A 25 (upd (A 25) i.toNatClampNeg v)) L GF GA) else none := by
  have e := lm_setA F GF A GA L 25 (upd (A 25) i.toNatClampNeg v) (by decide) (by decide) (by decide) (by decide)
  rw [jaSI_of (hp := (layM F A L GF GA)) (a := 33) (len := 7) (f := A 25) rfl (by decide)]
  rw [show jset (layM F A L GF GA) 33 (.inl (.int, 7, .inl (upd (A 25) i.toNatClampNeg v))) = _ from e]
  rfl
theorem lm_s26 (i v : Int32) : jaSI (layM F A L GF GA) 34 i v = if 0 ≤ i.toInt ∧ i.toInt < 7 then some (layM F (va_up A 26 (upd (A 26) i.toNatClampNeg v)) L GF GA) else none := by
  have e := lm_setA F GF A GA L 26 (upd (A 26) i.toNatClampNeg v) (by decide) (by decide) (by decide) (by decide)
  rw [jaSI_of (hp := (layM F A L GF GA)) (a := 34) (len := 7) (f := A 26) rfl (by decide)]
  rw [show jset (layM F A L GF GA) 34 (.inl (.int, 7, .inl (upd (A 26) i.toNatClampNeg v))) = _ from e]
  rfl
theorem lm_s27 (i v : Int32) : jaSI (layM F A L GF GA) 35 i v = if 0 ≤ i.toInt ∧ i.toInt < 7 then some (layM F (va_up A 27 (upd (A 27) i.toNatClampNeg v)) L GF GA) else none := by
  have e := lm_setA F GF A GA L 27 (upd (A 27) i.toNatClampNeg v) (by decide) (by decide) (by decide) (by decide)
  rw [jaSI_of (hp := (layM F A L GF GA)) (a := 35) (len := 7) (f := A 27) rfl (by decide)]
  rw [show jset (layM F A L GF GA) 35 (.inl (.int, 7, .inl (upd (A 27) i.toNatClampNeg v))) = _ from e]
  rfl
theorem lm_s28 (i v : Int32) : jaSI (layM F A L GF GA) 36 i v = if 0 ≤ i.toInt ∧ i.toInt < 7 then some (layM F A L GF (va_up GA 28 (upd (GA 28) i.toNatClampNeg v))) else none := by
  have e := lm_setG F GF A GA L 28 (upd (GA 28) i.toNatClampNeg v) (by decide)
  rw [jaSI_of (hp := (layM F A L GF GA)) (a := 36) (len := 7) (f := GA 28) rfl (by decide)]
  rw [show jset (layM F A L GF GA) 36 (.inl (.int, 7, .inl (upd (GA 28) i.toNatClampNeg v))) = _ from e]
  rfl
theorem lm_s29 (i v : Int32) : jaSI (layM F A L GF GA) 37 i v = if 0 ≤ i.toInt ∧ i.toInt < 7 then some (layM F A L GF (va_up GA 29 (upd (GA 29) i.toNatClampNeg v))) else none := by
  have e := lm_setG F GF A GA L 29 (upd (GA 29) i.toNatClampNeg v) (by decide)
  rw [jaSI_of (hp := (layM F A L GF GA)) (a := 37) (len := 7) (f := GA 29) rfl (by decide)]
  rw [show jset (layM F A L GF GA) 37 (.inl (.int, 7, .inl (upd (GA 29) i.toNatClampNeg v))) = _ from e]
  rfl
theorem lm_s30 (i v : Int32) : jaSB (layM F A L GF GA) 38 .boolean i v = if 0 ≤ i.toInt ∧ i.toInt < 200 then some (layM F A L GF (va_up GA 30 (upd (GA 30) i.toNatClampNeg (vp_nar .boolean v)))) else none := by
  have e := lm_setG F GF A GA L 30 (upd (GA 30) i.toNatClampNeg (vp_nar .boolean v)) (by decide)
  rw [jaSB_of (hp := (layM F A L GF GA)) (a := 38) (len := 200) (f := GA 30) (ty := .boolean) rfl (by decide)]
  rw [show jset (layM F A L GF GA) 38 (.inl (.boolean, 200, .inl (upd (GA 30) i.toNatClampNeg (vp_nar .boolean v)))) = _ from e]
  rfl
theorem lm_s31 (i v : Int32) : jaSI (layM F A L GF GA) 39 i v = if 0 ≤ i.toInt ∧ i.toInt < 4 then some (layM F (va_up A 31 (upd (A 31) i.toNatClampNeg v)) L GF GA) else none := by
  have e := lm_setA F GF A GA L 31 (upd (A 31) i.toNatClampNeg v) (by decide) (by decide) (by decide) (by decide)
  rw [jaSI_of (hp := (layM F A L GF GA)) (a := 39) (len := 4) (f := A 31) rfl (by decide)]
  rw [show jset (layM F A L GF GA) 39 (.inl (.int, 4, .inl (upd (A 31) i.toNatClampNeg v))) = _ from e]
  rfl
theorem lm_s32 (i v : Int32) : jaSI (layM F A L GF GA) 40 i v = if 0 ≤ i.toInt ∧ i.toInt < 4 then some (layM F (va_up A 32 (upd (A 32) i.toNatClampNeg v)) L GF GA) else none := by
  have e := lm_setA F GF A GA L 32 (upd (A 32) i.toNatClampNeg v) (by decide) (by decide) (by decide) (by decide)
  rw [jaSI_of (hp := (layM F A L GF GA)) (a := 40) (len := 4) (f := A 32) rfl (by decide)]
  rw [show jset (layM F A L GF GA) 40 (.inl (.int, 4, .inl (upd (A 32) i.toNatClampNeg v))) = _ from e]
  rfl
theorem lm_s33 (i v : Int32) : jaSI (layM F A L GF GA) 41 i v = if 0 ≤ i.toInt ∧ i.toInt < 800 then some (layM F (va_up A 33 (upd (A 33) i.toNatClampNeg v)) L GF GA) else none := by
  have e := lm_setA F GF A GA L 33 (upd (A 33) i.toNatClampNeg v) (by decide) (by decide) (by decide) (by decide)
  rw [jaSI_of (hp := (layM F A L GF GA)) (a := 41) (len := 800) (f := A 33) rfl (by decide)]
  rw [show jset (layM F A L GF GA) 41 (.inl (.int, 800, .inl (upd (A 33) i.toNatClampNeg v))) = _ from e]
  rfl
theorem lm_s34 (i v : Int32) : jaSI (layM F A L GF GA) 42 i v = if 0 ≤ i.toInt ∧ i.toInt < 200 then some (layM F A L GF (va_up GA 34 (upd (GA 34) i.toNatClampNeg v))) else none := by
  have e := lm_setG F GF A GA L 34 (upd (GA 34) i.toNatClampNeg v) (by decide)
  rw [jaSI_of (hp := (layM F A L GF GA)) (a := 42) (len := 200) (f := GA 34) rfl (by decide)]
  rw [show jset (layM F A L GF GA) 42 (.inl (.int, 200, .inl (upd (GA 34) i.toNatClampNeg v))) = _ from e]
  rfl
end LM
