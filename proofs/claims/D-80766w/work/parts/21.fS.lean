/-! the small classes: functions that mirror their bytecode (printed by gen/comp.py) -/
set_option maxRecDepth 100000
def f_J0_init (this : Nat) (hp : jH) : Option jH :=
  some hp
def f_J1_init (this : Nat) (hp : jH) : Option jH :=
  (f_J0_init this hp).bind fun hp2 =>
  (jpF hp2 this 5 0 (.int 0)).bind fun hp3 =>
  some hp3
def f_J2_init (this : Nat) (hp : jH) : Option jH :=
  (f_J1_init this hp).bind fun hp2 =>
  (jaF hp2 2).bind fun u4 =>
  (jpF hp2 this 5 1 (.ref 2)).bind fun hp5 =>
  some hp5
def f_J2_size (this : Nat) (hp : jH) : Option (Int32 × jH) :=
  (jgI hp this 5 2).bind fun v1 =>
  some (v1, hp)
def f_J5_checkIndex (p1 : Int32) (p2 : Int32) (hp : jH) : Option (Int32 × jH) :=
  if p1 < 0 then (
    none)
  else (
    if p1 < p2 then (
      some (p1, hp))
    else (
      none))
def f_J4_checkIndex (p1 : Int32) (p2 : Int32) (hp : jH) : Option (Int32 × jH) :=
  jb (f_J5_checkIndex p1 p2 hp) fun v3 hp2 =>
  some (v3, hp2)
def f_J2_elementData (this : Nat) (p1 : Int32) (hp : jH) : Option (Nat × jH) :=
  (jgA hp this 5 1).bind fun a1 =>
  (jaA hp a1 p1).bind fun a3 =>
  some (a3, hp)
def f_J2_get (this : Nat) (p1 : Int32) (hp : jH) : Option (Nat × jH) :=
  (jgI hp this 5 2).bind fun v1 =>
  jb (f_J4_checkIndex p1 v1 hp) fun v5 hp4 =>
  (jis hp4 this 5).bind fun u6 =>
  jb (f_J2_elementData this p1 hp4) fun a10 hp9 =>
  some (a10, hp9)
def f_J2_grow_2 (this : Nat) (p1 : Int32) (hp : jH) : Option (Nat × jH) :=
  (jgA hp this 5 1).bind fun a1 =>
  (jalen hp a1).bind fun v3 =>
  if 0 < v3 then (
    none)
  else (
    (jgA hp this 5 1).bind fun a6 =>
    (jaF hp 2).bind fun u9 =>
    if a6 = 2 then (
      if ¬ ((jmax 10 p1) = 10) then none else
      (jnew hp (this + 1) (.inl (.object "java/lang/Object", 10, .inr (.inr (.inr (.inr (fun _ => none))))))).bind fun hp11 =>
      (jpF hp11 this 5 1 (.ref (this + 1))).bind fun hp14 =>
      some (this + 1, hp14))
    else (
      none))
def f_J2_grow (this : Nat) (hp : jH) : Option (Nat × jH) :=
  (jgI hp this 5 2).bind fun v1 =>
  (jis hp this 5).bind fun u3 =>
  jb (f_J2_grow_2 this (v1 + 1) hp) fun a7 hp6 =>
  some (a7, hp6)
def f_J2_add_2_j11  (xa_0 : Nat) (xa_1 : Nat) (xa_2 : Nat) (xi_3 : Int32) (hp : jH) : Option jH :=
  (jaSR hp xa_2 "java/lang/Object" xi_3 xa_1 8).bind fun hp4 =>
  (jpF hp4 xa_0 5 2 (.int (xi_3 + 1))).bind fun hp6 =>
  some hp6
def f_J2_add_2 (this : Nat) (p1 : Nat) (p2 : Nat) (p3 : Int32) (hp : jH) : Option jH :=
  (jalen hp p2).bind fun v1 =>
  if p3 = v1 then (
    (jis hp this 5).bind fun u8 =>
    jb (f_J2_grow this hp) fun a12 hp11 =>
    f_J2_add_2_j11 this p1 a12 p3 hp11)
  else (
    f_J2_add_2_j11 this p1 p2 p3 hp)
def f_J2_add (this : Nat) (p1 : Nat) (hp : jH) : Option (Int32 × jH) :=
  (jgI hp this 5 0).bind fun v1 =>
  (jpF hp this 5 0 (.int (v1 + 1))).bind fun hp3 =>
  (jgA hp3 this 5 1).bind fun a5 =>
  (jgI hp3 this 5 2).bind fun v7 =>
  (jis hp3 this 5).bind fun u9 =>
  (f_J2_add_2 this p1 a5 v7 hp3).bind fun hp12 =>
  some (1, hp12)
def f_X9_init (this : Nat) (p1 : Int32) (p2 : Int32) (hp : jH) : Option jH :=
  (jpF hp this 8 0 (.int p1)).bind fun hp1 =>
  (jpF hp1 this 8 1 (.int p2)).bind fun hp3 =>
  some hp3
def f_X6_init (this : Nat) (p1 : Int32) (p2 : Int32) (p3 : Int32) (p4 : Int32) (hp : jH) : Option jH :=
  (jnew hp (this + 1) (.inr (5, [.int 0, .null, .int 0]))).bind fun hp1 =>
  (f_J2_init (this + 1) hp1).bind fun hp4 =>
  (jpF hp4 this 4 4 (.ref (this + 1))).bind fun hp5 =>
  (jpF hp5 this 4 0 (.int p1)).bind fun hp7 =>
  (jpF hp7 this 4 1 (.int p2)).bind fun hp9 =>
  (jpF hp9 this 4 2 (.int p3)).bind fun hp11 =>
  (jpF hp11 this 4 3 (.int p4)).bind fun hp13 =>
  some hp13
def f_X7_init (this : Nat) (p1 : Int32) (p2 : Nat) (p3 : Int32) (hp : jH) : Option jH :=
  (jpF hp this 6 1 (.int p1)).bind fun hp1 =>
  (jpF hp1 this 6 0 (.ref p2)).bind fun hp3 =>
  (jpF hp3 this 6 2 (.int p3)).bind fun hp5 =>
  some hp5
def f_X0_in (p1 : Int32) (p2 : Int32) (p3 : Int32) (hp : jH) : Option (Int32 × jH) :=
  if p1 < p2 then (
    some (0, hp))
  else (
    if p3 < p1 then (
      some (0, hp))
    else (
      some (1, hp)))
def f_X7_may (this : Nat) (p1 : Int32) (hp : jH) : Option (Int32 × jH) :=
  (jgI hp this 6 5).bind fun v1 =>
  if v1 = 0 then (
    some (0, hp))
  else (
    (jgI hp this 6 6).bind fun v4 =>
    jb (f_X0_in (p1 - v4) 3 12 hp) fun v8 hp7 =>
    if v8 = 0 then (
      some (0, hp7))
    else (
      (jgI hp7 this 6 3).bind fun v10 =>
      (jgI hp7 this 6 2).bind fun v12 =>
      if v12 ≤ v10 then (
        some (0, hp7))
      else (
        some (1, hp7))))
def f_X8_init (this : Nat) (p1 : Nat) (p2 : Int32) (hp : jH) : Option jH :=
  (jpF hp this 7 6 (.int (-1))).bind fun hp1 =>
  (jpF hp1 this 7 0 (.ref p1)).bind fun hp3 =>
  (jpF hp3 this 7 1 (.int p2)).bind fun hp5 =>
  some hp5
def f_X1_initE (this : Nat) (p1 : Nat) (hp : jH) : Option jH :=
  (jpF hp this 1 1 (.ref p1)).bind fun hp1 =>
  some hp1
def f_X1_initW (this : Nat) (p1 : Nat) (hp : jH) : Option jH :=
  (jpF hp this 2 1 (.ref p1)).bind fun hp1 =>
  some hp1
def f_X2_wide (this : Nat) (hp : jH) : Option (Int32 × jH) :=
  (jgA hp this 1 3).bind fun a1 =>
  (jgA hp a1 0 5).bind fun a3 =>
  (jgI hp this 1 2).bind fun v5 =>
  (jaI hp a3 .int v5).bind fun v7 =>
  some (v7, hp)
def f_X3_wide (this : Nat) (hp : jH) : Option (Int32 × jH) :=
  (jgI hp this 2 2).bind fun v1 =>
  if v1 = 0 then (
    some (0, hp))
  else (
    (jgA hp this 2 3).bind fun a4 =>
    (jgA hp a4 0 5).bind fun a6 =>
    (jaI hp a6 .int 3).bind fun v8 =>
    some (v8, hp))
def f_X2_init (this : Nat) (p1 : Nat) (p2 : Int32) (hp : jH) : Option jH :=
  (jpF hp this 1 3 (.ref p1)).bind fun hp1 =>
  (f_X1_initE this p1 hp1).bind fun hp4 =>
  (jpF hp4 this 1 2 (.int p2)).bind fun hp5 =>
  some hp5
def f_X3_init (this : Nat) (p1 : Nat) (hp : jH) : Option jH :=
  (jpF hp this 2 3 (.ref p1)).bind fun hp1 =>
  (f_X1_initW this p1 hp1).bind fun hp4 =>
  some hp4
def f_X1_cutE_j23  (xi_1 : Int32) (xi_3 : Int32) (xa_s0 : Nat) (xi_s1 : Int32) (xi_s2 : Int32) (hp : jH) : Option (Int32 × jH) :=
  (jpF hp xa_s0 1 0 (.int (xi_s1 + xi_s2))).bind fun hp9 =>
  some ((xi_1 - xi_3), hp9)
def f_X1_cutE (this : Nat) (p1 : Int32) (p2 : Int32) (hp : jH) : Option (Int32 × jH) :=
  (jis hp this 1).bind fun u1 =>
  jb (f_X2_wide this hp) fun v5 hp4 =>
  (jgI hp4 this 1 0).bind fun v6 =>
  if p2 = 0 then (
    f_X1_cutE_j23 p1 (jmin p1 v5) this v6 0 hp4)
  else (
    f_X1_cutE_j23 p1 (jmin p1 v5) this v6 (jmin p1 v5) hp4)
def f_X1_cutW_j23  (xi_1 : Int32) (xi_3 : Int32) (xa_s0 : Nat) (xi_s1 : Int32) (xi_s2 : Int32) (hp : jH) : Option (Int32 × jH) :=
  (jpF hp xa_s0 2 0 (.int (xi_s1 + xi_s2))).bind fun hp9 =>
  some ((xi_1 - xi_3), hp9)
def f_X1_cutW (this : Nat) (p1 : Int32) (p2 : Int32) (hp : jH) : Option (Int32 × jH) :=
  (jis hp this 2).bind fun u1 =>
  jb (f_X3_wide this hp) fun v5 hp4 =>
  (jgI hp4 this 2 0).bind fun v6 =>
  if p2 = 0 then (
    f_X1_cutW_j23 p1 (jmin p1 v5) this v6 0 hp4)
  else (
    f_X1_cutW_j23 p1 (jmin p1 v5) this v6 (jmin p1 v5) hp4)
def f_X4_init (this : Nat) (hp : jH) : Option jH :=
  some hp
def f_X4_size (this : Nat) (hp : jH) : Option (Int32 × jH) :=
  (jgI hp this 3 0).bind fun v1 =>
  if v1 = 0 then (
    (jgA hp this 3 1).bind fun a19 =>
    (jisA hp a19 .byte).bind fun u22 =>
    (jalen hp a19).bind fun v23 =>
    some (v23, hp))
  else (
    (jgI hp this 3 0).bind fun v4 =>
    if v4 = 1 then (
      (jgA hp this 3 1).bind fun a13 =>
      (jisA hp a13 .short).bind fun u16 =>
      (jalen hp a13).bind fun v17 =>
      some (v17, hp))
    else (
      (jgA hp this 3 1).bind fun a7 =>
      (jisA hp a7 .int).bind fun u10 =>
      (jalen hp a7).bind fun v11 =>
      some (v11, hp)))
