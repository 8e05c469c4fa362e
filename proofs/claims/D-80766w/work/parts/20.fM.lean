/-! the reference: functions that mirror its bytecode (printed by gen/model.py) -/
set_option maxRecDepth 100000
def f_X5_in (p1 : Int64) (p2 : Int64) (p3 : Int64) (hp : jH) : Option (Int32 × jH) :=
  if (lg_cmp p1 p2) < 0 then (
    some (0, hp))
  else (
    if 0 < (lg_cmp p1 p3) then (
      some (0, hp))
    else (
      some (1, hp)))
def f_X5_isProfile (this : Nat) (p1 : Int32) (hp : jH) : Option (Int32 × jH) :=
  (jgI hp this 9 1).bind fun v1 =>
  jb (f_X5_in p1.toInt64 (0 : Int64) ((v1 - 1).toInt64) hp) fun v5 hp4 =>
  if ¬ (v5 = 0 ∨ v5 = 1) then none else
  some (v5, hp4)
def f_X5_isDie (this : Nat) (p1 : Int32) (hp : jH) : Option (Int32 × jH) :=
  (jgI hp this 9 6).bind fun v1 =>
  jb (f_X5_in p1.toInt64 (0 : Int64) ((v1 - 1).toInt64) hp) fun v5 hp4 =>
  if ¬ (v5 = 0 ∨ v5 = 1) then none else
  some (v5, hp4)
def f_X5_init_L356  : Nat → Nat → Int32 → jH → Option jH
  | 0, _, _, _ => none
  | N + 1, xa_0, xi_1, hp =>
    if 4 ≤ xi_1 then (
      some hp)
    else (
      (jgA hp xa_0 9 47).bind fun a170 =>
      (jaSI hp a170 xi_1 (-1)).bind fun hp172 =>
      f_X5_init_L356 N xa_0 (xi_1 + 1) hp172)
def f_X5_init (this : Nat) (hp : jH) : Option jH :=
  (jnew hp (this + 1) (.inl (.int, 6, .inl (fun _ => 0)))).bind fun hp1 =>
  (jpF hp1 this 9 0 (.ref (this + 1))).bind fun hp3 =>
  (jnew hp3 (this + 2) (.inl (.int, 8, .inl (fun _ => 0)))).bind fun hp5 =>
  (jpF hp5 this 9 2 (.ref (this + 2))).bind fun hp7 =>
  (jnew hp7 (this + 3) (.inl (.int, 8, .inl (fun _ => 0)))).bind fun hp9 =>
  (jpF hp9 this 9 3 (.ref (this + 3))).bind fun hp11 =>
  (jnew hp11 (this + 4) (.inl (.int, 8, .inl (fun _ => 0)))).bind fun hp13 =>
  (jpF hp13 this 9 4 (.ref (this + 4))).bind fun hp15 =>
  (jnew hp15 (this + 5) (.inl (.int, 8, .inl (fun _ => 0)))).bind fun hp17 =>
  (jpF hp17 this 9 5 (.ref (this + 5))).bind fun hp19 =>
  (jnew hp19 (this + 6) (.inl (.int, 12, .inl (fun _ => 0)))).bind fun hp21 =>
  (jpF hp21 this 9 7 (.ref (this + 6))).bind fun hp23 =>
  (jnew hp23 (this + 7) (.inl (.int, 12, .inl (fun _ => 0)))).bind fun hp25 =>
  (jpF hp25 this 9 8 (.ref (this + 7))).bind fun hp27 =>
  (jnew hp27 (this + 8) (.inl (.int, 12, .inl (fun _ => 0)))).bind fun hp29 =>
  (jpF hp29 this 9 9 (.ref (this + 8))).bind fun hp31 =>
  (jnew hp31 (this + 9) (.inl (.int, 12, .inl (fun _ => 0)))).bind fun hp33 =>
  (jpF hp33 this 9 10 (.ref (this + 9))).bind fun hp35 =>
  (jnew hp35 (this + 10) (.inl (.int, 12, .inl (fun _ => 0)))).bind fun hp37 =>
  (jpF hp37 this 9 11 (.ref (this + 10))).bind fun hp39 =>
  (jnew hp39 (this + 11) (.inl (.int, 200, .inl (fun _ => 0)))).bind fun hp41 =>
  (jpF hp41 this 9 14 (.ref (this + 11))).bind fun hp43 =>
  (jnew hp43 (this + 12) (.inl (.int, 200, .inl (fun _ => 0)))).bind fun hp45 =>
  (jpF hp45 this 9 15 (.ref (this + 12))).bind fun hp47 =>
  (jnew hp47 (this + 13) (.inl (.int, 200, .inl (fun _ => 0)))).bind fun hp49 =>
  (jpF hp49 this 9 16 (.ref (this + 13))).bind fun hp51 =>
  (jnew hp51 (this + 14) (.inl (.int, 200, .inl (fun _ => 0)))).bind fun hp53 =>
  (jpF hp53 this 9 17 (.ref (this + 14))).bind fun hp55 =>
  (jnew hp55 (this + 15) (.inl (.int, 200, .inl (fun _ => 0)))).bind fun hp57 =>
  (jpF hp57 this 9 18 (.ref (this + 15))).bind fun hp59 =>
  (jnew hp59 (this + 16) (.inl (.int, 200, .inl (fun _ => 0)))).bind fun hp61 =>
  (jpF hp61 this 9 19 (.ref (this + 16))).bind fun hp63 =>
  (jnew hp63 (this + 17) (.inl (.int, 200, .inl (fun _ => 0)))).bind fun hp65 =>
  (jpF hp65 this 9 20 (.ref (this + 17))).bind fun hp67 =>
  (jnew hp67 (this + 18) (.inl (.int, 200, .inl (fun _ => 0)))).bind fun hp69 =>
  (jpF hp69 this 9 21 (.ref (this + 18))).bind fun hp71 =>
  (jpF hp71 this 9 22 (.int (-1))).bind fun hp73 =>
  (jpF hp73 this 9 23 (.int (-1))).bind fun hp75 =>
  (jnew hp75 (this + 19) (.inl (.long, 7, .inr (.inl (fun _ => 0))))).bind fun hp77 =>
  (jpF hp77 this 9 24 (.ref (this + 19))).bind fun hp79 =>
  (jnew hp79 (this + 20) (.inl (.int, 8, .inl (fun _ => 0)))).bind fun hp81 =>
  (jpF hp81 this 9 25 (.ref (this + 20))).bind fun hp83 =>
  (jnew hp83 (this + 21) (.inl (.int, 24, .inl (fun _ => 0)))).bind fun hp85 =>
  (jpF hp85 this 9 26 (.ref (this + 21))).bind fun hp87 =>
  (jnew hp87 (this + 22) (.inl (.int, 24, .inl (fun _ => 0)))).bind fun hp89 =>
  (jpF hp89 this 9 27 (.ref (this + 22))).bind fun hp91 =>
  (jnew hp91 (this + 23) (.inl (.int, 3, .inl (fun _ => 0)))).bind fun hp93 =>
  (jpF hp93 this 9 28 (.ref (this + 23))).bind fun hp95 =>
  (jnew hp95 (this + 24) (.inl (.int, 6, .inl (fun _ => 0)))).bind fun hp97 =>
  (jpF hp97 this 9 36 (.ref (this + 24))).bind fun hp99 =>
  (jnew hp99 (this + 25) (.inl (.int, 7, .inl (fun _ => 0)))).bind fun hp101 =>
  (jpF hp101 this 9 38 (.ref (this + 25))).bind fun hp103 =>
  (jnew hp103 (this + 26) (.inl (.int, 7, .inl (fun _ => 0)))).bind fun hp105 =>
  (jpF hp105 this 9 39 (.ref (this + 26))).bind fun hp107 =>
  (jnew hp107 (this + 27) (.inl (.int, 7, .inl (fun _ => 0)))).bind fun hp109 =>
  (jpF hp109 this 9 40 (.ref (this + 27))).bind fun hp111 =>
  (jpF hp111 this 9 41 (.int 2)).bind fun hp113 =>
  (jnew hp113 (this + 28) (.inl (.int, 7, .inl (fun _ => 0)))).bind fun hp115 =>
  (jpF hp115 this 9 42 (.ref (this + 28))).bind fun hp117 =>
  (jnew hp117 (this + 29) (.inl (.int, 7, .inl (fun _ => 0)))).bind fun hp119 =>
  (jpF hp119 this 9 43 (.ref (this + 29))).bind fun hp121 =>
  (jpF hp121 this 9 44 (.int 100000)).bind fun hp123 =>
  (jnew hp123 (this + 30) (.inl (.boolean, 200, .inl (fun _ => 0)))).bind fun hp125 =>
  (jpF hp125 this 9 46 (.ref (this + 30))).bind fun hp127 =>
  (jnew hp127 (this + 31) (.inl (.int, 4, .inl (fun _ => 0)))).bind fun hp129 =>
  (jpF hp129 this 9 47 (.ref (this + 31))).bind fun hp131 =>
  (jnew hp131 (this + 32) (.inl (.int, 4, .inl (fun _ => 0)))).bind fun hp133 =>
  (jpF hp133 this 9 48 (.ref (this + 32))).bind fun hp135 =>
  (jnew hp135 (this + 33) (.inl (.int, 800, .inl (fun _ => 0)))).bind fun hp137 =>
  (jpF hp137 this 9 49 (.ref (this + 33))).bind fun hp139 =>
  (jnew hp139 (this + 34) (.inl (.int, 200, .inl (fun _ => 0)))).bind fun hp141 =>
  (jpF hp141 this 9 50 (.ref (this + 34))).bind fun hp143 =>
  (jgA hp143 this 9 0).bind fun a145 =>
  (jaSI hp143 a145 0 20).bind fun hp147 =>
  (jgA hp147 this 9 0).bind fun a149 =>
  (jaSI hp147 a149 1 500).bind fun hp151 =>
  (jgA hp151 this 9 0).bind fun a153 =>
  (jaSI hp151 a153 2 300).bind fun hp155 =>
  (jgA hp155 this 9 0).bind fun a157 =>
  (jaSI hp155 a157 3 400).bind fun hp159 =>
  (jgA hp159 this 9 0).bind fun a161 =>
  (jaSI hp159 a161 4 5).bind fun hp163 =>
  (jgA hp163 this 9 0).bind fun a165 =>
  (jaSI hp163 a165 5 5).bind fun hp167 =>
  f_X5_init_L356 300 this 0 hp167
def f_X5_profile (this : Nat) (p1 : Int32) (p2 : Int32) (p3 : Int32) (p4 : Int32) (hp : jH) : Option (Int32 × jH) :=
  jb (f_X5_in p1.toInt64 (0 : Int64) (2 : Int64) hp) fun v3 hp2 =>
  if v3 = 0 then (
    some ((-2), hp2))
  else (
    jb (f_X5_in p2.toInt64 (5 : Int64) (80 : Int64) hp2) fun v7 hp6 =>
    if v7 = 0 then (
      some ((-2), hp6))
    else (
      jb (f_X5_in p3.toInt64 (0 : Int64) (3 : Int64) hp6) fun v11 hp10 =>
      if v11 = 0 then (
        some ((-2), hp10))
      else (
        jb (f_X5_in p4.toInt64 (100 : Int64) (9999 : Int64) hp10) fun v15 hp14 =>
        if v15 = 0 then (
          some ((-2), hp14))
        else (
          (jgI hp14 this 9 1).bind fun v17 =>
          if v17 = 8 then (
            some ((-4), hp14))
          else (
            (jgA hp14 this 9 2).bind fun a20 =>
            (jgI hp14 this 9 1).bind fun v22 =>
            (jaSI hp14 a20 v22 p1).bind fun hp24 =>
            (jgA hp24 this 9 3).bind fun a26 =>
            (jgI hp24 this 9 1).bind fun v28 =>
            (jaSI hp24 a26 v28 p2).bind fun hp30 =>
            (jgA hp30 this 9 4).bind fun a32 =>
            (jgI hp30 this 9 1).bind fun v34 =>
            (jaSI hp30 a32 v34 p3).bind fun hp36 =>
            (jgA hp36 this 9 5).bind fun a38 =>
            (jgI hp36 this 9 1).bind fun v40 =>
            (jaSI hp36 a38 v40 p4).bind fun hp42 =>
            (jgA hp42 this 9 25).bind fun a44 =>
            (jgI hp42 this 9 1).bind fun v46 =>
            (jaSI hp42 a44 v46 0).bind fun hp48 =>
            (jgI hp48 this 9 1).bind fun v50 =>
            (jpF hp48 this 9 1 (.int (v50 + 1))).bind fun hp52 =>
            (jgI hp52 this 9 1).bind fun v54 =>
            some ((v54 - 1), hp52))))))
def f_X5_die (this : Nat) (p1 : Int32) (p2 : Int32) (hp : jH) : Option (Int32 × jH) :=
  (jis hp this 9).bind fun u1 =>
  jb (f_X5_isProfile this p1 hp) fun v5 hp4 =>
  if v5 = 0 then (
    some ((-2), hp4))
  else (
    jb (f_X5_in p2.toInt64 (1 : Int64) (50 : Int64) hp4) fun v9 hp8 =>
    if v9 = 0 then (
      some ((-2), hp8))
    else (
      (jgI hp8 this 9 6).bind fun v11 =>
      if v11 = 12 then (
        some ((-4), hp8))
      else (
        (jgA hp8 this 9 7).bind fun a14 =>
        (jgI hp8 this 9 6).bind fun v16 =>
        (jaSI hp8 a14 v16 p1).bind fun hp18 =>
        (jgA hp18 this 9 8).bind fun a20 =>
        (jgI hp18 this 9 6).bind fun v22 =>
        (jaSI hp18 a20 v22 p2).bind fun hp24 =>
        (jgA hp24 this 9 9).bind fun a26 =>
        (jgI hp24 this 9 6).bind fun v28 =>
        (jaSI hp24 a26 v28 0).bind fun hp30 =>
        (jgA hp30 this 9 10).bind fun a32 =>
        (jgI hp30 this 9 6).bind fun v34 =>
        (jaSI hp30 a32 v34 0).bind fun hp36 =>
        (jgA hp36 this 9 11).bind fun a38 =>
        (jgI hp36 this 9 6).bind fun v40 =>
        (jaSI hp36 a38 v40 (-1)).bind fun hp42 =>
        (jgI hp42 this 9 6).bind fun v44 =>
        (jpF hp42 this 9 6 (.int (v44 + 1))).bind fun hp46 =>
        (jgI hp46 this 9 6).bind fun v48 =>
        some ((v48 - 1), hp46))))
def f_X5_warm (this : Nat) (p1 : Int32) (hp : jH) : Option (Int32 × jH) :=
  (jis hp this 9).bind fun u1 =>
  jb (f_X5_isDie this p1 hp) fun v5 hp4 =>
  if v5 = 0 then (
    some ((-2), hp4))
  else (
    (jgA hp4 this 9 11).bind fun a7 =>
    (jaI hp4 a7 .int p1).bind fun v9 =>
    if v9 = (-1) then (
      (jgA hp4 this 9 11).bind fun a12 =>
      (jgI hp4 this 9 12).bind fun v14 =>
      (jaSI hp4 a12 p1 v14).bind fun hp16 =>
      some (1, hp16))
    else (
      some ((-3), hp4)))
def f_X5_cool (this : Nat) (p1 : Int32) (hp : jH) : Option (Int32 × jH) :=
  (jis hp this 9).bind fun u1 =>
  jb (f_X5_isDie this p1 hp) fun v5 hp4 =>
  if v5 = 0 then (
    some ((-2), hp4))
  else (
    (jgA hp4 this 9 11).bind fun a7 =>
    (jaI hp4 a7 .int p1).bind fun v9 =>
    if v9 = (-1) then (
      some ((-3), hp4))
    else (
      (jgI hp4 this 9 12).bind fun v12 =>
      (jgA hp4 this 9 11).bind fun a14 =>
      (jaI hp4 a14 .int p1).bind fun v16 =>
      (jgA hp4 this 9 11).bind fun a18 =>
      (jaSI hp4 a18 p1 (-1)).bind fun hp20 =>
      some ((v12 - v16), hp20)))
def f_X5_nitride (this : Nat) (p1 : Int32) (hp : jH) : Option (Int32 × jH) :=
  (jis hp this 9).bind fun u1 =>
  jb (f_X5_isDie this p1 hp) fun v5 hp4 =>
  if v5 = 0 then (
    some ((-2), hp4))
  else (
    (jgA hp4 this 9 11).bind fun a7 =>
    (jaI hp4 a7 .int p1).bind fun v9 =>
    if v9 = (-1) then (
      (jgA hp4 this 9 9).bind fun a12 =>
      (jaI hp4 a12 .int p1).bind fun v14 =>
      (jgA hp4 this 9 9).bind fun a16 =>
      (jaSI hp4 a16 p1 0).bind fun hp18 =>
      some (v14, hp18))
    else (
      some ((-3), hp4)))
def f_X5_mayPress (this : Nat) (p1 : Int32) (hp : jH) : Option (Int32 × jH) :=
  (jgA hp this 9 11).bind fun a1 =>
  (jaI hp a1 .int p1).bind fun v3 =>
  if v3 = (-1) then (
    some (0, hp))
  else (
    (jgI hp this 9 12).bind fun v6 =>
    (jgA hp this 9 11).bind fun a8 =>
    (jaI hp a8 .int p1).bind fun v10 =>
    jb (f_X5_in ((v6 - v10).toInt64) (3 : Int64) (12 : Int64) hp) fun v14 hp13 =>
    if v14 = 0 then (
      some (0, hp13))
    else (
      (jgA hp13 this 9 9).bind fun a16 =>
      (jaI hp13 a16 .int p1).bind fun v18 =>
      (jgA hp13 this 9 8).bind fun a20 =>
      (jaI hp13 a20 .int p1).bind fun v22 =>
      if v22 ≤ v18 then (
        some (0, hp13))
      else (
        some (1, hp13))))
def f_X5_about (this : Nat) (p1 : Int32) (p2 : Int32) (hp : jH) : Option (Int32 × jH) :=
  (jis hp this 9).bind fun u1 =>
  jb (f_X5_isDie this p1 hp) fun v5 hp4 =>
  if v5 = 0 then (
    some ((-2), hp4))
  else (
    if p2 = 0 then (
      (jgA hp4 this 9 7).bind fun a8 =>
      (jaI hp4 a8 .int p1).bind fun v10 =>
      some (v10, hp4))
    else if p2 = 1 then (
      (jgA hp4 this 9 8).bind fun a13 =>
      (jaI hp4 a13 .int p1).bind fun v15 =>
      some (v15, hp4))
    else if p2 = 2 then (
      (jgA hp4 this 9 9).bind fun a18 =>
      (jaI hp4 a18 .int p1).bind fun v20 =>
      some (v20, hp4))
    else if p2 = 3 then (
      (jgA hp4 this 9 11).bind fun a23 =>
      (jaI hp4 a23 .int p1).bind fun v25 =>
      if v25 = (-1) then (
        some ((-1), hp4))
      else (
        (jgI hp4 this 9 12).bind fun v28 =>
        (jgA hp4 this 9 11).bind fun a30 =>
        (jaI hp4 a30 .int p1).bind fun v32 =>
        some ((v28 - v32), hp4)))
    else if p2 = 4 then (
      (jis hp4 this 9).bind fun u35 =>
      jb (f_X5_mayPress this p1 hp4) fun v39 hp38 =>
      if v39 = 0 then (
        some (0, hp38))
      else (
        some (1, hp38)))
    else if p2 = 5 then (
      (jgA hp4 this 9 10).bind fun a42 =>
      (jaI hp4 a42 .int p1).bind fun v44 =>
      some (v44, hp4))
    else (
      some ((-2), hp4)))
def f_X5_ready_j63 (K15 : Nat → Int32 → Int32 → Int32 → jH → Option (Int32 × jH)) (xa_0 : Nat) (xi_1 : Int32) (xi_2 : Int32) (xi_3 : Int32) (hp : jH) : Option (Int32 × jH) :=
  K15 xa_0 xi_1 xi_2 (xi_3 + 1) hp
def f_X5_ready_j61 (K15 : Nat → Int32 → Int32 → Int32 → jH → Option (Int32 × jH)) (xa_0 : Nat) (xi_1 : Int32) (xi_3 : Int32) (hp : jH) : Option (Int32 × jH) :=
  f_X5_ready_j63 K15 xa_0 xi_1 xi_3 xi_3 hp
def f_X5_ready_L15  : Nat → Nat → Int32 → Int32 → Int32 → jH → Option (Int32 × jH)
  | 0, _, _, _, _, _ => none
  | N + 1, xa_0, xi_1, xi_2, xi_3, hp =>
    (jgI hp xa_0 9 6).bind fun v7 =>
    if v7 ≤ xi_3 then (
      some (xi_2, hp))
    else (
      (jgA hp xa_0 9 7).bind fun a10 =>
      (jaI hp a10 .int xi_3).bind fun v12 =>
      if v12 = xi_1 then (
        (jis hp xa_0 9).bind fun u15 =>
        jb (f_X5_mayPress xa_0 xi_3 hp) fun v19 hp18 =>
        if v19 = 0 then (
          f_X5_ready_j63 (fun z0 z1 z2 z3 z4 => f_X5_ready_L15 N z0 z1 z2 z3 z4) xa_0 xi_1 xi_2 xi_3 hp18)
        else (
          if xi_2 = (-1) then (
            f_X5_ready_j61 (fun z0 z1 z2 z3 z4 => f_X5_ready_L15 N z0 z1 z2 z3 z4) xa_0 xi_1 xi_3 hp18)
          else (
            (jgA hp18 xa_0 9 9).bind fun a22 =>
            (jaI hp18 a22 .int xi_3).bind fun v24 =>
            (jgA hp18 xa_0 9 9).bind fun a26 =>
            (jaI hp18 a26 .int xi_2).bind fun v28 =>
            if v28 ≤ v24 then (
              f_X5_ready_j63 (fun z0 z1 z2 z3 z4 => f_X5_ready_L15 N z0 z1 z2 z3 z4) xa_0 xi_1 xi_2 xi_3 hp18)
            else (
              f_X5_ready_j61 (fun z0 z1 z2 z3 z4 => f_X5_ready_L15 N z0 z1 z2 z3 z4) xa_0 xi_1 xi_3 hp18))))
      else (
        f_X5_ready_j63 (fun z0 z1 z2 z3 z4 => f_X5_ready_L15 N z0 z1 z2 z3 z4) xa_0 xi_1 xi_2 xi_3 hp))
def f_X5_ready (this : Nat) (p1 : Int32) (hp : jH) : Option (Int32 × jH) :=
  (jis hp this 9).bind fun u1 =>
  jb (f_X5_isProfile this p1 hp) fun v5 hp4 =>
  if v5 = 0 then (
    some ((-2), hp4))
  else (
    f_X5_ready_L15 300 this p1 (-1) 0 hp4)
def f_X5_pass (this : Nat) (p1 : Int32) (hp : jH) : Option (Int32 × jH) :=
  jb (f_X5_in p1.toInt64 (1 : Int64) (100 : Int64) hp) fun v3 hp2 =>
  if v3 = 0 then (
    some ((-2), hp2))
  else (
    (jgI hp2 this 9 12).bind fun v5 =>
    (jpF hp2 this 9 12 (.int (v5 + p1))).bind fun hp7 =>
    (jgI hp7 this 9 12).bind fun v9 =>
    some (v9, hp7))
def f_X5_law_j39  (xa_0 : Nat) (xi_1 : Int32) (xi_2 : Int32) (xl_s0 : Int64) (xl_s1 : Int64) (xl_s2 : Int64) (hp : jH) : Option (Int32 × jH) :=
  jb (f_X5_in xl_s0 xl_s1 xl_s2 hp) fun v9 hp8 =>
  if v9 = 0 then (
    some ((-2), hp8))
  else (
    (jgA hp8 xa_0 9 0).bind fun a11 =>
    (jaI hp8 a11 .int xi_1).bind fun v13 =>
    (jgA hp8 xa_0 9 0).bind fun a15 =>
    (jaSI hp8 a15 xi_1 xi_2).bind fun hp17 =>
    some (v13, hp17))
def f_X5_law (this : Nat) (p1 : Int32) (p2 : Int32) (hp : jH) : Option (Int32 × jH) :=
  jb (f_X5_in p1.toInt64 (0 : Int64) (5 : Int64) hp) fun v3 hp2 =>
  if v3 = 0 then (
    some ((-2), hp2))
  else (
    if p1 = 0 then (
      f_X5_law_j39 this p1 p2 p2.toInt64 (0 : Int64) (100 : Int64) hp2)
    else (
      if 4 ≤ p1 then (
        f_X5_law_j39 this p1 p2 p2.toInt64 (0 : Int64) (20 : Int64) hp2)
      else (
        f_X5_law_j39 this p1 p2 p2.toInt64 (0 : Int64) (5000 : Int64) hp2)))
def f_X5_most (this : Nat) (p1 : Int32) (p2 : Int32) (hp : jH) : Option (Int32 × jH) :=
  (jgA hp this 9 25).bind fun a1 =>
  (jaI hp a1 .int p1).bind fun v3 =>
  if p2 < v3 then (
    (jgA hp this 9 27).bind fun a6 =>
    (jaI hp a6 .int ((3 * p1) + p2)).bind fun v8 =>
    if v8 ≤ 60 then (
      (jgA hp this 9 27).bind fun a11 =>
      (jaI hp a11 .int ((3 * p1) + p2)).bind fun v13 =>
      some (v13, hp))
    else (
      some (60, hp)))
  else (
    some (0, hp))
def f_X5_lengthOf (this : Nat) (p1 : Int32) (p2 : Int32) (hp : jH) : Option (Int32 × jH) :=
  (jgA hp this 9 25).bind fun a1 =>
  (jaI hp a1 .int p1).bind fun v3 =>
  if v3 ≤ p2 then (
    some (0, hp))
  else (
    (jgA hp this 9 26).bind fun a6 =>
    (jaI hp a6 .int ((3 * p1) + p2)).bind fun v8 =>
    some (v8, hp))
def f_X5_findPattern_j243 (K25 : Nat → Int32 → Int32 → Int32 → Int32 → jH → Option jH) (K38 : Nat → Int32 → Int32 → Int32 → Int32 → Int32 → jH → Option jH) (xa_0 : Nat) (xi_1 : Int32) (xi_3 : Int32) (xi_4 : Int32) (xi_5 : Int32) (xi_6 : Int32) (hp : jH) : Option jH :=
  K38 xa_0 xi_1 xi_3 xi_4 xi_5 (xi_6 + (-1)) hp
def f_X5_findPattern_j203 (K25 : Nat → Int32 → Int32 → Int32 → Int32 → jH → Option jH) (K38 : Nat → Int32 → Int32 → Int32 → Int32 → Int32 → jH → Option jH) (xa_0 : Nat) (xi_1 : Int32) (xi_3 : Int32) (xi_5 : Int32) (xi_6 : Int32) (xi_8 : Int32) (xi_9 : Int32) (hp : jH) : Option jH :=
  (jpF hp xa_0 9 29 (.int xi_9)).bind fun hp77 =>
  (jgA hp77 xa_0 9 28).bind fun a79 =>
  (jaSI hp77 a79 0 xi_5).bind fun hp81 =>
  (jgA hp81 xa_0 9 28).bind fun a83 =>
  (jaSI hp81 a83 1 xi_6).bind fun hp85 =>
  (jgA hp85 xa_0 9 28).bind fun a87 =>
  (jaSI hp85 a87 2 xi_8).bind fun hp89 =>
  f_X5_findPattern_j243 K25 K38 xa_0 xi_1 xi_3 ((xi_5 + xi_6) + xi_8) xi_5 xi_6 hp89
def f_X5_findPattern_j139 (K25 : Nat → Int32 → Int32 → Int32 → Int32 → jH → Option jH) (K38 : Nat → Int32 → Int32 → Int32 → Int32 → Int32 → jH → Option jH) (xa_0 : Nat) (xi_1 : Int32) (xi_3 : Int32) (xi_4 : Int32) (xi_5 : Int32) (xi_6 : Int32) (xi_s0 : Int32) (hp : jH) : Option jH :=
  (jis hp xa_0 9).bind fun u59 =>
  jb (f_X5_lengthOf xa_0 xi_1 0 hp) fun v63 hp62 =>
  (jis hp62 xa_0 9).bind fun u64 =>
  jb (f_X5_lengthOf xa_0 xi_1 1 hp62) fun v68 hp67 =>
  (jis hp67 xa_0 9).bind fun u69 =>
  jb (f_X5_lengthOf xa_0 xi_1 2 hp67) fun v73 hp72 =>
  (jgI hp72 xa_0 9 29).bind fun v74 =>
  if v74 < (((xi_5 * v63) + (xi_6 * v68)) + (xi_s0 * v73)) then (
    f_X5_findPattern_j203 K25 K38 xa_0 xi_1 xi_3 xi_5 xi_6 xi_s0 (((xi_5 * v63) + (xi_6 * v68)) + (xi_s0 * v73)) hp72)
  else (
    (jgI hp72 xa_0 9 29).bind fun v91 =>
    if (((xi_5 * v63) + (xi_6 * v68)) + (xi_s0 * v73)) = v91 then (
      if xi_4 ≤ ((xi_5 + xi_6) + xi_s0) then (
        f_X5_findPattern_j243 K25 K38 xa_0 xi_1 xi_3 xi_4 xi_5 xi_6 hp72)
      else (
        f_X5_findPattern_j203 K25 K38 xa_0 xi_1 xi_3 xi_5 xi_6 xi_s0 (((xi_5 * v63) + (xi_6 * v68)) + (xi_s0 * v73)) hp72))
    else (
      f_X5_findPattern_j243 K25 K38 xa_0 xi_1 xi_3 xi_4 xi_5 xi_6 hp72))
def f_X5_findPattern_j115 (K25 : Nat → Int32 → Int32 → Int32 → Int32 → jH → Option jH) (K38 : Nat → Int32 → Int32 → Int32 → Int32 → Int32 → jH → Option jH) (xa_0 : Nat) (xi_1 : Int32) (xi_3 : Int32) (xi_4 : Int32) (xi_5 : Int32) (xi_6 : Int32) (xi_s0 : Int32) (hp : jH) : Option jH :=
  (jis hp xa_0 9).bind fun u53 =>
  jb (f_X5_most xa_0 xi_1 2 hp) fun v57 hp56 =>
  if xi_s0 ≤ v57 then (
    f_X5_findPattern_j139 K25 K38 xa_0 xi_1 xi_3 xi_4 xi_5 xi_6 xi_s0 hp56)
  else (
    (jis hp56 xa_0 9).bind fun u95 =>
    jb (f_X5_most xa_0 xi_1 2 hp56) fun v99 hp98 =>
    f_X5_findPattern_j139 K25 K38 xa_0 xi_1 xi_3 xi_4 xi_5 xi_6 v99 hp98)
def f_X5_findPattern_L38 (K25 : Nat → Int32 → Int32 → Int32 → Int32 → jH → Option jH) : Nat → Nat → Int32 → Int32 → Int32 → Int32 → Int32 → jH → Option jH
  | 0, _, _, _, _, _, _, _ => none
  | N + 1, xa_0, xi_1, xi_3, xi_4, xi_5, xi_6, hp =>
    if xi_6 < 0 then (
      K25 xa_0 xi_1 xi_3 xi_4 (xi_5 + (-1)) hp)
    else (
      (jis hp xa_0 9).bind fun u19 =>
      jb (f_X5_lengthOf xa_0 xi_1 0 hp) fun v23 hp22 =>
      (jgA hp22 xa_0 9 0).bind fun a24 =>
      (jaI hp22 a24 .int 4).bind fun v26 =>
      (jis hp22 xa_0 9).bind fun u28 =>
      jb (f_X5_lengthOf xa_0 xi_1 1 hp22) fun v32 hp31 =>
      (jgA hp31 xa_0 9 0).bind fun a33 =>
      (jaI hp31 a33 .int 4).bind fun v35 =>
      if ((xi_3 - (xi_5 * (v23 + v26))) - (xi_6 * (v32 + v35))) < 0 then (
        f_X5_findPattern_j243 K25 (fun z0 z1 z2 z3 z4 z5 z6 => f_X5_findPattern_L38 K25 N z0 z1 z2 z3 z4 z5 z6) xa_0 xi_1 xi_3 xi_4 xi_5 xi_6 hp31)
      else (
        (jgA hp31 xa_0 9 25).bind fun a38 =>
        (jaI hp31 a38 .int xi_1).bind fun v40 =>
        if 3 ≤ v40 then (
          (jis hp31 xa_0 9).bind fun u43 =>
          jb (f_X5_lengthOf xa_0 xi_1 2 hp31) fun v47 hp46 =>
          (jgA hp46 xa_0 9 0).bind fun a48 =>
          (jaI hp46 a48 .int 4).bind fun v50 =>
          if (v47 + v50) = 0 then none else
          f_X5_findPattern_j115 K25 (fun z0 z1 z2 z3 z4 z5 z6 => f_X5_findPattern_L38 K25 N z0 z1 z2 z3 z4 z5 z6) xa_0 xi_1 xi_3 xi_4 xi_5 xi_6 (((xi_3 - (xi_5 * (v23 + v26))) - (xi_6 * (v32 + v35))) / (v47 + v50)) hp46)
        else (
          f_X5_findPattern_j115 K25 (fun z0 z1 z2 z3 z4 z5 z6 => f_X5_findPattern_L38 K25 N z0 z1 z2 z3 z4 z5 z6) xa_0 xi_1 xi_3 xi_4 xi_5 xi_6 0 hp31)))
def f_X5_findPattern_L25  : Nat → Nat → Int32 → Int32 → Int32 → Int32 → jH → Option jH
  | 0, _, _, _, _, _, _ => none
  | N + 1, xa_0, xi_1, xi_3, xi_4, xi_5, hp =>
    if xi_5 < 0 then (
      some hp)
    else (
      (jis hp xa_0 9).bind fun u13 =>
      jb (f_X5_most xa_0 xi_1 1 hp) fun v17 hp16 =>
      f_X5_findPattern_L38 (fun z0 z1 z2 z3 z4 z5 => f_X5_findPattern_L25 N z0 z1 z2 z3 z4 z5) 300 xa_0 xi_1 xi_3 xi_4 xi_5 v17 hp16)
def f_X5_findPattern (this : Nat) (p1 : Int32) (p2 : Int32) (hp : jH) : Option jH :=
  (jgA hp this 9 0).bind fun a1 =>
  (jaI hp a1 .int 4).bind fun v3 =>
  (jpF hp this 9 29 (.int (-1))).bind fun hp5 =>
  (jis hp5 this 9).bind fun u7 =>
  jb (f_X5_most this p1 0 hp5) fun v11 hp10 =>
  f_X5_findPattern_L25 300 this p1 (p2 + v3) 0 v11 hp10
def f_X5_findBar_j173  (xa_0 : Nat) (xi_1 : Int32) (xi_5 : Int32) (xa_s0 : Nat) (xi_s1 : Int32) (hp : jH) : Option jH :=
  (jpF hp xa_s0 9 33 (.int xi_s1)).bind fun hp54 =>
  (jgI hp54 xa_0 9 33).bind fun v56 =>
  (jpF hp54 xa_0 9 34 (.int (xi_5 - v56))).bind fun hp58 =>
  (jgI hp58 xa_0 9 34).bind fun v60 =>
  (jis hp58 xa_0 9).bind fun u62 =>
  (f_X5_findPattern xa_0 xi_1 v60 hp58).bind fun hp65 =>
  some hp65
def f_X5_findBar_j123  (xa_0 : Nat) (xi_1 : Int32) (xi_3 : Int32) (xa_s0 : Nat) (xi_s1 : Int32) (hp : jH) : Option jH :=
  (jpF hp xa_s0 9 32 (.int xi_s1)).bind fun hp40 =>
  (jgI hp40 xa_0 9 30).bind fun v42 =>
  (jgI hp40 xa_0 9 31).bind fun v44 =>
  (jgI hp40 xa_0 9 32).bind fun v46 =>
  if xi_3 = 0 then (
    f_X5_findBar_j173 xa_0 xi_1 ((v42 - v44) - v46) xa_0 0 hp40)
  else (
    (jgA hp40 xa_0 9 0).bind fun a49 =>
    (jaI hp40 a49 .int 3).bind fun v51 =>
    if ((v42 - v44) - v46) ≤ v51 then (
      f_X5_findBar_j173 xa_0 xi_1 ((v42 - v44) - v46) xa_0 ((v42 - v44) - v46) hp40)
    else (
      (jgA hp40 xa_0 9 0).bind fun a66 =>
      (jaI hp40 a66 .int 3).bind fun v68 =>
      f_X5_findBar_j173 xa_0 xi_1 ((v42 - v44) - v46) xa_0 v68 hp40))
def f_X5_findBar_j83  (xa_0 : Nat) (xi_1 : Int32) (xi_3 : Int32) (xa_s0 : Nat) (xi_s1 : Int32) (hp : jH) : Option jH :=
  (jpF hp xa_s0 9 31 (.int xi_s1)).bind fun hp25 =>
  (jgA hp25 xa_0 9 0).bind fun a27 =>
  (jaI hp25 a27 .int 2).bind fun v29 =>
  (jgI hp25 xa_0 9 30).bind fun v31 =>
  (jgI hp25 xa_0 9 31).bind fun v33 =>
  if (v31 - v33) ≤ v29 then (
    (jgI hp25 xa_0 9 30).bind fun v36 =>
    (jgI hp25 xa_0 9 31).bind fun v38 =>
    f_X5_findBar_j123 xa_0 xi_1 xi_3 xa_0 (v36 - v38) hp25)
  else (
    (jgA hp25 xa_0 9 0).bind fun a70 =>
    (jaI hp25 a70 .int 2).bind fun v72 =>
    f_X5_findBar_j123 xa_0 xi_1 xi_3 xa_0 v72 hp25)
def f_X5_findBar_j22  (xa_0 : Nat) (xi_1 : Int32) (xi_3 : Int32) (xi_s0 : Int32) (hp : jH) : Option jH :=
  (jgA hp xa_0 9 3).bind fun a6 =>
  (jaI hp a6 .int xi_1).bind fun v8 =>
  (jgA hp xa_0 9 0).bind fun a10 =>
  (jaI hp a10 .int 5).bind fun v12 =>
  (jpF hp xa_0 9 30 (.int ((((xi_s0.toInt64 * v8.toInt64) * ((1000 + v12).toInt64)) / (1000 : Int64)).toInt32))).bind fun hp14 =>
  (jgA hp14 xa_0 9 0).bind fun a16 =>
  (jaI hp14 a16 .int 1).bind fun v18 =>
  (jgI hp14 xa_0 9 30).bind fun v20 =>
  if v20 ≤ v18 then (
    (jgI hp14 xa_0 9 30).bind fun v23 =>
    f_X5_findBar_j83 xa_0 xi_1 xi_3 xa_0 v23 hp14)
  else (
    (jgA hp14 xa_0 9 0).bind fun a74 =>
    (jaI hp14 a74 .int 1).bind fun v76 =>
    f_X5_findBar_j83 xa_0 xi_1 xi_3 xa_0 v76 hp14)
def f_X5_findBar (this : Nat) (p1 : Int32) (p2 : Int32) (p3 : Int32) (hp : jH) : Option jH :=
  (jgA hp this 9 0).bind fun a1 =>
  (jaI hp a1 .int 0).bind fun v3 =>
  if p2 ≤ v3 then (
    f_X5_findBar_j22 this p1 p3 0 hp)
  else (
    (jgA hp this 9 0).bind fun a78 =>
    (jaI hp a78 .int 0).bind fun v80 =>
    f_X5_findBar_j22 this p1 p3 (p2 - v80) hp)
def f_X5_press_L91  : Nat → Nat → Int32 → Int32 → Int32 → Int32 → jH → Option (Int32 × jH)
  | 0, _, _, _, _, _, _ => none
  | N + 1, xa_0, xi_1, xi_2, xi_3, xi_4, hp =>
    (jgA hp xa_0 9 25).bind fun a31 =>
    (jaI hp a31 .int xi_3).bind fun v33 =>
    if v33 ≤ xi_4 then (
      (jgA hp xa_0 9 14).bind fun a36 =>
      (jgI hp xa_0 9 13).bind fun v38 =>
      (jaSI hp a36 v38 xi_1).bind fun hp40 =>
      (jgA hp40 xa_0 9 15).bind fun a42 =>
      (jgI hp40 xa_0 9 13).bind fun v44 =>
      (jaSI hp40 a42 v44 xi_2).bind fun hp46 =>
      (jgA hp46 xa_0 9 16).bind fun a48 =>
      (jgI hp46 xa_0 9 13).bind fun v50 =>
      (jgI hp46 xa_0 9 30).bind fun v52 =>
      (jaSI hp46 a48 v50 v52).bind fun hp54 =>
      (jgA hp54 xa_0 9 17).bind fun a56 =>
      (jgI hp54 xa_0 9 13).bind fun v58 =>
      (jgI hp54 xa_0 9 29).bind fun v60 =>
      (jaSI hp54 a56 v58 v60).bind fun hp62 =>
      (jgA hp62 xa_0 9 18).bind fun a64 =>
      (jgI hp62 xa_0 9 13).bind fun v66 =>
      (jgI hp62 xa_0 9 34).bind fun v68 =>
      (jgI hp62 xa_0 9 29).bind fun v70 =>
      (jaSI hp62 a64 v66 (v68 - v70)).bind fun hp72 =>
      (jgA hp72 xa_0 9 19).bind fun a74 =>
      (jgI hp72 xa_0 9 13).bind fun v76 =>
      (jgI hp72 xa_0 9 33).bind fun v78 =>
      (jaSI hp72 a74 v76 v78).bind fun hp80 =>
      (jgA hp80 xa_0 9 20).bind fun a82 =>
      (jgI hp80 xa_0 9 13).bind fun v84 =>
      (jaSI hp80 a82 v84 (-1)).bind fun hp86 =>
      (jgA hp86 xa_0 9 21).bind fun a88 =>
      (jgI hp86 xa_0 9 13).bind fun v90 =>
      (jaSI hp86 a88 v90 (-1)).bind fun hp92 =>
      (jgI hp92 xa_0 9 13).bind fun v94 =>
      (jpF hp92 xa_0 9 13 (.int (v94 + 1))).bind fun hp96 =>
      (jgA hp96 xa_0 9 24).bind fun a98 =>
      (jaL hp96 a98 0).bind fun v100 =>
      (jgI hp96 xa_0 9 31).bind fun v102 =>
      (jaSL hp96 a98 0 (v100 + v102.toInt64)).bind fun hp104 =>
      (jgA hp104 xa_0 9 24).bind fun a106 =>
      (jaL hp104 a106 1).bind fun v108 =>
      (jgI hp104 xa_0 9 32).bind fun v110 =>
      (jaSL hp104 a106 1 (v108 + v110.toInt64)).bind fun hp112 =>
      (jgA hp112 xa_0 9 24).bind fun a114 =>
      (jaL hp112 a114 2).bind fun v116 =>
      (jgI hp112 xa_0 9 33).bind fun v118 =>
      (jaSL hp112 a114 2 (v116 + v118.toInt64)).bind fun hp120 =>
      (jgA hp120 xa_0 9 24).bind fun a122 =>
      (jaL hp120 a122 3).bind fun v124 =>
      (jgI hp120 xa_0 9 29).bind fun v126 =>
      (jaSL hp120 a122 3 (v124 + v126.toInt64)).bind fun hp128 =>
      (jgA hp128 xa_0 9 24).bind fun a130 =>
      (jaL hp128 a130 4).bind fun v132 =>
      (jgI hp128 xa_0 9 34).bind fun v134 =>
      (jgI hp128 xa_0 9 29).bind fun v136 =>
      (jaSL hp128 a130 4 (v132 + ((v134 - v136).toInt64))).bind fun hp138 =>
      (jgA hp138 xa_0 9 24).bind fun a140 =>
      (jaL hp138 a140 5).bind fun v142 =>
      (jgI hp138 xa_0 9 30).bind fun v144 =>
      (jaSL hp138 a140 5 (v142 + v144.toInt64)).bind fun hp146 =>
      (jgA hp146 xa_0 9 24).bind fun a148 =>
      (jaL hp146 a148 6).bind fun v150 =>
      (jaSL hp146 a148 6 (v150 + xi_2.toInt64)).bind fun hp152 =>
      (jgA hp152 xa_0 9 9).bind fun a154 =>
      (jaI hp152 a154 .int xi_1).bind fun v156 =>
      (jaSI hp152 a154 xi_1 (v156 + 1)).bind fun hp158 =>
      (jgA hp158 xa_0 9 10).bind fun a160 =>
      (jaI hp158 a160 .int xi_1).bind fun v162 =>
      (jaSI hp158 a160 xi_1 (v162 + 1)).bind fun hp164 =>
      (jpF hp164 xa_0 9 22 (.int xi_1)).bind fun hp166 =>
      (jgI hp166 xa_0 9 12).bind fun v168 =>
      (jpF hp166 xa_0 9 23 (.int v168)).bind fun hp170 =>
      (jgI hp170 xa_0 9 12).bind fun v172 =>
      (jpF hp170 xa_0 9 12 (.int (v172 + 1))).bind fun hp174 =>
      (jgI hp174 xa_0 9 29).bind fun v176 =>
      some (v176, hp174))
    else (
      (jgA hp xa_0 9 27).bind fun a178 =>
      (jaI hp a178 .int ((3 * xi_3) + xi_4)).bind fun v180 =>
      (jgA hp xa_0 9 28).bind fun a182 =>
      (jaI hp a182 .int xi_4).bind fun v184 =>
      (jaSI hp a178 ((3 * xi_3) + xi_4) (v180 - v184)).bind fun hp186 =>
      f_X5_press_L91 N xa_0 xi_1 xi_2 xi_3 (xi_4 + 1) hp186)
def f_X5_press_j85  (xa_0 : Nat) (xi_1 : Int32) (xi_2 : Int32) (xi_3 : Int32) (xa_s0 : Nat) (xi_s1 : Int32) (xi_s2 : Int32) (xi_s3 : Int32) (hp : jH) : Option (Int32 × jH) :=
  (jis hp xa_s0 9).bind fun u27 =>
  (f_X5_findBar xa_s0 xi_s1 xi_s2 xi_s3 hp).bind fun hp30 =>
  f_X5_press_L91 300 xa_0 xi_1 xi_2 xi_3 0 hp30
def f_X5_press_j84  (xa_0 : Nat) (xi_1 : Int32) (xi_2 : Int32) (xi_3 : Int32) (xa_s0 : Nat) (xi_s1 : Int32) (xi_s2 : Int32) (hp : jH) : Option (Int32 × jH) :=
  f_X5_press_j85 xa_0 xi_1 xi_2 xi_3 xa_s0 xi_s1 xi_s2 0 hp
def f_X5_press (this : Nat) (p1 : Int32) (p2 : Int32) (hp : jH) : Option (Int32 × jH) :=
  (jis hp this 9).bind fun u1 =>
  jb (f_X5_isDie this p1 hp) fun v5 hp4 =>
  if v5 = 0 then (
    some ((-2), hp4))
  else (
    jb (f_X5_in p2.toInt64 (200 : Int64) (1200 : Int64) hp4) fun v9 hp8 =>
    if v9 = 0 then (
      some ((-2), hp8))
    else (
      (jis hp8 this 9).bind fun u11 =>
      jb (f_X5_mayPress this p1 hp8) fun v15 hp14 =>
      if v15 = 0 then (
        some ((-3), hp14))
      else (
        (jgI hp14 this 9 13).bind fun v17 =>
        if v17 = 200 then (
          some ((-4), hp14))
        else (
          (jgA hp14 this 9 7).bind fun a20 =>
          (jaI hp14 a20 .int p1).bind fun v22 =>
          (jgI hp14 this 9 22).bind fun v24 =>
          if v24 = p1 then (
            (jgI hp14 this 9 23).bind fun v188 =>
            (jgI hp14 this 9 12).bind fun v190 =>
            if v188 = (v190 - 1) then (
              f_X5_press_j85 this p1 p2 v22 this v22 p2 1 hp14)
            else (
              f_X5_press_j84 this p1 p2 v22 this v22 p2 hp14))
          else (
            f_X5_press_j84 this p1 p2 v22 this v22 p2 hp14)))))
def f_X5_isBar (this : Nat) (p1 : Int32) (hp : jH) : Option (Int32 × jH) :=
  (jgI hp this 9 13).bind fun v1 =>
  jb (f_X5_in p1.toInt64 (0 : Int64) ((v1 - 1).toInt64) hp) fun v5 hp4 =>
  if ¬ (v5 = 0 ∨ v5 = 1) then none else
  some (v5, hp4)
def f_X5_bar (this : Nat) (p1 : Int32) (p2 : Int32) (hp : jH) : Option (Int32 × jH) :=
  (jis hp this 9).bind fun u1 =>
  jb (f_X5_isBar this p1 hp) fun v5 hp4 =>
  if v5 = 0 then (
    some ((-2), hp4))
  else (
    if p2 = 0 then (
      (jgA hp4 this 9 14).bind fun a8 =>
      (jaI hp4 a8 .int p1).bind fun v10 =>
      some (v10, hp4))
    else if p2 = 1 then (
      (jgA hp4 this 9 15).bind fun a13 =>
      (jaI hp4 a13 .int p1).bind fun v15 =>
      some (v15, hp4))
    else if p2 = 2 then (
      (jgA hp4 this 9 16).bind fun a18 =>
      (jaI hp4 a18 .int p1).bind fun v20 =>
      some (v20, hp4))
    else if p2 = 3 then (
      (jgA hp4 this 9 17).bind fun a23 =>
      (jaI hp4 a23 .int p1).bind fun v25 =>
      some (v25, hp4))
    else if p2 = 4 then (
      (jgA hp4 this 9 18).bind fun a28 =>
      (jaI hp4 a28 .int p1).bind fun v30 =>
      some (v30, hp4))
    else if p2 = 5 then (
      (jgA hp4 this 9 19).bind fun a33 =>
      (jaI hp4 a33 .int p1).bind fun v35 =>
      some (v35, hp4))
    else if p2 = 6 then (
      (jgA hp4 this 9 20).bind fun a38 =>
      (jaI hp4 a38 .int p1).bind fun v40 =>
      some (v40, hp4))
    else (
      some ((-2), hp4)))
def f_X5_order (this : Nat) (p1 : Int32) (p2 : Int32) (p3 : Int32) (hp : jH) : Option (Int32 × jH) :=
  (jis hp this 9).bind fun u1 =>
  jb (f_X5_isProfile this p1 hp) fun v5 hp4 =>
  if v5 = 0 then (
    some ((-2), hp4))
  else (
    jb (f_X5_in p2.toInt64 (100 : Int64) (9000 : Int64) hp4) fun v9 hp8 =>
    if v9 = 0 then (
      some ((-2), hp8))
    else (
      jb (f_X5_in p3.toInt64 (0 : Int64) (500 : Int64) hp8) fun v13 hp12 =>
      if v13 = 0 then (
        some ((-2), hp12))
      else (
        (jgA hp12 this 9 25).bind fun a15 =>
        (jaI hp12 a15 .int p1).bind fun v17 =>
        if v17 = 3 then (
          some ((-4), hp12))
        else (
          (jgA hp12 this 9 26).bind fun a20 =>
          (jgA hp12 this 9 25).bind fun a22 =>
          (jaI hp12 a22 .int p1).bind fun v24 =>
          (jaSI hp12 a20 ((3 * p1) + v24) p2).bind fun hp26 =>
          (jgA hp26 this 9 27).bind fun a28 =>
          (jgA hp26 this 9 25).bind fun a30 =>
          (jaI hp26 a30 .int p1).bind fun v32 =>
          (jaSI hp26 a28 ((3 * p1) + v32) p3).bind fun hp34 =>
          (jgA hp34 this 9 25).bind fun a36 =>
          (jaI hp34 a36 .int p1).bind fun v38 =>
          (jaSI hp34 a36 p1 (v38 + 1)).bind fun hp40 =>
          (jgA hp40 this 9 25).bind fun a42 =>
          (jaI hp40 a42 .int p1).bind fun v44 =>
          some ((v44 - 1), hp40)))))
def f_X5_wanted (this : Nat) (p1 : Int32) (p2 : Int32) (hp : jH) : Option (Int32 × jH) :=
  (jis hp this 9).bind fun u1 =>
  jb (f_X5_isProfile this p1 hp) fun v5 hp4 =>
  if v5 = 0 then (
    some ((-2), hp4))
  else (
    (jgA hp4 this 9 25).bind fun a7 =>
    (jaI hp4 a7 .int p1).bind fun v9 =>
    jb (f_X5_in p2.toInt64 (0 : Int64) ((v9 - 1).toInt64) hp4) fun v13 hp12 =>
    if v13 = 0 then (
      some ((-2), hp12))
    else (
      (jgA hp12 this 9 27).bind fun a15 =>
      (jaI hp12 a15 .int ((3 * p1) + p2)).bind fun v17 =>
      some (v17, hp12)))
def f_X5_pattern (this : Nat) (p1 : Int32) (p2 : Int32) (p3 : Int32) (hp : jH) : Option (Int32 × jH) :=
  (jis hp this 9).bind fun u1 =>
  jb (f_X5_isProfile this p1 hp) fun v5 hp4 =>
  if v5 = 0 then (
    some ((-2), hp4))
  else (
    jb (f_X5_in p2.toInt64 (0 : Int64) (200000 : Int64) hp4) fun v9 hp8 =>
    if v9 = 0 then (
      some ((-2), hp8))
    else (
      jb (f_X5_in p3.toInt64 (0 : Int64) (3 : Int64) hp8) fun v13 hp12 =>
      if v13 = 0 then (
        some ((-2), hp12))
      else (
        (jis hp12 this 9).bind fun u15 =>
        (f_X5_findPattern this p1 p2 hp12).bind fun hp18 =>
        if p3 = 3 then (
          (jgI hp18 this 9 29).bind fun v24 =>
          some (v24, hp18))
        else (
          (jgA hp18 this 9 28).bind fun a20 =>
          (jaI hp18 a20 .int p3).bind fun v22 =>
          some (v22, hp18)))))
def f_X5_account (this : Nat) (p1 : Int32) (hp : jH) : Option (Int32 × jH) :=
  jb (f_X5_in p1.toInt64 (0 : Int64) (6 : Int64) hp) fun v3 hp2 =>
  if v3 = 0 then (
    some ((-2), hp2))
  else (
    (jgA hp2 this 9 24).bind fun a5 =>
    (jaL hp2 a5 p1).bind fun v7 =>
    some (v7.toInt32, hp2))
def f_X5_stock (this : Nat) (p1 : Int32) (hp : jH) : Option (Int32 × jH) :=
  jb (f_X5_in p1.toInt64 (200 : Int64) (1200 : Int64) hp) fun v3 hp2 =>
  if v3 = 0 then (
    some ((-2), hp2))
  else (
    (jgI hp2 this 9 35).bind fun v5 =>
    if v5 = 6 then (
      some ((-4), hp2))
    else (
      (jgA hp2 this 9 36).bind fun a8 =>
      (jgI hp2 this 9 35).bind fun v10 =>
      (jaSI hp2 a8 v10 p1).bind fun hp12 =>
      (jgI hp12 this 9 35).bind fun v14 =>
      (jpF hp12 this 9 35 (.int (v14 + 1))).bind fun hp16 =>
      (jgI hp16 this 9 35).bind fun v18 =>
      some (v18, hp16)))
def f_X5_best_j136 (K19 : Nat → Int32 → Int32 → Int32 → Int32 → Int32 → jH → Option (Int32 × jH)) (xa_0 : Nat) (xi_1 : Int32) (xi_2 : Int32) (xi_3 : Int32) (xi_4 : Int32) (xi_5 : Int32) (hp : jH) : Option (Int32 × jH) :=
  K19 xa_0 xi_1 xi_2 xi_3 xi_4 (xi_5 + 1) hp
def f_X5_best_j122 (K19 : Nat → Int32 → Int32 → Int32 → Int32 → Int32 → jH → Option (Int32 × jH)) (xa_0 : Nat) (xi_1 : Int32) (xi_2 : Int32) (xi_5 : Int32) (hp : jH) : Option (Int32 × jH) :=
  (jgA hp xa_0 9 36).bind fun a34 =>
  (jaI hp a34 .int xi_5).bind fun v36 =>
  (jgI hp xa_0 9 29).bind fun v38 =>
  f_X5_best_j136 K19 xa_0 xi_1 xi_2 v36 v38 xi_5 hp
def f_X5_best_j93 (K19 : Nat → Int32 → Int32 → Int32 → Int32 → Int32 → jH → Option (Int32 × jH)) (xa_0 : Nat) (xi_1 : Int32) (xi_2 : Int32) (xi_3 : Int32) (xi_4 : Int32) (xi_5 : Int32) (xl_6 : Int64) (xl_s0 : Int64) (hp : jH) : Option (Int32 × jH) :=
  if 0 < (lg_cmp xl_6 xl_s0) then (
    f_X5_best_j122 K19 xa_0 xi_1 xi_2 xi_5 hp)
  else (
    if (lg_cmp xl_6 xl_s0) = 0 then (
      (jgA hp xa_0 9 36).bind fun a41 =>
      (jaI hp a41 .int xi_5).bind fun v43 =>
      if xi_3 ≤ v43 then (
        f_X5_best_j136 K19 xa_0 xi_1 xi_2 xi_3 xi_4 xi_5 hp)
      else (
        f_X5_best_j122 K19 xa_0 xi_1 xi_2 xi_5 hp))
    else (
      f_X5_best_j136 K19 xa_0 xi_1 xi_2 xi_3 xi_4 xi_5 hp))
def f_X5_best_j70 (K19 : Nat → Int32 → Int32 → Int32 → Int32 → Int32 → jH → Option (Int32 × jH)) (xa_0 : Nat) (xi_1 : Int32) (xi_2 : Int32) (xi_3 : Int32) (xi_4 : Int32) (xi_5 : Int32) (xl_s0 : Int64) (hp : jH) : Option (Int32 × jH) :=
  if xi_3 = (-1) then (
    f_X5_best_j93 K19 xa_0 xi_1 xi_2 xi_3 xi_4 xi_5 xl_s0 (0 : Int64) hp)
  else (
    (jgA hp xa_0 9 36).bind fun a29 =>
    (jaI hp a29 .int xi_5).bind fun v31 =>
    f_X5_best_j93 K19 xa_0 xi_1 xi_2 xi_3 xi_4 xi_5 xl_s0 (xi_4.toInt64 * v31.toInt64) hp)
def f_X5_best_L19  : Nat → Nat → Int32 → Int32 → Int32 → Int32 → Int32 → jH → Option (Int32 × jH)
  | 0, _, _, _, _, _, _, _ => none
  | N + 1, xa_0, xi_1, xi_2, xi_3, xi_4, xi_5, hp =>
    (jgI hp xa_0 9 35).bind fun v7 =>
    if v7 ≤ xi_5 then (
      some (xi_3, hp))
    else (
      (jgA hp xa_0 9 7).bind fun a10 =>
      (jaI hp a10 .int xi_1).bind fun v12 =>
      (jgA hp xa_0 9 36).bind fun a14 =>
      (jaI hp a14 .int xi_5).bind fun v16 =>
      (jis hp xa_0 9).bind fun u18 =>
      (f_X5_findBar xa_0 v12 v16 xi_2 hp).bind fun hp21 =>
      (jgI hp21 xa_0 9 29).bind fun v22 =>
      if v22 ≤ 0 then (
        f_X5_best_j136 (fun z0 z1 z2 z3 z4 z5 z6 => f_X5_best_L19 N z0 z1 z2 z3 z4 z5 z6) xa_0 xi_1 xi_2 xi_3 xi_4 xi_5 hp21)
      else (
        if xi_3 = (-1) then (
          f_X5_best_j70 (fun z0 z1 z2 z3 z4 z5 z6 => f_X5_best_L19 N z0 z1 z2 z3 z4 z5 z6) xa_0 xi_1 xi_2 xi_3 xi_4 xi_5 (1 : Int64) hp21)
        else (
          (jgI hp21 xa_0 9 29).bind fun v26 =>
          f_X5_best_j70 (fun z0 z1 z2 z3 z4 z5 z6 => f_X5_best_L19 N z0 z1 z2 z3 z4 z5 z6) xa_0 xi_1 xi_2 xi_3 xi_4 xi_5 (v26.toInt64 * xi_3.toInt64) hp21)))
def f_X5_best (this : Nat) (p1 : Int32) (p2 : Int32) (hp : jH) : Option (Int32 × jH) :=
  (jis hp this 9).bind fun u1 =>
  jb (f_X5_isDie this p1 hp) fun v5 hp4 =>
  if v5 = 0 then (
    some ((-2), hp4))
  else (
    f_X5_best_L19 300 this p1 p2 (-1) 0 0 hp4)
def f_X5_job (this : Nat) (p1 : Int32) (p2 : Int32) (p3 : Int32) (hp : jH) : Option (Int32 × jH) :=
  (jis hp this 9).bind fun u1 =>
  jb (f_X5_isProfile this p1 hp) fun v5 hp4 =>
  if v5 = 0 then (
    some ((-2), hp4))
  else (
    jb (f_X5_in p2.toInt64 (1 : Int64) (50 : Int64) hp4) fun v9 hp8 =>
    if v9 = 0 then (
      some ((-2), hp8))
    else (
      jb (f_X5_in p3.toInt64 (0 : Int64) (1000 : Int64) hp8) fun v13 hp12 =>
      if v13 = 0 then (
        some ((-2), hp12))
      else (
        (jgI hp12 this 9 37).bind fun v15 =>
        if v15 = 7 then (
          some ((-4), hp12))
        else (
          (jgA hp12 this 9 38).bind fun a18 =>
          (jgI hp12 this 9 37).bind fun v20 =>
          (jaSI hp12 a18 v20 p1).bind fun hp22 =>
          (jgA hp22 this 9 39).bind fun a24 =>
          (jgI hp22 this 9 37).bind fun v26 =>
          (jaSI hp22 a24 v26 p2).bind fun hp28 =>
          (jgA hp28 this 9 40).bind fun a30 =>
          (jgI hp28 this 9 37).bind fun v32 =>
          (jaSI hp28 a30 v32 p3).bind fun hp34 =>
          (jgI hp34 this 9 37).bind fun v36 =>
          (jpF hp34 this 9 37 (.int (v36 + 1))).bind fun hp38 =>
          (jgI hp38 this 9 37).bind fun v40 =>
          some ((v40 - 1), hp38)))))
def f_X5_change (this : Nat) (p1 : Int32) (hp : jH) : Option (Int32 × jH) :=
  jb (f_X5_in p1.toInt64 (0 : Int64) (20 : Int64) hp) fun v3 hp2 =>
  if v3 = 0 then (
    some ((-2), hp2))
  else (
    (jgI hp2 this 9 41).bind fun v5 =>
    (jpF hp2 this 9 41 (.int p1)).bind fun hp7 =>
    some (v5, hp7))
def f_X5_nextRow_L107  : Nat → Nat → Int32 → Int32 → jH → Option (Int32 × jH)
  | 0, _, _, _, _ => none
  | N + 1, xa_0, xi_4, xi_5, hp =>
    if xi_5 ≤ xi_4 then (
      some (1, hp))
    else (
      (jgA hp xa_0 9 42).bind fun a35 =>
      (jaI hp a35 .int xi_4).bind fun v37 =>
      (jgA hp xa_0 9 42).bind fun a39 =>
      (jgA hp xa_0 9 42).bind fun a41 =>
      (jaI hp a41 .int xi_5).bind fun v43 =>
      (jaSI hp a39 xi_4 v43).bind fun hp45 =>
      (jgA hp45 xa_0 9 42).bind fun a47 =>
      (jaSI hp45 a47 xi_5 v37).bind fun hp49 =>
      f_X5_nextRow_L107 N xa_0 (xi_4 + 1) (xi_5 + (-1)) hp49)
def f_X5_nextRow_L47  : Nat → Nat → Int32 → Int32 → jH → Option (Int32 × jH)
  | 0, _, _, _, _ => none
  | N + 1, xa_0, xi_1, xi_2, hp =>
    (jgA hp xa_0 9 42).bind fun a7 =>
    (jaI hp a7 .int xi_2).bind fun v9 =>
    (jgA hp xa_0 9 42).bind fun a11 =>
    (jaI hp a11 .int xi_1).bind fun v13 =>
    if v13 ≤ v9 then (
      (jgA hp xa_0 9 42).bind fun a16 =>
      (jaI hp a16 .int xi_1).bind fun v18 =>
      (jgA hp xa_0 9 42).bind fun a20 =>
      (jgA hp xa_0 9 42).bind fun a22 =>
      (jaI hp a22 .int xi_2).bind fun v24 =>
      (jaSI hp a20 xi_1 v24).bind fun hp26 =>
      (jgA hp26 xa_0 9 42).bind fun a28 =>
      (jaSI hp26 a28 xi_2 v18).bind fun hp30 =>
      (jgI hp30 xa_0 9 37).bind fun v32 =>
      f_X5_nextRow_L107 300 xa_0 (xi_1 + 1) (v32 - 1) hp30)
    else (
      f_X5_nextRow_L47 N xa_0 xi_1 (xi_2 + (-1)) hp)
def f_X5_nextRow_j34  (xa_0 : Nat) (xi_1 : Int32) (hp : jH) : Option (Int32 × jH) :=
  if 0 ≤ xi_1 then (
    (jgI hp xa_0 9 37).bind fun v5 =>
    f_X5_nextRow_L47 300 xa_0 xi_1 (v5 - 1) hp)
  else (
    some (0, hp))
def f_X5_nextRow_L7  : Nat → Nat → Int32 → jH → Option (Int32 × jH)
  | 0, _, _, _ => none
  | N + 1, xa_0, xi_1, hp =>
    if xi_1 < 0 then (
      f_X5_nextRow_j34 xa_0 xi_1 hp)
    else (
      (jgA hp xa_0 9 42).bind fun a51 =>
      (jaI hp a51 .int xi_1).bind fun v53 =>
      (jgA hp xa_0 9 42).bind fun a55 =>
      (jaI hp a55 .int (xi_1 + 1)).bind fun v57 =>
      if v53 ≤ v57 then (
        f_X5_nextRow_j34 xa_0 xi_1 hp)
      else (
        f_X5_nextRow_L7 N xa_0 (xi_1 + (-1)) hp))
def f_X5_nextRow (this : Nat) (hp : jH) : Option (Int32 × jH) :=
  (jgI hp this 9 37).bind fun v1 =>
  f_X5_nextRow_L7 300 this (v1 - 2) hp
def f_X5_findOrder_j229 (K40 : Nat → Int32 → Int32 → Int32 → jH → Option (Int32 × jH)) (xa_0 : Nat) (xi_1 : Int32) (xi_2 : Int32) (hp : jH) : Option (Int32 × jH) :=
  (jis hp xa_0 9).bind fun u16 =>
  jb (f_X5_nextRow xa_0 hp) fun v20 hp19 =>
  K40 xa_0 xi_1 xi_2 v20 hp19
def f_X5_findOrder_L200 (K40 : Nat → Int32 → Int32 → Int32 → jH → Option (Int32 × jH)) : Nat → Nat → Int32 → Int32 → Int32 → jH → Option (Int32 × jH)
  | 0, _, _, _, _, _ => none
  | N + 1, xa_0, xi_1, xi_2, xi_6, hp =>
    (jgI hp xa_0 9 37).bind fun v13 =>
    if v13 ≤ xi_6 then (
      f_X5_findOrder_j229 K40 xa_0 xi_1 xi_2 hp)
    else (
      (jgA hp xa_0 9 43).bind fun a21 =>
      (jgA hp xa_0 9 42).bind fun a23 =>
      (jaI hp a23 .int xi_6).bind fun v25 =>
      (jaSI hp a21 xi_6 v25).bind fun hp27 =>
      f_X5_findOrder_L200 K40 N xa_0 xi_1 xi_2 (xi_6 + 1) hp27)
def f_X5_findOrder_j191 (K40 : Nat → Int32 → Int32 → Int32 → jH → Option (Int32 × jH)) (xa_0 : Nat) (xi_4 : Int32) (xi_5 : Int32) (hp : jH) : Option (Int32 × jH) :=
  f_X5_findOrder_L200 K40 300 xa_0 xi_5 xi_4 0 hp
def f_X5_findOrder_j159 (K40 : Nat → Int32 → Int32 → Int32 → jH → Option (Int32 × jH)) (K53 : Nat → Int32 → Int32 → Int32 → Int32 → Int32 → jH → Option (Int32 × jH)) (xa_0 : Nat) (xi_1 : Int32) (xi_2 : Int32) (xi_4 : Int32) (xi_6 : Int32) (xi_s0 : Int32) (xi_s1 : Int32) (hp : jH) : Option (Int32 × jH) :=
  K53 xa_0 xi_1 xi_2 xi_4 (xi_s0 + xi_s1) (xi_6 + 1) hp
def f_X5_findOrder_j119 (K40 : Nat → Int32 → Int32 → Int32 → jH → Option (Int32 × jH)) (K53 : Nat → Int32 → Int32 → Int32 → Int32 → Int32 → jH → Option (Int32 × jH)) (xa_0 : Nat) (xi_1 : Int32) (xi_2 : Int32) (xi_4 : Int32) (xi_5 : Int32) (xi_6 : Int32) (xi_7 : Int32) (hp : jH) : Option (Int32 × jH) :=
  (jgA hp xa_0 9 39).bind fun a37 =>
  (jaI hp a37 .int xi_7).bind fun v39 =>
  (jgA hp xa_0 9 40).bind fun a41 =>
  (jaI hp a41 .int xi_7).bind fun v43 =>
  if (xi_4 + v39) ≤ v43 then (
    f_X5_findOrder_j159 K40 K53 xa_0 xi_1 xi_2 (xi_4 + v39) xi_6 xi_5 0 hp)
  else (
    (jgA hp xa_0 9 40).bind fun a46 =>
    (jaI hp a46 .int xi_7).bind fun v48 =>
    f_X5_findOrder_j159 K40 K53 xa_0 xi_1 xi_2 (xi_4 + v39) xi_6 xi_5 ((xi_4 + v39) - v48) hp)
def f_X5_findOrder_L53 (K40 : Nat → Int32 → Int32 → Int32 → jH → Option (Int32 × jH)) : Nat → Nat → Int32 → Int32 → Int32 → Int32 → Int32 → jH → Option (Int32 × jH)
  | 0, _, _, _, _, _, _, _ => none
  | N + 1, xa_0, xi_1, xi_2, xi_4, xi_5, xi_6, hp =>
    (jgI hp xa_0 9 37).bind fun v9 =>
    if v9 ≤ xi_6 then (
      if xi_1 = (-1) then (
        f_X5_findOrder_j191 K40 xa_0 xi_4 xi_5 hp)
      else (
        if xi_5 < xi_1 then (
          f_X5_findOrder_j191 K40 xa_0 xi_4 xi_5 hp)
        else (
          if xi_5 = xi_1 then (
            if xi_2 ≤ xi_4 then (
              f_X5_findOrder_j229 K40 xa_0 xi_1 xi_2 hp)
            else (
              f_X5_findOrder_j191 K40 xa_0 xi_4 xi_5 hp))
          else (
            f_X5_findOrder_j229 K40 xa_0 xi_1 xi_2 hp))))
    else (
      (jgA hp xa_0 9 42).bind fun a32 =>
      (jaI hp a32 .int xi_6).bind fun v34 =>
      if xi_6 ≤ 0 then (
        f_X5_findOrder_j119 K40 (fun z0 z1 z2 z3 z4 z5 z6 => f_X5_findOrder_L53 K40 N z0 z1 z2 z3 z4 z5 z6) xa_0 xi_1 xi_2 xi_4 xi_5 xi_6 v34 hp)
      else (
        (jgA hp xa_0 9 2).bind fun a50 =>
        (jgA hp xa_0 9 38).bind fun a52 =>
        (jaI hp a52 .int v34).bind fun v54 =>
        (jaI hp a50 .int v54).bind fun v56 =>
        (jgA hp xa_0 9 2).bind fun a58 =>
        (jgA hp xa_0 9 38).bind fun a60 =>
        (jgA hp xa_0 9 42).bind fun a62 =>
        (jaI hp a62 .int (xi_6 - 1)).bind fun v64 =>
        (jaI hp a60 .int v64).bind fun v66 =>
        (jaI hp a58 .int v66).bind fun v68 =>
        if v56 = v68 then (
          f_X5_findOrder_j119 K40 (fun z0 z1 z2 z3 z4 z5 z6 => f_X5_findOrder_L53 K40 N z0 z1 z2 z3 z4 z5 z6) xa_0 xi_1 xi_2 xi_4 xi_5 xi_6 v34 hp)
        else (
          (jgI hp xa_0 9 41).bind fun v71 =>
          f_X5_findOrder_j119 K40 (fun z0 z1 z2 z3 z4 z5 z6 => f_X5_findOrder_L53 K40 N z0 z1 z2 z3 z4 z5 z6) xa_0 xi_1 xi_2 (xi_4 + v71) xi_5 xi_6 v34 hp)))
def f_X5_findOrder_L40  : Nat → Nat → Int32 → Int32 → Int32 → jH → Option (Int32 × jH)
  | 0, _, _, _, _, _ => none
  | N + 1, xa_0, xi_1, xi_2, xi_3, hp =>
    if xi_3 = 0 then (
      if xi_1 = (-1) then (
        some (0, hp))
      else (
        some (xi_1, hp)))
    else (
      f_X5_findOrder_L53 (fun z0 z1 z2 z3 z4 => f_X5_findOrder_L40 N z0 z1 z2 z3 z4) 300 xa_0 xi_1 xi_2 0 0 0 hp)
def f_X5_findOrder_j39  (xa_0 : Nat) (xi_1 : Int32) (xi_2 : Int32) (xi_s0 : Int32) (hp : jH) : Option (Int32 × jH) :=
  f_X5_findOrder_L40 5100 xa_0 xi_1 xi_2 xi_s0 hp
def f_X5_findOrder_L2  : Nat → Nat → Int32 → jH → Option (Int32 × jH)
  | 0, _, _, _ => none
  | N + 1, xa_0, xi_1, hp =>
    (jgI hp xa_0 9 37).bind fun v1 =>
    if v1 ≤ xi_1 then (
      (jgI hp xa_0 9 37).bind fun v4 =>
      if v4 ≤ 0 then (
        f_X5_findOrder_j39 xa_0 (-1) 0 0 hp)
      else (
        f_X5_findOrder_j39 xa_0 (-1) 0 1 hp))
    else (
      (jgA hp xa_0 9 42).bind fun a73 =>
      (jaSI hp a73 xi_1 xi_1).bind fun hp75 =>
      f_X5_findOrder_L2 N xa_0 (xi_1 + 1) hp75)
def f_X5_findOrder (this : Nat) (hp : jH) : Option (Int32 × jH) :=
  f_X5_findOrder_L2 300 this 0 hp
def f_X5_late (this : Nat) (hp : jH) : Option (Int32 × jH) :=
  (jis hp this 9).bind fun u1 =>
  jb (f_X5_findOrder this hp) fun v5 hp4 =>
  some (v5, hp4)
def f_X5_planned (this : Nat) (p1 : Int32) (hp : jH) : Option (Int32 × jH) :=
  (jgI hp this 9 37).bind fun v1 =>
  jb (f_X5_in p1.toInt64 (0 : Int64) ((v1 - 1).toInt64) hp) fun v5 hp4 =>
  if v5 = 0 then (
    some ((-2), hp4))
  else (
    (jis hp4 this 9).bind fun u7 =>
    jb (f_X5_findOrder this hp4) fun v11 hp10 =>
    (jgA hp10 this 9 43).bind fun a12 =>
    (jaI hp10 a12 .int p1).bind fun v14 =>
    some (v14, hp10))
def f_X5_room (this : Nat) (p1 : Int32) (hp : jH) : Option (Int32 × jH) :=
  jb (f_X5_in p1.toInt64 (1000 : Int64) (1000000 : Int64) hp) fun v3 hp2 =>
  if v3 = 0 then (
    some ((-2), hp2))
  else (
    (jgI hp2 this 9 44).bind fun v5 =>
    (jpF hp2 this 9 44 (.int p1)).bind fun hp7 =>
    some (v5, hp7))
def f_X5_waits (this : Nat) (p1 : Int32) (hp : jH) : Option (Int32 × jH) :=
  (jgA hp this 9 20).bind fun a1 =>
  (jaI hp a1 .int p1).bind fun v3 =>
  if v3 = (-1) then (
    (jgA hp this 9 17).bind fun a6 =>
    (jaI hp a6 .int p1).bind fun v8 =>
    if v8 ≤ 0 then (
      some (0, hp))
    else (
      (jgA hp this 9 46).bind fun a11 =>
      (jaI hp a11 .boolean p1).bind fun v13 =>
      if v13 = 0 then (
        some (1, hp))
      else (
        some (0, hp))))
  else (
    some (0, hp))
def f_X5_noneGone_L2  : Nat → Nat → Int32 → jH → Option jH
  | 0, _, _, _ => none
  | N + 1, xa_0, xi_1, hp =>
    if 200 ≤ xi_1 then (
      some hp)
    else (
      (jgA hp xa_0 9 46).bind fun a2 =>
      (jaSB hp a2 .boolean xi_1 0).bind fun hp4 =>
      f_X5_noneGone_L2 N xa_0 (xi_1 + 1) hp4)
def f_X5_noneGone (this : Nat) (hp : jH) : Option jH :=
  f_X5_noneGone_L2 300 this 0 hp
def f_X5_takes_j166 (K54 : Nat → Int32 → Int32 → Int32 → Int32 → Int32 → jH → Option (Int32 × jH)) (xa_0 : Nat) (xi_1 : Int32) (xi_2 : Int32) (xi_3 : Int32) (xi_4 : Int32) (xi_5 : Int32) (hp : jH) : Option (Int32 × jH) :=
  K54 xa_0 xi_1 xi_2 xi_3 xi_4 (xi_5 + 1) hp
def f_X5_takes_j138 (K54 : Nat → Int32 → Int32 → Int32 → Int32 → Int32 → jH → Option (Int32 × jH)) (xa_0 : Nat) (xi_1 : Int32) (xi_2 : Int32) (xi_3 : Int32) (xi_5 : Int32) (xi_s0 : Int32) (hp : jH) : Option (Int32 × jH) :=
  if xi_s0 = 0 then (
    f_X5_takes_j166 K54 xa_0 xi_1 xi_2 xi_3 xi_s0 xi_5 hp)
  else (
    (jgA hp xa_0 9 46).bind fun a42 =>
    (jaSB hp a42 .boolean xi_5 1).bind fun hp44 =>
    (jgA hp44 xa_0 9 17).bind fun a46 =>
    (jaI hp44 a46 .int xi_5).bind fun v48 =>
    f_X5_takes_j166 K54 xa_0 xi_1 (xi_2 + 1) (xi_3 + v48) xi_s0 xi_5 hp44)
def f_X5_takes_j133 (K54 : Nat → Int32 → Int32 → Int32 → Int32 → Int32 → jH → Option (Int32 × jH)) (xa_0 : Nat) (xi_1 : Int32) (xi_2 : Int32) (xi_3 : Int32) (xi_5 : Int32) (hp : jH) : Option (Int32 × jH) :=
  f_X5_takes_j138 K54 xa_0 xi_1 xi_2 xi_3 xi_5 1 hp
def f_X5_takes_L54  : Nat → Nat → Int32 → Int32 → Int32 → Int32 → Int32 → jH → Option (Int32 × jH)
  | 0, _, _, _, _, _, _, _ => none
  | N + 1, xa_0, xi_1, xi_2, xi_3, xi_4, xi_5, hp =>
    (jgI hp xa_0 9 13).bind fun v5 =>
    if v5 ≤ xi_5 then (
      some (xi_2, hp))
    else (
      if xi_4 = 0 then (
        some (xi_2, hp))
      else (
        (jis hp xa_0 9).bind fun u9 =>
        jb (f_X5_waits xa_0 xi_5 hp) fun v13 hp12 =>
        if v13 = 0 then (
          f_X5_takes_j166 (fun z0 z1 z2 z3 z4 z5 z6 => f_X5_takes_L54 N z0 z1 z2 z3 z4 z5 z6) xa_0 xi_1 xi_2 xi_3 xi_4 xi_5 hp12)
        else (
          (jgA hp12 xa_0 9 4).bind fun a15 =>
          (jgA hp12 xa_0 9 7).bind fun a17 =>
          (jgA hp12 xa_0 9 14).bind fun a19 =>
          (jaI hp12 a19 .int xi_5).bind fun v21 =>
          (jaI hp12 a17 .int v21).bind fun v23 =>
          (jaI hp12 a15 .int v23).bind fun v25 =>
          (jgA hp12 xa_0 9 4).bind fun a27 =>
          (jgA hp12 xa_0 9 7).bind fun a29 =>
          (jgA hp12 xa_0 9 14).bind fun a31 =>
          (jaI hp12 a31 .int xi_1).bind fun v33 =>
          (jaI hp12 a29 .int v33).bind fun v35 =>
          (jaI hp12 a27 .int v35).bind fun v37 =>
          if v25 = v37 then (
            if xi_2 = 0 then (
              f_X5_takes_j133 (fun z0 z1 z2 z3 z4 z5 z6 => f_X5_takes_L54 N z0 z1 z2 z3 z4 z5 z6) xa_0 xi_1 xi_2 xi_3 xi_5 hp12)
            else (
              (jgA hp12 xa_0 9 17).bind fun a50 =>
              (jaI hp12 a50 .int xi_5).bind fun v52 =>
              (jgI hp12 xa_0 9 44).bind fun v54 =>
              if v54 < (xi_3 + v52) then (
                f_X5_takes_j138 (fun z0 z1 z2 z3 z4 z5 z6 => f_X5_takes_L54 N z0 z1 z2 z3 z4 z5 z6) xa_0 xi_1 xi_2 xi_3 xi_5 0 hp12)
              else (
                f_X5_takes_j133 (fun z0 z1 z2 z3 z4 z5 z6 => f_X5_takes_L54 N z0 z1 z2 z3 z4 z5 z6) xa_0 xi_1 xi_2 xi_3 xi_5 hp12)))
          else (
            f_X5_takes_j166 (fun z0 z1 z2 z3 z4 z5 z6 => f_X5_takes_L54 N z0 z1 z2 z3 z4 z5 z6) xa_0 xi_1 xi_2 xi_3 xi_4 xi_5 hp12))))
def f_X5_takes_j37  (xa_0 : Nat) (xi_1 : Int32) (hp : jH) : Option (Int32 × jH) :=
  if xi_1 = (-1) then (
    some (0, hp))
  else (
    f_X5_takes_L54 300 xa_0 xi_1 0 0 1 xi_1 hp)
def f_X5_takes_j30 (K4 : Nat → Int32 → Int32 → jH → Option (Int32 × jH)) (xa_0 : Nat) (xi_2 : Int32) (xi_s0 : Int32) (hp : jH) : Option (Int32 × jH) :=
  K4 xa_0 xi_s0 (xi_2 + 1) hp
def f_X5_takes_L4  : Nat → Nat → Int32 → Int32 → jH → Option (Int32 × jH)
  | 0, _, _, _, _ => none
  | N + 1, xa_0, xi_1, xi_2, hp =>
    (jgI hp xa_0 9 13).bind fun v1 =>
    if v1 ≤ xi_2 then (
      f_X5_takes_j37 xa_0 xi_1 hp)
    else (
      if xi_1 = (-1) then (
        (jis hp xa_0 9).bind fun u58 =>
        jb (f_X5_waits xa_0 xi_2 hp) fun v62 hp61 =>
        if v62 = 0 then (
          f_X5_takes_j30 (fun z0 z1 z2 z3 => f_X5_takes_L4 N z0 z1 z2 z3) xa_0 xi_2 (-1) hp61)
        else (
          f_X5_takes_j30 (fun z0 z1 z2 z3 => f_X5_takes_L4 N z0 z1 z2 z3) xa_0 xi_2 xi_2 hp61))
      else (
        f_X5_takes_j37 xa_0 xi_1 hp))
def f_X5_takes (this : Nat) (hp : jH) : Option (Int32 × jH) :=
  f_X5_takes_L4 300 this (-1) 0 hp
def f_X5_age_j53 (K18 : Nat → Int32 → Int32 → jH → Option (Int32 × jH)) (xa_0 : Nat) (xi_1 : Int32) (xi_2 : Int32) (xa_s0 : Nat) (xi_s1 : Int32) (xi_s2 : Int32) (hp : jH) : Option (Int32 × jH) :=
  (jaSI hp xa_s0 xi_s1 xi_s2).bind fun hp29 =>
  K18 xa_0 xi_1 (xi_2 + 1) hp29
def f_X5_age_L18  : Nat → Nat → Int32 → Int32 → jH → Option (Int32 × jH)
  | 0, _, _, _, _ => none
  | N + 1, xa_0, xi_1, xi_2, hp =>
    (jgI hp xa_0 9 13).bind fun v11 =>
    if v11 ≤ xi_2 then (
      (jgI hp xa_0 9 45).bind fun v14 =>
      (jpF hp xa_0 9 45 (.int (v14 + 1))).bind fun hp16 =>
      some (xi_1, hp16))
    else (
      (jgA hp xa_0 9 20).bind fun a18 =>
      (jgA hp xa_0 9 46).bind fun a20 =>
      (jaI hp a20 .boolean xi_2).bind fun v22 =>
      if v22 = 0 then (
        (jgA hp xa_0 9 20).bind fun a25 =>
        (jaI hp a25 .int xi_2).bind fun v27 =>
        f_X5_age_j53 (fun z0 z1 z2 z3 => f_X5_age_L18 N z0 z1 z2 z3) xa_0 xi_1 xi_2 a18 xi_2 v27 hp)
      else (
        (jgI hp xa_0 9 45).bind fun v31 =>
        f_X5_age_j53 (fun z0 z1 z2 z3 => f_X5_age_L18 N z0 z1 z2 z3) xa_0 xi_1 xi_2 a18 xi_2 v31 hp))
def f_X5_age (this : Nat) (hp : jH) : Option (Int32 × jH) :=
  (jis hp this 9).bind fun u1 =>
  (f_X5_noneGone this hp).bind fun hp4 =>
  (jis hp4 this 9).bind fun u5 =>
  jb (f_X5_takes this hp4) fun v9 hp8 =>
  if v9 = 0 then (
    some ((-3), hp8))
  else (
    f_X5_age_L18 300 this v9 0 hp8)
def f_X5_batches_L6  : Nat → Nat → Int32 → jH → Option (Int32 × jH)
  | 0, _, _, _ => none
  | N + 1, xa_0, xi_1, hp =>
    (jis hp xa_0 9).bind fun u5 =>
    jb (f_X5_takes xa_0 hp) fun v9 hp8 =>
    if v9 ≤ 0 then (
      some (xi_1, hp8))
    else (
      f_X5_batches_L6 N xa_0 (xi_1 + 1) hp8)
def f_X5_batches (this : Nat) (hp : jH) : Option (Int32 × jH) :=
  (jis hp this 9).bind fun u1 =>
  (f_X5_noneGone this hp).bind fun hp4 =>
  f_X5_batches_L6 300 this 0 hp4
def f_X5_sample (this : Nat) (p1 : Int32) (p2 : Int32) (hp : jH) : Option (Int32 × jH) :=
  (jis hp this 9).bind fun u1 =>
  jb (f_X5_isBar this p1 hp) fun v5 hp4 =>
  if v5 = 0 then (
    some ((-2), hp4))
  else (
    (jgA hp4 this 9 21).bind fun a7 =>
    if p2 = 0 then (
      (jaSI hp4 a7 p1 0).bind fun hp10 =>
      some (1, hp10))
    else (
      (jaSI hp4 a7 p1 1).bind fun hp12 =>
      some (1, hp12)))
def f_X5_isSuspect_j124 (K29 : Nat → Int32 → Int32 → Int32 → jH → Option (Int32 × jH)) (xa_0 : Nat) (xi_1 : Int32) (xi_2 : Int32) (xi_3 : Int32) (hp : jH) : Option (Int32 × jH) :=
  K29 xa_0 xi_1 xi_2 (xi_3 + 2) hp
def f_X5_isSuspect_j115 (K29 : Nat → Int32 → Int32 → Int32 → jH → Option (Int32 × jH)) (K42 : Nat → Int32 → Int32 → Int32 → Int32 → Int32 → jH → Option (Int32 × jH)) (xa_0 : Nat) (xi_1 : Int32) (xi_2 : Int32) (xi_3 : Int32) (xi_4 : Int32) (xi_5 : Int32) (hp : jH) : Option (Int32 × jH) :=
  K42 xa_0 xi_1 xi_2 xi_3 xi_4 (xi_5 + xi_3) hp
def f_X5_isSuspect_j114 (K29 : Nat → Int32 → Int32 → Int32 → jH → Option (Int32 × jH)) (K42 : Nat → Int32 → Int32 → Int32 → Int32 → Int32 → jH → Option (Int32 × jH)) (xa_0 : Nat) (xi_1 : Int32) (xi_3 : Int32) (xi_4 : Int32) (xi_5 : Int32) (xi_s0 : Int32) (hp : jH) : Option (Int32 × jH) :=
  f_X5_isSuspect_j115 K29 K42 xa_0 xi_1 xi_s0 xi_3 xi_4 xi_5 hp
def f_X5_isSuspect_j109 (K29 : Nat → Int32 → Int32 → Int32 → jH → Option (Int32 × jH)) (K42 : Nat → Int32 → Int32 → Int32 → Int32 → Int32 → jH → Option (Int32 × jH)) (xa_0 : Nat) (xi_1 : Int32) (xi_3 : Int32) (xi_4 : Int32) (xi_5 : Int32) (hp : jH) : Option (Int32 × jH) :=
  f_X5_isSuspect_j114 K29 K42 xa_0 xi_1 xi_3 xi_4 xi_5 1 hp
def f_X5_isSuspect_j93 (K29 : Nat → Int32 → Int32 → Int32 → jH → Option (Int32 × jH)) (K42 : Nat → Int32 → Int32 → Int32 → Int32 → Int32 → jH → Option (Int32 × jH)) (xa_0 : Nat) (xi_1 : Int32) (xi_2 : Int32) (xi_3 : Int32) (xi_5 : Int32) (xi_s0 : Int32) (hp : jH) : Option (Int32 × jH) :=
  if xi_2 = 0 then (
    (jgA hp xa_0 9 21).bind fun a33 =>
    (jaI hp a33 .int xi_5).bind fun v35 =>
    if v35 = 0 then (
      f_X5_isSuspect_j109 K29 K42 xa_0 xi_1 xi_3 xi_s0 xi_5 hp)
    else (
      f_X5_isSuspect_j114 K29 K42 xa_0 xi_1 xi_3 xi_s0 xi_5 0 hp))
  else (
    f_X5_isSuspect_j109 K29 K42 xa_0 xi_1 xi_3 xi_s0 xi_5 hp)
def f_X5_isSuspect_L42 (K29 : Nat → Int32 → Int32 → Int32 → jH → Option (Int32 × jH)) : Nat → Nat → Int32 → Int32 → Int32 → Int32 → Int32 → jH → Option (Int32 × jH)
  | 0, _, _, _, _, _, _, _ => none
  | N + 1, xa_0, xi_1, xi_2, xi_3, xi_4, xi_5, hp =>
    if xi_5 < 0 then (
      f_X5_isSuspect_j124 K29 xa_0 xi_1 xi_2 xi_3 hp)
    else (
      (jgI hp xa_0 9 13).bind fun v14 =>
      if v14 ≤ xi_5 then (
        f_X5_isSuspect_j124 K29 xa_0 xi_1 xi_2 xi_3 hp)
      else (
        if xi_4 = 0 then (
          (jgA hp xa_0 9 14).bind fun a18 =>
          (jaI hp a18 .int xi_5).bind fun v20 =>
          (jgA hp xa_0 9 14).bind fun a22 =>
          (jaI hp a22 .int xi_1).bind fun v24 =>
          if v20 = v24 then (
            (jgA hp xa_0 9 21).bind fun a27 =>
            (jaI hp a27 .int xi_5).bind fun v29 =>
            if v29 = 1 then (
              f_X5_isSuspect_j93 K29 (fun z0 z1 z2 z3 z4 z5 z6 => f_X5_isSuspect_L42 K29 N z0 z1 z2 z3 z4 z5 z6) xa_0 xi_1 xi_2 xi_3 xi_5 1 hp)
            else (
              f_X5_isSuspect_j93 K29 (fun z0 z1 z2 z3 z4 z5 z6 => f_X5_isSuspect_L42 K29 N z0 z1 z2 z3 z4 z5 z6) xa_0 xi_1 xi_2 xi_3 xi_5 0 hp))
          else (
            f_X5_isSuspect_j115 K29 (fun z0 z1 z2 z3 z4 z5 z6 => f_X5_isSuspect_L42 K29 N z0 z1 z2 z3 z4 z5 z6) xa_0 xi_1 xi_2 xi_3 xi_4 xi_5 hp))
        else (
          f_X5_isSuspect_j124 K29 xa_0 xi_1 xi_2 xi_3 hp)))
def f_X5_isSuspect_L29  : Nat → Nat → Int32 → Int32 → Int32 → jH → Option (Int32 × jH)
  | 0, _, _, _, _, _ => none
  | N + 1, xa_0, xi_1, xi_2, xi_3, hp =>
    if 2 ≤ xi_3 then (
      if ¬ (xi_2 = 0 ∨ xi_2 = 1) then none else
      some (xi_2, hp))
    else (
      f_X5_isSuspect_L42 (fun z0 z1 z2 z3 z4 => f_X5_isSuspect_L29 N z0 z1 z2 z3 z4) 300 xa_0 xi_1 xi_2 xi_3 0 (xi_1 + xi_3) hp)
def f_X5_isSuspect_j26  (xa_0 : Nat) (xi_1 : Int32) (xi_s0 : Int32) (hp : jH) : Option (Int32 × jH) :=
  f_X5_isSuspect_L29 300 xa_0 xi_1 xi_s0 (-1) hp
def f_X5_isSuspect (this : Nat) (p1 : Int32) (hp : jH) : Option (Int32 × jH) :=
  (jgA hp this 9 21).bind fun a1 =>
  (jaI hp a1 .int p1).bind fun v3 =>
  if v3 = 1 then (
    some (0, hp))
  else (
    (jgA hp this 9 21).bind fun a6 =>
    (jaI hp a6 .int p1).bind fun v8 =>
    if v8 = 0 then (
      f_X5_isSuspect_j26 this p1 1 hp)
    else (
      f_X5_isSuspect_j26 this p1 0 hp))
def f_X5_suspect (this : Nat) (p1 : Int32) (hp : jH) : Option (Int32 × jH) :=
  (jis hp this 9).bind fun u1 =>
  jb (f_X5_isBar this p1 hp) fun v5 hp4 =>
  if v5 = 0 then (
    some ((-2), hp4))
  else (
    (jis hp4 this 9).bind fun u7 =>
    jb (f_X5_isSuspect this p1 hp4) fun v11 hp10 =>
    if v11 = 0 then (
      some (0, hp10))
    else (
      some (1, hp10)))
def f_X5_held_j31 (K4 : Nat → Int32 → Int32 → jH → Option (Int32 × jH)) (xa_0 : Nat) (xi_2 : Int32) (xi_s0 : Int32) (xi_s1 : Int32) (hp : jH) : Option (Int32 × jH) :=
  K4 xa_0 (xi_s0 + xi_s1) (xi_2 + 1) hp
def f_X5_held_L4  : Nat → Nat → Int32 → Int32 → jH → Option (Int32 × jH)
  | 0, _, _, _, _ => none
  | N + 1, xa_0, xi_1, xi_2, hp =>
    (jgI hp xa_0 9 13).bind fun v1 =>
    if v1 ≤ xi_2 then (
      some (xi_1, hp))
    else (
      (jis hp xa_0 9).bind fun u4 =>
      jb (f_X5_isSuspect xa_0 xi_2 hp) fun v8 hp7 =>
      if v8 = 0 then (
        f_X5_held_j31 (fun z0 z1 z2 z3 => f_X5_held_L4 N z0 z1 z2 z3) xa_0 xi_2 xi_1 0 hp7)
      else (
        (jgA hp7 xa_0 9 17).bind fun a10 =>
        (jaI hp7 a10 .int xi_2).bind fun v12 =>
        f_X5_held_j31 (fun z0 z1 z2 z3 => f_X5_held_L4 N z0 z1 z2 z3) xa_0 xi_2 xi_1 v12 hp7))
def f_X5_held (this : Nat) (hp : jH) : Option (Int32 × jH) :=
  f_X5_held_L4 300 this 0 0 hp
def f_X5_drift_j110 (K32 : Nat → Int32 → Int32 → Int32 → Int32 → jH → Option (Int32 × jH)) (xa_0 : Nat) (xi_2 : Int32) (xi_3 : Int32) (xi_4 : Int32) (xi_5 : Int32) (hp : jH) : Option (Int32 × jH) :=
  K32 xa_0 xi_2 xi_3 xi_4 (xi_5 + 1) hp
def f_X5_drift_j69 (K32 : Nat → Int32 → Int32 → Int32 → Int32 → jH → Option (Int32 × jH)) (xa_0 : Nat) (xi_2 : Int32) (xi_3 : Int32) (xi_4 : Int32) (xi_5 : Int32) (xi_s0 : Int32) (hp : jH) : Option (Int32 × jH) :=
  jb (f_X5_in xi_s0.toInt64 (1 : Int64) (20000 : Int64) hp) fun v25 hp24 =>
  if v25 = 0 then (
    f_X5_drift_j110 K32 xa_0 xi_2 xi_3 xi_4 xi_5 hp24)
  else (
    (jgA hp24 xa_0 9 5).bind fun a27 =>
    (jgA hp24 xa_0 9 7).bind fun a29 =>
    (jgA hp24 xa_0 9 14).bind fun a31 =>
    (jaI hp24 a31 .int xi_5).bind fun v33 =>
    (jaI hp24 a29 .int v33).bind fun v35 =>
    (jaI hp24 a27 .int v35).bind fun v37 =>
    f_X5_drift_j110 K32 xa_0 xi_2 (xi_3 + (xi_s0 - v37)) (xi_4 + 1) xi_5 hp24)
def f_X5_drift_j58 (K32 : Nat → Int32 → Int32 → Int32 → Int32 → jH → Option (Int32 × jH)) (xa_0 : Nat) (xi_2 : Int32) (xi_3 : Int32) (xi_4 : Int32) (xi_5 : Int32) (hp : jH) : Option (Int32 × jH) :=
  f_X5_drift_j69 K32 xa_0 xi_2 xi_3 xi_4 xi_5 (-1) hp
def f_X5_drift_L32  : Nat → Nat → Int32 → Int32 → Int32 → Int32 → jH → Option (Int32 × jH)
  | 0, _, _, _, _, _, _ => none
  | N + 1, xa_0, xi_2, xi_3, xi_4, xi_5, hp =>
    if xi_2 < xi_5 then (
      if xi_4 = 0 then (
        some ((-100001), hp))
      else (
        if xi_4 = 0 then none else
        if ((xi_3 / xi_4) * xi_4) ≤ xi_3 then (
          some ((xi_3 / xi_4), hp))
        else (
          some (((xi_3 / xi_4) - 1), hp))))
    else (
      (jgA hp xa_0 9 47).bind fun a18 =>
      (jaI hp a18 .int 0).bind fun v20 =>
      if v20 < 0 then (
        f_X5_drift_j58 (fun z0 z1 z2 z3 z4 z5 => f_X5_drift_L32 N z0 z1 z2 z3 z4 z5) xa_0 xi_2 xi_3 xi_4 xi_5 hp)
      else (
        (jgA hp xa_0 9 48).bind fun a39 =>
        (jaI hp a39 .int 0).bind fun v41 =>
        if xi_5 < v41 then (
          (jgA hp xa_0 9 49).bind fun a44 =>
          (jaI hp a44 .int xi_5).bind fun v46 =>
          f_X5_drift_j69 (fun z0 z1 z2 z3 z4 z5 => f_X5_drift_L32 N z0 z1 z2 z3 z4 z5) xa_0 xi_2 xi_3 xi_4 xi_5 v46 hp)
        else (
          f_X5_drift_j58 (fun z0 z1 z2 z3 z4 z5 => f_X5_drift_L32 N z0 z1 z2 z3 z4 z5) xa_0 xi_2 xi_3 xi_4 xi_5 hp)))
def f_X5_drift (this : Nat) (p1 : Int32) (p2 : Int32) (hp : jH) : Option (Int32 × jH) :=
  (jis hp this 9).bind fun u1 =>
  jb (f_X5_isBar this p1 hp) fun v5 hp4 =>
  if v5 = 0 then (
    some ((-100000), hp4))
  else (
    (jis hp4 this 9).bind fun u7 =>
    jb (f_X5_isBar this p2 hp4) fun v11 hp10 =>
    if v11 = 0 then (
      some ((-100000), hp10))
    else (
      if p1 ≤ p2 then (
        f_X5_drift_L32 300 this p2 0 0 p1 hp10)
      else (
        some ((-100000), hp10))))
def f_X5_met (this : Nat) (p1 : Int32) (hp : jH) : Option (Int32 × jH) :=
  (jpF hp this 9 51 (.int p1)).bind fun hp1 =>
  some (((-10) - p1), hp1)
def f_X5_isSheet (p1 : Int32) (hp : jH) : Option (Int32 × jH) :=
  jb (f_X5_in p1.toInt64 (0 : Int64) (3 : Int64) hp) fun v3 hp2 =>
  if ¬ (v3 = 0 ∨ v3 = 1) then none else
  some (v3, hp2)
def f_X5_sheet_L56  : Nat → Nat → Int32 → Int32 → Int32 → jH → Option (Int32 × jH)
  | 0, _, _, _, _, _ => none
  | N + 1, xa_0, xi_1, xi_3, xi_4, hp =>
    if xi_3 ≤ xi_4 then (
      some (xi_3, hp))
    else (
      (jgA hp xa_0 9 49).bind fun a20 =>
      (jaSI hp a20 ((200 * xi_1) + xi_4) 0).bind fun hp22 =>
      f_X5_sheet_L56 N xa_0 xi_1 xi_3 (xi_4 + 1) hp22)
def f_X5_sheet (this : Nat) (p1 : Int32) (p2 : Int32) (p3 : Int32) (hp : jH) : Option (Int32 × jH) :=
  jb (f_X5_isSheet p1 hp) fun v3 hp2 =>
  if v3 = 0 then (
    some ((-2), hp2))
  else (
    jb (f_X5_in p2.toInt64 (0 : Int64) (2 : Int64) hp2) fun v7 hp6 =>
    if v7 = 0 then (
      some ((-2), hp6))
    else (
      if p3 ≤ 200 then (
        if 0 ≤ p3 then (
          (jgA hp6 this 9 47).bind fun a11 =>
          (jaSI hp6 a11 p1 p2).bind fun hp13 =>
          (jgA hp13 this 9 48).bind fun a15 =>
          (jaSI hp13 a15 p1 p3).bind fun hp17 =>
          f_X5_sheet_L56 300 this p1 p3 0 hp17)
        else (
          (jis hp6 this 9).bind fun u24 =>
          jb (f_X5_met this 5 hp6) fun v28 hp27 =>
          some (v28, hp27)))
      else (
        some ((-2), hp6))))
def f_X5_lose (this : Nat) (p1 : Int32) (hp : jH) : Option (Int32 × jH) :=
  jb (f_X5_isSheet p1 hp) fun v3 hp2 =>
  if v3 = 0 then (
    some ((-2), hp2))
  else (
    (jgA hp2 this 9 47).bind fun a5 =>
    (jaI hp2 a5 .int p1).bind fun v7 =>
    if 0 ≤ v7 then (
      (jgA hp2 this 9 47).bind fun a10 =>
      (jaSI hp2 a10 p1 (-1)).bind fun hp12 =>
      (jgA hp12 this 9 48).bind fun a14 =>
      (jaI hp12 a14 .int p1).bind fun v16 =>
      some (v16, hp12))
    else (
      (jis hp2 this 9).bind fun u18 =>
      jb (f_X5_met this 1 hp2) fun v22 hp21 =>
      some (v22, hp21)))
def f_X5_lacks (this : Nat) (p1 : Int32) (p2 : Int32) (p3 : Int32) (hp : jH) : Option (Int32 × jH) :=
  (jgA hp this 9 47).bind fun a1 =>
  (jaI hp a1 .int p1).bind fun v3 =>
  if 0 ≤ v3 then (
    (jgA hp this 9 47).bind fun a6 =>
    (jaI hp a6 .int p1).bind fun v8 =>
    if v8 = p2 then (
      (jgA hp this 9 48).bind fun a11 =>
      (jaI hp a11 .int p1).bind fun v13 =>
      jb (f_X5_in p3.toInt64 (0 : Int64) ((v13 - 1).toInt64) hp) fun v17 hp16 =>
      if v17 = 0 then (
        (jis hp16 this 9).bind fun u19 =>
        jb (f_X5_met this 2 hp16) fun v23 hp22 =>
        some (v23, hp22))
      else (
        some (0, hp16)))
    else (
      (jis hp this 9).bind fun u24 =>
      jb (f_X5_met this 3 hp) fun v28 hp27 =>
      some (v28, hp27)))
  else (
    (jis hp this 9).bind fun u29 =>
    jb (f_X5_met this 1 hp) fun v33 hp32 =>
    some (v33, hp32))
def f_X5_put (this : Nat) (p1 : Int32) (p2 : Int32) (p3 : Int32) (p4 : Int32) (hp : jH) : Option (Int32 × jH) :=
  jb (f_X5_isSheet p1 hp) fun v3 hp2 =>
  if v3 = 0 then (
    some ((-2), hp2))
  else (
    jb (f_X5_in p2.toInt64 (0 : Int64) (2 : Int64) hp2) fun v7 hp6 =>
    if v7 = 0 then (
      some ((-2), hp6))
    else (
      (jis hp6 this 9).bind fun u9 =>
      jb (f_X5_lacks this p1 p2 p3 hp6) fun v13 hp12 =>
      if v13 = 0 then (
        (jgA hp12 this 9 49).bind fun a15 =>
        if p2 = 0 then (
          (jaSI hp12 a15 ((200 * p1) + p3) p4.toInt8.toInt32).bind fun hp23 =>
          some (1, hp23))
        else (
          if p2 = 1 then (
            (jaSI hp12 a15 ((200 * p1) + p3) p4.toInt16.toInt32).bind fun hp21 =>
            some (1, hp21))
          else (
            (jaSI hp12 a15 ((200 * p1) + p3) p4).bind fun hp19 =>
            some (1, hp19))))
      else (
        some (v13, hp12))))
def f_X5_get (this : Nat) (p1 : Int32) (p2 : Int32) (p3 : Int32) (hp : jH) : Option (Int32 × jH) :=
  jb (f_X5_isSheet p1 hp) fun v3 hp2 =>
  if v3 = 0 then (
    some ((-2147483648), hp2))
  else (
    jb (f_X5_in p2.toInt64 (0 : Int64) (2 : Int64) hp2) fun v7 hp6 =>
    if v7 = 0 then (
      some ((-2147483648), hp6))
    else (
      (jis hp6 this 9).bind fun u9 =>
      jb (f_X5_lacks this p1 p2 p3 hp6) fun v13 hp12 =>
      if v13 = 0 then (
        (jgA hp12 this 9 49).bind fun a15 =>
        (jaI hp12 a15 .int ((200 * p1) + p3)).bind fun v17 =>
        some (v17, hp12))
      else (
        some ((-2147483648), hp12))))
def f_X5_copy_L158  : Nat → Nat → Int32 → Int32 → Int32 → Int32 → jH → Option (Int32 × jH)
  | 0, _, _, _, _, _, _ => none
  | N + 1, xa_0, xi_3, xi_4, xi_5, xi_6, hp =>
    if xi_5 ≤ xi_6 then (
      some (1, hp))
    else (
      (jgA hp xa_0 9 49).bind fun a68 =>
      (jgA hp xa_0 9 50).bind fun a70 =>
      (jaI hp a70 .int xi_6).bind fun v72 =>
      (jaSI hp a68 (((200 * xi_3) + xi_4) + xi_6) v72).bind fun hp74 =>
      f_X5_copy_L158 N xa_0 xi_3 xi_4 xi_5 (xi_6 + 1) hp74)
def f_X5_copy_L120  : Nat → Nat → Int32 → Int32 → Int32 → Int32 → Int32 → Int32 → jH → Option (Int32 × jH)
  | 0, _, _, _, _, _, _, _, _ => none
  | N + 1, xa_0, xi_1, xi_2, xi_3, xi_4, xi_5, xi_6, hp =>
    if xi_5 ≤ xi_6 then (
      f_X5_copy_L158 300 xa_0 xi_3 xi_4 xi_5 0 hp)
    else (
      (jgA hp xa_0 9 50).bind fun a76 =>
      (jgA hp xa_0 9 49).bind fun a78 =>
      (jaI hp a78 .int (((200 * xi_1) + xi_2) + xi_6)).bind fun v80 =>
      (jaSI hp a76 xi_6 v80).bind fun hp82 =>
      f_X5_copy_L120 N xa_0 xi_1 xi_2 xi_3 xi_4 xi_5 (xi_6 + 1) hp82)
def f_X5_copy (this : Nat) (p1 : Int32) (p2 : Int32) (p3 : Int32) (p4 : Int32) (p5 : Int32) (hp : jH) : Option (Int32 × jH) :=
  jb (f_X5_isSheet p1 hp) fun v3 hp2 =>
  if v3 = 0 then (
    some ((-2), hp2))
  else (
    jb (f_X5_isSheet p3 hp2) fun v7 hp6 =>
    if v7 = 0 then (
      some ((-2), hp6))
    else (
      (jgA hp6 this 9 47).bind fun a9 =>
      (jaI hp6 a9 .int p1).bind fun v11 =>
      if v11 < 0 then (
        (jis hp6 this 9).bind fun u14 =>
        jb (f_X5_met this 1 hp6) fun v18 hp17 =>
        some (v18, hp17))
      else (
        (jgA hp6 this 9 47).bind fun a19 =>
        (jaI hp6 a19 .int p3).bind fun v21 =>
        if 0 ≤ v21 then (
          (jgA hp6 this 9 47).bind fun a24 =>
          (jaI hp6 a24 .int p1).bind fun v26 =>
          (jgA hp6 this 9 47).bind fun a28 =>
          (jaI hp6 a28 .int p3).bind fun v30 =>
          if v26 = v30 then (
            if p2 < 0 then (
              (jis hp6 this 9).bind fun u34 =>
              jb (f_X5_met this 2 hp6) fun v38 hp37 =>
              some (v38, hp37))
            else (
              if p4 < 0 then (
                (jis hp6 this 9).bind fun u40 =>
                jb (f_X5_met this 2 hp6) fun v44 hp43 =>
                some (v44, hp43))
              else (
                if p5 < 0 then (
                  (jis hp6 this 9).bind fun u46 =>
                  jb (f_X5_met this 2 hp6) fun v50 hp49 =>
                  some (v50, hp49))
                else (
                  (jgA hp6 this 9 48).bind fun a51 =>
                  (jaI hp6 a51 .int p1).bind fun v53 =>
                  if 0 < (lg_cmp (p2.toInt64 + p5.toInt64) v53.toInt64) then (
                    (jis hp6 this 9).bind fun u56 =>
                    jb (f_X5_met this 2 hp6) fun v60 hp59 =>
                    some (v60, hp59))
                  else (
                    (jgA hp6 this 9 48).bind fun a61 =>
                    (jaI hp6 a61 .int p3).bind fun v63 =>
                    if (lg_cmp (p4.toInt64 + p5.toInt64) v63.toInt64) ≤ 0 then (
                      f_X5_copy_L120 300 this p1 p2 p3 p4 p5 0 hp6)
                    else (
                      (jis hp6 this 9).bind fun u84 =>
                      jb (f_X5_met this 2 hp6) fun v88 hp87 =>
                      some (v88, hp87)))))))
          else (
            (jis hp6 this 9).bind fun u89 =>
            jb (f_X5_met this 4 hp6) fun v93 hp92 =>
            some (v93, hp92)))
        else (
          (jis hp6 this 9).bind fun u94 =>
          jb (f_X5_met this 1 hp6) fun v98 hp97 =>
          some (v98, hp97)))))
def f_X5_waiting_j30 (K8 : Nat → Int32 → Int32 → jH → Option (Int32 × jH)) (xa_0 : Nat) (xi_2 : Int32) (xi_s0 : Int32) (xi_s1 : Int32) (hp : jH) : Option (Int32 × jH) :=
  K8 xa_0 (xi_s0 + xi_s1) (xi_2 + 1) hp
def f_X5_waiting_L8  : Nat → Nat → Int32 → Int32 → jH → Option (Int32 × jH)
  | 0, _, _, _, _ => none
  | N + 1, xa_0, xi_1, xi_2, hp =>
    (jgI hp xa_0 9 13).bind fun v5 =>
    if v5 ≤ xi_2 then (
      some (xi_1, hp))
    else (
      (jis hp xa_0 9).bind fun u8 =>
      jb (f_X5_waits xa_0 xi_2 hp) fun v12 hp11 =>
      if v12 = 0 then (
        f_X5_waiting_j30 (fun z0 z1 z2 z3 => f_X5_waiting_L8 N z0 z1 z2 z3) xa_0 xi_2 xi_1 0 hp11)
      else (
        f_X5_waiting_j30 (fun z0 z1 z2 z3 => f_X5_waiting_L8 N z0 z1 z2 z3) xa_0 xi_2 xi_1 1 hp11))
def f_X5_waiting (this : Nat) (hp : jH) : Option (Int32 × jH) :=
  (jis hp this 9).bind fun u1 =>
  (f_X5_noneGone this hp).bind fun hp4 =>
  f_X5_waiting_L8 300 this 0 0 hp4
def f_X5_count (this : Nat) (p1 : Int32) (hp : jH) : Option (Int32 × jH) :=
  if p1 = 0 then (
    (jgI hp this 9 1).bind fun v2 =>
    some (v2, hp))
  else if p1 = 1 then (
    (jgI hp this 9 6).bind fun v5 =>
    some (v5, hp))
  else if p1 = 2 then (
    (jgI hp this 9 12).bind fun v8 =>
    some (v8, hp))
  else if p1 = 3 then (
    (jgI hp this 9 13).bind fun v11 =>
    some (v11, hp))
  else if p1 = 4 then (
    (jgI hp this 9 37).bind fun v14 =>
    some (v14, hp))
  else if p1 = 5 then (
    (jgI hp this 9 45).bind fun v17 =>
    some (v17, hp))
  else if p1 = 6 then (
    (jgI hp this 9 51).bind fun v20 =>
    some (v20, hp))
  else if p1 = 7 then (
    (jis hp this 9).bind fun u23 =>
    jb (f_X5_waiting this hp) fun v27 hp26 =>
    some (v27, hp26))
  else (
    some ((-2), hp))
def f_X5_digest_L174 (K163 : Nat → Int64 → Int32 → jH → Option (Int64 × jH)) : Nat → Nat → Int64 → Int32 → Int32 → jH → Option (Int64 × jH)
  | 0, _, _, _, _, _ => none
  | N + 1, xa_0, xl_1, xi_3, xi_4, hp =>
    (jgA hp xa_0 9 25).bind fun a12 =>
    (jaI hp a12 .int xi_3).bind fun v14 =>
    if v14 ≤ xi_4 then (
      K163 xa_0 xl_1 (xi_3 + 1) hp)
    else (
      (jgA hp xa_0 9 27).bind fun a17 =>
      (jaI hp a17 .int ((3 * xi_3) + xi_4)).bind fun v19 =>
      f_X5_digest_L174 K163 N xa_0 (((31 : Int64) * xl_1) + v19.toInt64) xi_3 (xi_4 + 1) hp)
def f_X5_digest_L163  : Nat → Nat → Int64 → Int32 → jH → Option (Int64 × jH)
  | 0, _, _, _, _ => none
  | N + 1, xa_0, xl_1, xi_3, hp =>
    (jgI hp xa_0 9 1).bind fun v9 =>
    if v9 ≤ xi_3 then (
      some (xl_1, hp))
    else (
      f_X5_digest_L174 (fun z0 z1 z2 z3 => f_X5_digest_L163 N z0 z1 z2 z3) 300 xa_0 xl_1 xi_3 0 hp)
def f_X5_digest_L136  : Nat → Nat → Int64 → Int32 → jH → Option (Int64 × jH)
  | 0, _, _, _, _ => none
  | N + 1, xa_0, xl_1, xi_3, hp =>
    if 7 ≤ xi_3 then (
      f_X5_digest_L163 300 xa_0 xl_1 0 hp)
    else (
      (jis hp xa_0 9).bind fun u21 =>
      jb (f_X5_account xa_0 xi_3 hp) fun v25 hp24 =>
      f_X5_digest_L136 N xa_0 (((31 : Int64) * xl_1) + v25.toInt64) (xi_3 + 1) hp24)
def f_X5_digest_L100 (K89 : Nat → Int64 → Int32 → jH → Option (Int64 × jH)) : Nat → Nat → Int64 → Int32 → Int32 → jH → Option (Int64 × jH)
  | 0, _, _, _, _, _ => none
  | N + 1, xa_0, xl_1, xi_3, xi_4, hp =>
    if 7 ≤ xi_4 then (
      K89 xa_0 xl_1 (xi_3 + 1) hp)
    else (
      (jis hp xa_0 9).bind fun u27 =>
      jb (f_X5_bar xa_0 xi_3 xi_4 hp) fun v31 hp30 =>
      f_X5_digest_L100 K89 N xa_0 (((31 : Int64) * xl_1) + v31.toInt64) xi_3 (xi_4 + 1) hp30)
def f_X5_digest_L89  : Nat → Nat → Int64 → Int32 → jH → Option (Int64 × jH)
  | 0, _, _, _, _ => none
  | N + 1, xa_0, xl_1, xi_3, hp =>
    (jgI hp xa_0 9 13).bind fun v5 =>
    if v5 ≤ xi_3 then (
      f_X5_digest_L136 300 xa_0 xl_1 0 hp)
    else (
      f_X5_digest_L100 (fun z0 z1 z2 z3 => f_X5_digest_L89 N z0 z1 z2 z3) 300 xa_0 xl_1 xi_3 3 hp)
def f_X5_digest_L54 (K43 : Nat → Int64 → Int32 → jH → Option (Int64 × jH)) : Nat → Nat → Int64 → Int32 → Int32 → jH → Option (Int64 × jH)
  | 0, _, _, _, _, _ => none
  | N + 1, xa_0, xl_1, xi_3, xi_4, hp =>
    if 5 ≤ xi_4 then (
      K43 xa_0 xl_1 (xi_3 + 1) hp)
    else (
      (jis hp xa_0 9).bind fun u33 =>
      jb (f_X5_about xa_0 xi_3 xi_4 hp) fun v37 hp36 =>
      f_X5_digest_L54 K43 N xa_0 (((31 : Int64) * xl_1) + v37.toInt64) xi_3 (xi_4 + 1) hp36)
def f_X5_digest_L43  : Nat → Nat → Int64 → Int32 → jH → Option (Int64 × jH)
  | 0, _, _, _, _ => none
  | N + 1, xa_0, xl_1, xi_3, hp =>
    (jgI hp xa_0 9 6).bind fun v2 =>
    if v2 ≤ xi_3 then (
      f_X5_digest_L89 300 xa_0 xl_1 0 hp)
    else (
      f_X5_digest_L54 (fun z0 z1 z2 z3 => f_X5_digest_L43 N z0 z1 z2 z3) 300 xa_0 xl_1 xi_3 2 hp)
def f_X5_digest_j34 (K6 : Nat → Int64 → Int32 → jH → Option (Int64 × jH)) (xa_0 : Nat) (xi_3 : Int32) (xl_s0 : Int64) (hp : jH) : Option (Int64 × jH) :=
  K6 xa_0 xl_s0 (xi_3 + 1) hp
def f_X5_digest_L6  : Nat → Nat → Int64 → Int32 → jH → Option (Int64 × jH)
  | 0, _, _, _, _ => none
  | N + 1, xa_0, xl_1, xi_3, hp =>
    if 8 ≤ xi_3 then (
      f_X5_digest_L43 300 xa_0 xl_1 0 hp)
    else (
      if xi_3 = 6 then (
        f_X5_digest_j34 (fun z0 z1 z2 z3 => f_X5_digest_L6 N z0 z1 z2 z3) xa_0 xi_3 xl_1 hp)
      else (
        (jis hp xa_0 9).bind fun u39 =>
        jb (f_X5_count xa_0 xi_3 hp) fun v43 hp42 =>
        f_X5_digest_j34 (fun z0 z1 z2 z3 => f_X5_digest_L6 N z0 z1 z2 z3) xa_0 xi_3 (((31 : Int64) * xl_1) + v43.toInt64) hp42))
def f_X5_digest (this : Nat) (hp : jH) : Option (Int64 × jH) :=
  f_X5_digest_L6 300 this (17 : Int64) 0 hp
