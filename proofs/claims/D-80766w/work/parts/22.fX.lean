/-! BilletBars: functions that mirror their bytecode (printed by gen/comp.py) -/
set_option maxRecDepth 100000
def f_X0_isProfile (this : Nat) (p1 : Int32) (hp : jH) : Option (Int32 × jH) :=
  (jgI hp this 0 1).bind fun v1 =>
  jb (f_X0_in p1 0 (v1 - 1) hp) fun v5 hp4 =>
  if ¬ (v5 = 0 ∨ v5 = 1) then none else
  some (v5, hp4)
def f_X0_isDie (this : Nat) (p1 : Int32) (hp : jH) : Option (Int32 × jH) :=
  (jgI hp this 0 3).bind fun v1 =>
  jb (f_X0_in p1 0 (v1 - 1) hp) fun v5 hp4 =>
  if ¬ (v5 = 0 ∨ v5 = 1) then none else
  some (v5, hp4)
def f_X0_profile (this : Nat) (p1 : Int32) (p2 : Int32) (p3 : Int32) (p4 : Int32) (hp : jH) : Option (Int32 × jH) :=
  jb (f_X0_in p1 0 2 hp) fun v3 hp2 =>
  if v3 = 0 then (
    some ((-2), hp2))
  else (
    jb (f_X0_in p2 5 80 hp2) fun v7 hp6 =>
    if v7 = 0 then (
      some ((-2), hp6))
    else (
      jb (f_X0_in p3 0 3 hp6) fun v11 hp10 =>
      if v11 = 0 then (
        some ((-2), hp10))
      else (
        jb (f_X0_in p4 100 9999 hp10) fun v15 hp14 =>
        if v15 = 0 then (
          some ((-2), hp14))
        else (
          (jgI hp14 this 0 1).bind fun v17 =>
          if v17 = 8 then (
            some ((-4), hp14))
          else (
            (jgA hp14 this 0 0).bind fun a20 =>
            (jgI hp14 this 0 1).bind fun v22 =>
            (jnew hp14 (64 + 16 * v22.toNatClampNeg) (.inr (4, [.int 0, .int 0, .int 0, .int 0, .null]))).bind fun hp24 =>
            (f_X6_init (64 + 16 * v22.toNatClampNeg) p1 p2 p3 p4 hp24).bind fun hp27 =>
            (jaSR hp27 a20 "BilletBars$Profile" v22 (64 + 16 * v22.toNatClampNeg) 4).bind fun hp28 =>
            (jgI hp28 this 0 1).bind fun v30 =>
            (jpF hp28 this 0 1 (.int (v30 + 1))).bind fun hp32 =>
            (jgI hp32 this 0 1).bind fun v34 =>
            some ((v34 - 1), hp32))))))
def f_X0_die (this : Nat) (p1 : Int32) (p2 : Int32) (hp : jH) : Option (Int32 × jH) :=
  (jis hp this 0).bind fun u1 =>
  jb (f_X0_isProfile this p1 hp) fun v5 hp4 =>
  if v5 = 0 then (
    some ((-2), hp4))
  else (
    jb (f_X0_in p2 1 50 hp4) fun v9 hp8 =>
    if v9 = 0 then (
      some ((-2), hp8))
    else (
      (jgI hp8 this 0 3).bind fun v11 =>
      if v11 = 12 then (
        some ((-4), hp8))
      else (
        (jgA hp8 this 0 2).bind fun a14 =>
        (jgI hp8 this 0 3).bind fun v16 =>
        (jnew hp8 (200 + v16.toNatClampNeg) (.inr (6, [.null, .int 0, .int 0, .int 0, .int 0, .int 0, .int 0]))).bind fun hp18 =>
        (jgI hp18 this 0 3).bind fun v20 =>
        (jgA hp18 this 0 0).bind fun a22 =>
        (jaA hp18 a22 p1).bind fun a24 =>
        (f_X7_init (200 + v16.toNatClampNeg) v20 a24 p2 hp18).bind fun hp27 =>
        (jaSR hp27 a14 "BilletBars$Die" v16 (200 + v16.toNatClampNeg) 6).bind fun hp28 =>
        (jgI hp28 this 0 3).bind fun v30 =>
        (jpF hp28 this 0 3 (.int (v30 + 1))).bind fun hp32 =>
        (jgI hp32 this 0 3).bind fun v34 =>
        some ((v34 - 1), hp32))))
def f_X0_warm (this : Nat) (p1 : Int32) (hp : jH) : Option (Int32 × jH) :=
  (jis hp this 0).bind fun u1 =>
  jb (f_X0_isDie this p1 hp) fun v5 hp4 =>
  if v5 = 0 then (
    some ((-2), hp4))
  else (
    (jgA hp4 this 0 2).bind fun a7 =>
    (jaA hp4 a7 p1).bind fun a9 =>
    (jgI hp4 a9 6 5).bind fun v11 =>
    if v11 = 0 then (
      (jgA hp4 this 0 2).bind fun a14 =>
      (jaA hp4 a14 p1).bind fun a16 =>
      (jpF hp4 a16 6 5 (.int 1)).bind fun hp18 =>
      (jgA hp18 this 0 2).bind fun a20 =>
      (jaA hp18 a20 p1).bind fun a22 =>
      (jgI hp18 this 0 4).bind fun v24 =>
      (jpF hp18 a22 6 6 (.int v24)).bind fun hp26 =>
      some (1, hp26))
    else (
      some ((-3), hp4)))
def f_X0_cool (this : Nat) (p1 : Int32) (hp : jH) : Option (Int32 × jH) :=
  (jis hp this 0).bind fun u1 =>
  jb (f_X0_isDie this p1 hp) fun v5 hp4 =>
  if v5 = 0 then (
    some ((-2), hp4))
  else (
    (jgA hp4 this 0 2).bind fun a7 =>
    (jaA hp4 a7 p1).bind fun a9 =>
    (jgI hp4 a9 6 5).bind fun v11 =>
    if v11 = 0 then (
      some ((-3), hp4))
    else (
      (jgA hp4 this 0 2).bind fun a14 =>
      (jaA hp4 a14 p1).bind fun a16 =>
      (jpF hp4 a16 6 5 (.int 0)).bind fun hp18 =>
      (jgI hp18 this 0 4).bind fun v20 =>
      (jgA hp18 this 0 2).bind fun a22 =>
      (jaA hp18 a22 p1).bind fun a24 =>
      (jgI hp18 a24 6 6).bind fun v26 =>
      some ((v20 - v26), hp18)))
def f_X0_nitride (this : Nat) (p1 : Int32) (hp : jH) : Option (Int32 × jH) :=
  (jis hp this 0).bind fun u1 =>
  jb (f_X0_isDie this p1 hp) fun v5 hp4 =>
  if v5 = 0 then (
    some ((-2), hp4))
  else (
    (jgA hp4 this 0 2).bind fun a7 =>
    (jaA hp4 a7 p1).bind fun a9 =>
    (jgI hp4 a9 6 5).bind fun v11 =>
    if v11 = 0 then (
      (jgA hp4 this 0 2).bind fun a14 =>
      (jaA hp4 a14 p1).bind fun a16 =>
      (jgI hp4 a16 6 3).bind fun v18 =>
      (jgA hp4 this 0 2).bind fun a20 =>
      (jaA hp4 a20 p1).bind fun a22 =>
      (jpF hp4 a22 6 3 (.int 0)).bind fun hp24 =>
      some (v18, hp24))
    else (
      some ((-3), hp4)))
def f_X0_profileOf_L2  : Nat → Nat → Nat → Int32 → jH → Option (Int32 × jH)
  | 0, _, _, _, _ => none
  | N + 1, xa_0, xa_1, xi_2, hp =>
    (jgA hp xa_0 0 0).bind fun a1 =>
    (jaA hp a1 xi_2).bind fun a3 =>
    (jgA hp xa_1 6 0).bind fun a5 =>
    if a3 = a5 then (
      some (xi_2, hp))
    else (
      f_X0_profileOf_L2 N xa_0 xa_1 (xi_2 + 1) hp)
def f_X0_profileOf (this : Nat) (p1 : Nat) (hp : jH) : Option (Int32 × jH) :=
  f_X0_profileOf_L2 300 this p1 0 hp
def f_X0_about (this : Nat) (p1 : Int32) (p2 : Int32) (hp : jH) : Option (Int32 × jH) :=
  (jis hp this 0).bind fun u1 =>
  jb (f_X0_isDie this p1 hp) fun v5 hp4 =>
  if v5 = 0 then (
    some ((-2), hp4))
  else (
    (jgA hp4 this 0 2).bind fun a7 =>
    (jaA hp4 a7 p1).bind fun a9 =>
    if p2 = 0 then (
      (jis hp4 this 0).bind fun u12 =>
      jb (f_X0_profileOf this a9 hp4) fun v16 hp15 =>
      some (v16, hp15))
    else if p2 = 1 then (
      (jgI hp4 a9 6 2).bind fun v18 =>
      some (v18, hp4))
    else if p2 = 2 then (
      (jgI hp4 a9 6 3).bind fun v21 =>
      some (v21, hp4))
    else if p2 = 3 then (
      (jgI hp4 a9 6 5).bind fun v24 =>
      if v24 = 0 then (
        some ((-1), hp4))
      else (
        (jgI hp4 this 0 4).bind fun v27 =>
        (jgI hp4 a9 6 6).bind fun v29 =>
        some ((v27 - v29), hp4)))
    else if p2 = 4 then (
      (jgI hp4 this 0 4).bind fun v32 =>
      (jis hp4 a9 6).bind fun u34 =>
      jb (f_X7_may a9 v32 hp4) fun v38 hp37 =>
      if v38 = 0 then (
        some (0, hp37))
      else (
        some (1, hp37)))
    else if p2 = 5 then (
      (jgI hp4 a9 6 4).bind fun v41 =>
      some (v41, hp4))
    else (
      some ((-2), hp4)))
def f_X0_ready_j100 (K15 : Nat → Int32 → Int32 → Int32 → jH → Option (Int32 × jH)) (xa_0 : Nat) (xi_1 : Int32) (xi_3 : Int32) (xi_s0 : Int32) (hp : jH) : Option (Int32 × jH) :=
  K15 xa_0 xi_1 xi_s0 (xi_3 + 1) hp
def f_X0_ready_j99 (K15 : Nat → Int32 → Int32 → Int32 → jH → Option (Int32 × jH)) (xa_0 : Nat) (xi_1 : Int32) (xi_2 : Int32) (xi_3 : Int32) (hp : jH) : Option (Int32 × jH) :=
  f_X0_ready_j100 K15 xa_0 xi_1 xi_3 xi_2 hp
def f_X0_ready_j95 (K15 : Nat → Int32 → Int32 → Int32 → jH → Option (Int32 × jH)) (xa_0 : Nat) (xi_1 : Int32) (xi_3 : Int32) (hp : jH) : Option (Int32 × jH) :=
  f_X0_ready_j100 K15 xa_0 xi_1 xi_3 xi_3 hp
def f_X0_ready_j62 (K15 : Nat → Int32 → Int32 → Int32 → jH → Option (Int32 × jH)) (xa_0 : Nat) (xi_1 : Int32) (xi_2 : Int32) (xi_3 : Int32) (xi_s0 : Int32) (hp : jH) : Option (Int32 × jH) :=
  if xi_s0 = 0 then (
    f_X0_ready_j99 K15 xa_0 xi_1 xi_2 xi_3 hp)
  else (
    if xi_2 = (-1) then (
      f_X0_ready_j95 K15 xa_0 xi_1 xi_3 hp)
    else (
      (jgA hp xa_0 0 2).bind fun a23 =>
      (jaA hp a23 xi_3).bind fun a25 =>
      (jgI hp a25 6 3).bind fun v27 =>
      (jgA hp xa_0 0 2).bind fun a29 =>
      (jaA hp a29 xi_2).bind fun a31 =>
      (jgI hp a31 6 3).bind fun v33 =>
      if v33 ≤ v27 then (
        f_X0_ready_j99 K15 xa_0 xi_1 xi_2 xi_3 hp)
      else (
        f_X0_ready_j95 K15 xa_0 xi_1 xi_3 hp)))
def f_X0_ready_j61 (K15 : Nat → Int32 → Int32 → Int32 → jH → Option (Int32 × jH)) (xa_0 : Nat) (xi_1 : Int32) (xi_2 : Int32) (xi_3 : Int32) (hp : jH) : Option (Int32 × jH) :=
  f_X0_ready_j62 K15 xa_0 xi_1 xi_2 xi_3 0 hp
def f_X0_ready_L15  : Nat → Nat → Int32 → Int32 → Int32 → jH → Option (Int32 × jH)
  | 0, _, _, _, _, _ => none
  | N + 1, xa_0, xi_1, xi_2, xi_3, hp =>
    (jgI hp xa_0 0 3).bind fun v7 =>
    if v7 ≤ xi_3 then (
      some (xi_2, hp))
    else (
      (jgA hp xa_0 0 2).bind fun a10 =>
      (jaA hp a10 xi_3).bind fun a12 =>
      (jgA hp a12 6 0).bind fun a14 =>
      (jgA hp xa_0 0 0).bind fun a16 =>
      (jaA hp a16 xi_1).bind fun a18 =>
      if a14 = a18 then (
        (jgA hp xa_0 0 2).bind fun a36 =>
        (jaA hp a36 xi_3).bind fun a38 =>
        (jgI hp xa_0 0 4).bind fun v40 =>
        (jis hp a38 6).bind fun u42 =>
        jb (f_X7_may a38 v40 hp) fun v46 hp45 =>
        if v46 = 0 then (
          f_X0_ready_j61 (fun z0 z1 z2 z3 z4 => f_X0_ready_L15 N z0 z1 z2 z3 z4) xa_0 xi_1 xi_2 xi_3 hp45)
        else (
          f_X0_ready_j62 (fun z0 z1 z2 z3 z4 => f_X0_ready_L15 N z0 z1 z2 z3 z4) xa_0 xi_1 xi_2 xi_3 1 hp45))
      else (
        f_X0_ready_j61 (fun z0 z1 z2 z3 z4 => f_X0_ready_L15 N z0 z1 z2 z3 z4) xa_0 xi_1 xi_2 xi_3 hp))
def f_X0_ready (this : Nat) (p1 : Int32) (hp : jH) : Option (Int32 × jH) :=
  (jis hp this 0).bind fun u1 =>
  jb (f_X0_isProfile this p1 hp) fun v5 hp4 =>
  if v5 = 0 then (
    some ((-2), hp4))
  else (
    f_X0_ready_L15 300 this p1 (-1) 0 hp4)
def f_X0_pass (this : Nat) (p1 : Int32) (hp : jH) : Option (Int32 × jH) :=
  jb (f_X0_in p1 1 100 hp) fun v3 hp2 =>
  if v3 = 0 then (
    some ((-2), hp2))
  else (
    (jgI hp2 this 0 4).bind fun v5 =>
    (jpF hp2 this 0 4 (.int (v5 + p1))).bind fun hp7 =>
    (jgI hp7 this 0 4).bind fun v9 =>
    some (v9, hp7))
def f_X0_law (this : Nat) (p1 : Int32) (p2 : Int32) (hp : jH) : Option (Int32 × jH) :=
  jb (f_X0_in p1 0 5 hp) fun v3 hp2 =>
  if v3 = 0 then (
    some ((-2), hp2))
  else (
    (jaF hp2 1).bind fun u6 =>
    (jaI hp2 1 .int p1).bind fun v7 =>
    jb (f_X0_in p2 0 v7 hp2) fun v11 hp10 =>
    if v11 = 0 then (
      some ((-2), hp10))
    else (
      (jgA hp10 this 0 5).bind fun a13 =>
      (jaI hp10 a13 .int p1).bind fun v15 =>
      (jgA hp10 this 0 5).bind fun a17 =>
      (jaSI hp10 a17 p1 p2).bind fun hp19 =>
      some (v15, hp19)))
def f_X0_barOf (this : Nat) (p1 : Nat) (p2 : Int32) (hp : jH) : Option (Int32 × jH) :=
  (jgA hp this 0 5).bind fun a1 =>
  (jaI hp a1 .int 0).bind fun v3 =>
  (jgI hp p1 4 1).bind fun v5 =>
  (jgA hp this 0 5).bind fun a7 =>
  (jaI hp a7 .int 5).bind fun v9 =>
  some (((((jmax 0 (p2 - v3)) * v5) * (1000 + v9)) / 1000), hp)
def f_X0_usable (this : Nat) (p1 : Int32) (p2 : Int32) (p3 : Int32) (hp : jH) : Option (Int32 × jH) :=
  (jgA hp this 0 8).bind fun a1 =>
  if ¬ (p2 = 0 ∨ p2 = 1) then none else
  (jpF hp a1 2 2 (.int p2)).bind fun hp4 =>
  (jgA hp4 this 0 8).bind fun a6 =>
  (jgA hp4 this 0 7).bind fun a8 =>
  (jgA hp4 this 0 6).bind fun a10 =>
  (jis hp4 a10 1).bind fun u12 =>
  jb (f_X1_cutE a10 p1 p3 hp4) fun v16 hp15 =>
  (jis hp15 a8 1).bind fun u17 =>
  jb (f_X1_cutE a8 v16 p3 hp15) fun v21 hp20 =>
  (jis hp20 a6 2).bind fun u22 =>
  jb (f_X1_cutW a6 v21 p3 hp20) fun v26 hp25 =>
  some (v26, hp25)
def f_X0_most (this : Nat) (p1 : Nat) (p2 : Int32) (p3 : Int32) (hp : jH) : Option (Int32 × jH) :=
  (jgA hp p1 4 4).bind fun a1 =>
  (jis hp a1 5).bind fun u3 =>
  jb (f_J2_size a1 hp) fun v7 hp6 =>
  if p2 < v7 then (
    (jgA hp6 p1 4 4).bind fun a9 =>
    (jis hp6 a9 5).bind fun u11 =>
    jb (f_J2_get a9 p2 hp6) fun a15 hp14 =>
    (jis hp14 a15 8).bind fun u17 =>
    (jgI hp14 a15 8 1).bind fun v18 =>
    (jgI hp14 a15 8 0).bind fun v20 =>
    (jgA hp14 this 0 5).bind fun a22 =>
    (jaI hp14 a22 .int 4).bind fun v24 =>
    if (v20 + v24) = 0 then none else
    some ((jmin (jmin v18 60) (p3 / (v20 + v24))), hp14))
  else (
    some (0, hp6))
def f_X0_lengthOf (p1 : Nat) (p2 : Int32) (hp : jH) : Option (Int32 × jH) :=
  (jgA hp p1 4 4).bind fun a1 =>
  (jis hp a1 5).bind fun u3 =>
  jb (f_J2_size a1 hp) fun v7 hp6 =>
  if v7 ≤ p2 then (
    some (0, hp6))
  else (
    (jgA hp6 p1 4 4).bind fun a9 =>
    (jis hp6 a9 5).bind fun u11 =>
    jb (f_J2_get a9 p2 hp6) fun a15 hp14 =>
    (jis hp14 a15 8).bind fun u17 =>
    (jgI hp14 a15 8 0).bind fun v18 =>
    some (v18, hp14))
def f_X0_cuts_j198 (K54 : Nat → Nat → Int32 → Int32 → Int32 → Int32 → Int32 → jH → Option jH) (K78 : Nat → Nat → Int32 → Int32 → Int32 → Int32 → Int32 → Int32 → Int32 → jH → Option jH) (xa_0 : Nat) (xa_1 : Nat) (xi_3 : Int32) (xi_4 : Int32) (xi_5 : Int32) (xi_6 : Int32) (xi_7 : Int32) (xi_8 : Int32) (xi_9 : Int32) (hp : jH) : Option jH :=
  K78 xa_0 xa_1 xi_3 xi_4 xi_5 xi_6 xi_7 xi_8 (xi_9 + (-1)) hp
def f_X0_cuts_j158 (K54 : Nat → Nat → Int32 → Int32 → Int32 → Int32 → Int32 → jH → Option jH) (K78 : Nat → Nat → Int32 → Int32 → Int32 → Int32 → Int32 → Int32 → Int32 → jH → Option jH) (xa_0 : Nat) (xa_1 : Nat) (xi_3 : Int32) (xi_5 : Int32) (xi_6 : Int32) (xi_7 : Int32) (xi_8 : Int32) (xi_9 : Int32) (xi_10 : Int32) (xi_11 : Int32) (hp : jH) : Option jH :=
  (jpF hp xa_0 0 14 (.int xi_11)).bind fun hp50 =>
  (jgA hp50 xa_0 0 13).bind fun a52 =>
  (jaSI hp50 a52 0 xi_7).bind fun hp54 =>
  (jgA hp54 xa_0 0 13).bind fun a56 =>
  (jaSI hp54 a56 1 xi_9).bind fun hp58 =>
  (jgA hp58 xa_0 0 13).bind fun a60 =>
  (jaSI hp58 a60 2 xi_10).bind fun hp62 =>
  f_X0_cuts_j198 K54 K78 xa_0 xa_1 xi_3 ((xi_7 + xi_9) + xi_10) xi_5 xi_6 xi_7 xi_8 xi_9 hp62
def f_X0_cuts_L78 (K54 : Nat → Nat → Int32 → Int32 → Int32 → Int32 → Int32 → jH → Option jH) : Nat → Nat → Nat → Int32 → Int32 → Int32 → Int32 → Int32 → Int32 → Int32 → jH → Option jH
  | 0, _, _, _, _, _, _, _, _, _, _ => none
  | N + 1, xa_0, xa_1, xi_3, xi_4, xi_5, xi_6, xi_7, xi_8, xi_9, hp =>
    if xi_9 < 0 then (
      K54 xa_0 xa_1 xi_3 xi_4 xi_5 xi_6 (xi_7 + (-1)) hp)
    else (
      (jis hp xa_0 0).bind fun u33 =>
      jb (f_X0_most xa_0 xa_1 2 (xi_8 - (xi_9 * xi_6)) hp) fun v37 hp36 =>
      jb (f_X0_lengthOf xa_1 0 hp36) fun v40 hp39 =>
      jb (f_X0_lengthOf xa_1 1 hp39) fun v43 hp42 =>
      jb (f_X0_lengthOf xa_1 2 hp42) fun v46 hp45 =>
      (jgI hp45 xa_0 0 14).bind fun v47 =>
      if v47 < (((xi_7 * v40) + (xi_9 * v43)) + (v37 * v46)) then (
        f_X0_cuts_j158 K54 (fun z0 z1 z2 z3 z4 z5 z6 z7 z8 z9 => f_X0_cuts_L78 K54 N z0 z1 z2 z3 z4 z5 z6 z7 z8 z9) xa_0 xa_1 xi_3 xi_5 xi_6 xi_7 xi_8 xi_9 v37 (((xi_7 * v40) + (xi_9 * v43)) + (v37 * v46)) hp45)
      else (
        (jgI hp45 xa_0 0 14).bind fun v64 =>
        if (((xi_7 * v40) + (xi_9 * v43)) + (v37 * v46)) = v64 then (
          if xi_4 ≤ ((xi_7 + xi_9) + v37) then (
            f_X0_cuts_j198 K54 (fun z0 z1 z2 z3 z4 z5 z6 z7 z8 z9 => f_X0_cuts_L78 K54 N z0 z1 z2 z3 z4 z5 z6 z7 z8 z9) xa_0 xa_1 xi_3 xi_4 xi_5 xi_6 xi_7 xi_8 xi_9 hp45)
          else (
            f_X0_cuts_j158 K54 (fun z0 z1 z2 z3 z4 z5 z6 z7 z8 z9 => f_X0_cuts_L78 K54 N z0 z1 z2 z3 z4 z5 z6 z7 z8 z9) xa_0 xa_1 xi_3 xi_5 xi_6 xi_7 xi_8 xi_9 v37 (((xi_7 * v40) + (xi_9 * v43)) + (v37 * v46)) hp45))
        else (
          f_X0_cuts_j198 K54 (fun z0 z1 z2 z3 z4 z5 z6 z7 z8 z9 => f_X0_cuts_L78 K54 N z0 z1 z2 z3 z4 z5 z6 z7 z8 z9) xa_0 xa_1 xi_3 xi_4 xi_5 xi_6 xi_7 xi_8 xi_9 hp45)))
def f_X0_cuts_L54  : Nat → Nat → Nat → Int32 → Int32 → Int32 → Int32 → Int32 → jH → Option jH
  | 0, _, _, _, _, _, _, _, _ => none
  | N + 1, xa_0, xa_1, xi_3, xi_4, xi_5, xi_6, xi_7, hp =>
    if xi_7 < 0 then (
      some hp)
    else (
      (jis hp xa_0 0).bind fun u27 =>
      jb (f_X0_most xa_0 xa_1 1 (xi_3 - (xi_7 * xi_5)) hp) fun v31 hp30 =>
      f_X0_cuts_L78 (fun z0 z1 z2 z3 z4 z5 z6 z7 => f_X0_cuts_L54 N z0 z1 z2 z3 z4 z5 z6 z7) 300 xa_0 xa_1 xi_3 xi_4 xi_5 xi_6 xi_7 (xi_3 - (xi_7 * xi_5)) v31 hp30)
def f_X0_cuts (this : Nat) (p1 : Nat) (p2 : Int32) (hp : jH) : Option jH :=
  (jgA hp this 0 5).bind fun a1 =>
  (jaI hp a1 .int 4).bind fun v3 =>
  (jpF hp this 0 14 (.int (-1))).bind fun hp5 =>
  jb (f_X0_lengthOf p1 0 hp5) fun v9 hp8 =>
  (jgA hp8 this 0 5).bind fun a10 =>
  (jaI hp8 a10 .int 4).bind fun v12 =>
  jb (f_X0_lengthOf p1 1 hp8) fun v16 hp15 =>
  (jgA hp15 this 0 5).bind fun a17 =>
  (jaI hp15 a17 .int 4).bind fun v19 =>
  (jis hp15 this 0).bind fun u21 =>
  jb (f_X0_most this p1 0 (p2 + v3) hp15) fun v25 hp24 =>
  f_X0_cuts_L54 300 this p1 (p2 + v3) 0 (v9 + v12) (v16 + v19) v25 hp24
def f_X0_isBar (this : Nat) (p1 : Int32) (hp : jH) : Option (Int32 × jH) :=
  (jgI hp this 0 10).bind fun v1 =>
  jb (f_X0_in p1 0 (v1 - 1) hp) fun v5 hp4 =>
  if ¬ (v5 = 0 ∨ v5 = 1) then none else
  some (v5, hp4)
def f_X0_press_L179  : Nat → Nat → Nat → Nat → Int32 → jH → Option (Int32 × jH)
  | 0, _, _, _, _, _ => none
  | N + 1, xa_0, xa_3, xa_4, xi_7, hp =>
    (jgA hp xa_3 6 0).bind fun a73 =>
    (jgA hp a73 4 4).bind fun a75 =>
    (jis hp a75 5).bind fun u77 =>
    jb (f_J2_size a75 hp) fun v81 hp80 =>
    if v81 ≤ xi_7 then (
      (jgA hp80 xa_0 0 9).bind fun a83 =>
      (jgI hp80 xa_0 0 10).bind fun v85 =>
      (jaSR hp80 a83 "BilletBars$Bar" v85 xa_4 7).bind fun hp87 =>
      (jgI hp87 xa_0 0 10).bind fun v89 =>
      (jpF hp87 xa_0 0 10 (.int (v89 + 1))).bind fun hp91 =>
      (jgI hp91 xa_3 6 3).bind fun v93 =>
      (jpF hp91 xa_3 6 3 (.int (v93 + 1))).bind fun hp95 =>
      (jgI hp95 xa_3 6 4).bind fun v97 =>
      (jpF hp95 xa_3 6 4 (.int (v97 + 1))).bind fun hp99 =>
      (jpF hp99 xa_0 0 11 (.ref xa_3)).bind fun hp101 =>
      (jgI hp101 xa_0 0 4).bind fun v103 =>
      (jpF hp101 xa_0 0 12 (.int v103)).bind fun hp105 =>
      (jgI hp105 xa_0 0 4).bind fun v107 =>
      (jpF hp105 xa_0 0 4 (.int (v107 + 1))).bind fun hp109 =>
      (jgI hp109 xa_4 7 3).bind fun v111 =>
      some (v111, hp109))
    else (
      (jgA hp80 xa_3 6 0).bind fun a113 =>
      (jgA hp80 a113 4 4).bind fun a115 =>
      (jis hp80 a115 5).bind fun u117 =>
      jb (f_J2_get a115 xi_7 hp80) fun a121 hp120 =>
      (jis hp120 a121 8).bind fun u123 =>
      (jgI hp120 a121 8 1).bind fun v124 =>
      (jgA hp120 xa_0 0 13).bind fun a126 =>
      (jaI hp120 a126 .int xi_7).bind fun v128 =>
      (jpF hp120 a121 8 1 (.int (v124 - v128))).bind fun hp130 =>
      f_X0_press_L179 N xa_0 xa_3 xa_4 (xi_7 + 1) hp130)
def f_X0_press_j124  (xa_0 : Nat) (xa_3 : Nat) (xa_4 : Nat) (xi_5 : Int32) (xa_s0 : Nat) (xi_s1 : Int32) (xi_s2 : Int32) (hp : jH) : Option (Int32 × jH) :=
  (jis hp xa_s0 0).bind fun u48 =>
  jb (f_X0_usable xa_s0 xi_s1 xi_s2 1 hp) fun v52 hp51 =>
  (jgA hp51 xa_0 0 8).bind fun a53 =>
  (jgI hp51 a53 2 0).bind fun v55 =>
  (jpF hp51 xa_4 7 5 (.int (v55 - xi_5))).bind fun hp57 =>
  (jgA hp57 xa_3 6 0).bind fun a59 =>
  (jis hp57 xa_0 0).bind fun u61 =>
  (f_X0_cuts xa_0 a59 v52 hp57).bind fun hp64 =>
  (jgI hp64 xa_0 0 14).bind fun v65 =>
  (jpF hp64 xa_4 7 3 (.int v65)).bind fun hp67 =>
  (jgI hp67 xa_0 0 14).bind fun v69 =>
  (jpF hp67 xa_4 7 4 (.int (v52 - v69))).bind fun hp71 =>
  f_X0_press_L179 300 xa_0 xa_3 xa_4 0 hp71
def f_X0_press_j123  (xa_0 : Nat) (xa_3 : Nat) (xa_4 : Nat) (xi_5 : Int32) (xa_s0 : Nat) (xi_s1 : Int32) (hp : jH) : Option (Int32 × jH) :=
  f_X0_press_j124 xa_0 xa_3 xa_4 xi_5 xa_s0 xi_s1 0 hp
def f_X0_press (this : Nat) (p1 : Int32) (p2 : Int32) (hp : jH) : Option (Int32 × jH) :=
  (jis hp this 0).bind fun u1 =>
  jb (f_X0_isDie this p1 hp) fun v5 hp4 =>
  if v5 = 0 then (
    some ((-2), hp4))
  else (
    jb (f_X0_in p2 200 1200 hp4) fun v9 hp8 =>
    if v9 = 0 then (
      some ((-2), hp8))
    else (
      (jgA hp8 this 0 2).bind fun a11 =>
      (jaA hp8 a11 p1).bind fun a13 =>
      (jgI hp8 this 0 4).bind fun v15 =>
      (jis hp8 a13 6).bind fun u17 =>
      jb (f_X7_may a13 v15 hp8) fun v21 hp20 =>
      if v21 = 0 then (
        some ((-3), hp20))
      else (
        (jgI hp20 this 0 10).bind fun v23 =>
        if v23 = 200 then (
          some ((-4), hp20))
        else (
          (jnew hp20 (1000 + jNI hp20 this 0 10) (.inr (7, [.null, .int 0, .int 0, .int 0, .int 0, .int 0, .int 0, .int 0]))).bind fun hp26 =>
          (f_X8_init (1000 + jNI hp20 this 0 10) a13 p2 hp26).bind fun hp29 =>
          (jgA hp29 a13 6 0).bind fun a30 =>
          (jis hp29 this 0).bind fun u32 =>
          jb (f_X0_barOf this a30 p2 hp29) fun v36 hp35 =>
          (jpF hp35 (1000 + jNI hp20 this 0 10) 7 2 (.int v36)).bind fun hp37 =>
          (jgA hp37 this 0 8).bind fun a39 =>
          (jgI hp37 a39 2 0).bind fun v41 =>
          (jgI hp37 (1000 + jNI hp20 this 0 10) 7 2).bind fun v43 =>
          (jgR hp37 this 0 11).bind fun r47 =>
          match r47 with
          | none => (
            f_X0_press_j123 this a13 (1000 + jNI hp20 this 0 10) v41 this v43 hp37)
          | some a45 => (
            if a45 = a13 then (
              (jgI hp37 this 0 12).bind fun v133 =>
              (jgI hp37 this 0 4).bind fun v135 =>
              if v133 = (v135 - 1) then (
                f_X0_press_j124 this a13 (1000 + jNI hp20 this 0 10) v41 this v43 1 hp37)
              else (
                f_X0_press_j123 this a13 (1000 + jNI hp20 this 0 10) v41 this v43 hp37))
            else (
              f_X0_press_j123 this a13 (1000 + jNI hp20 this 0 10) v41 this v43 hp37))))))
def f_X0_bar (this : Nat) (p1 : Int32) (p2 : Int32) (hp : jH) : Option (Int32 × jH) :=
  (jis hp this 0).bind fun u1 =>
  jb (f_X0_isBar this p1 hp) fun v5 hp4 =>
  if v5 = 0 then (
    some ((-2), hp4))
  else (
    (jgA hp4 this 0 9).bind fun a7 =>
    (jaA hp4 a7 p1).bind fun a9 =>
    if p2 = 0 then (
      (jgA hp4 a9 7 0).bind fun a12 =>
      (jgI hp4 a12 6 1).bind fun v14 =>
      some (v14, hp4))
    else if p2 = 1 then (
      (jgI hp4 a9 7 1).bind fun v17 =>
      some (v17, hp4))
    else if p2 = 2 then (
      (jgI hp4 a9 7 2).bind fun v20 =>
      some (v20, hp4))
    else if p2 = 3 then (
      (jgI hp4 a9 7 3).bind fun v23 =>
      some (v23, hp4))
    else if p2 = 4 then (
      (jgI hp4 a9 7 4).bind fun v26 =>
      some (v26, hp4))
    else if p2 = 5 then (
      (jgI hp4 a9 7 5).bind fun v29 =>
      some (v29, hp4))
    else if p2 = 6 then (
      (jgI hp4 a9 7 6).bind fun v32 =>
      some (v32, hp4))
    else (
      some ((-2), hp4)))
def f_X0_order (this : Nat) (p1 : Int32) (p2 : Int32) (p3 : Int32) (hp : jH) : Option (Int32 × jH) :=
  (jis hp this 0).bind fun u1 =>
  jb (f_X0_isProfile this p1 hp) fun v5 hp4 =>
  if v5 = 0 then (
    some ((-2), hp4))
  else (
    jb (f_X0_in p2 100 9000 hp4) fun v9 hp8 =>
    if v9 = 0 then (
      some ((-2), hp8))
    else (
      jb (f_X0_in p3 0 500 hp8) fun v13 hp12 =>
      if v13 = 0 then (
        some ((-2), hp12))
      else (
        (jgA hp12 this 0 0).bind fun a15 =>
        (jaA hp12 a15 p1).bind fun a17 =>
        (jgA hp12 a17 4 4).bind fun a19 =>
        (jis hp12 a19 5).bind fun u21 =>
        jb (f_J2_size a19 hp12) fun v25 hp24 =>
        if v25 = 3 then (
          some ((-4), hp24))
        else (
          (jnew hp24 (a19 + 2 + jNI hp24 a19 5 2) (.inr (8, [.int 0, .int 0]))).bind fun hp27 =>
          (f_X9_init (a19 + 2 + jNI hp24 a19 5 2) p2 p3 hp27).bind fun hp30 =>
          (jis hp30 a19 5).bind fun u31 =>
          jb (f_J2_add a19 (a19 + 2 + jNI hp24 a19 5 2) hp30) fun v35 hp34 =>
          (jis hp34 a19 5).bind fun u36 =>
          jb (f_J2_size a19 hp34) fun v40 hp39 =>
          some ((v40 - 1), hp39)))))
def f_X0_wanted (this : Nat) (p1 : Int32) (p2 : Int32) (hp : jH) : Option (Int32 × jH) :=
  (jis hp this 0).bind fun u1 =>
  jb (f_X0_isProfile this p1 hp) fun v5 hp4 =>
  if v5 = 0 then (
    some ((-2), hp4))
  else (
    (jgA hp4 this 0 0).bind fun a7 =>
    (jaA hp4 a7 p1).bind fun a9 =>
    (jgA hp4 a9 4 4).bind fun a11 =>
    (jis hp4 a11 5).bind fun u13 =>
    jb (f_J2_size a11 hp4) fun v17 hp16 =>
    jb (f_X0_in p2 0 (v17 - 1) hp16) fun v20 hp19 =>
    if v20 = 0 then (
      some ((-2), hp19))
    else (
      (jgA hp19 this 0 0).bind fun a22 =>
      (jaA hp19 a22 p1).bind fun a24 =>
      (jgA hp19 a24 4 4).bind fun a26 =>
      (jis hp19 a26 5).bind fun u28 =>
      jb (f_J2_get a26 p2 hp19) fun a32 hp31 =>
      (jis hp31 a32 8).bind fun u34 =>
      (jgI hp31 a32 8 1).bind fun v35 =>
      some (v35, hp31)))
def f_X0_pattern (this : Nat) (p1 : Int32) (p2 : Int32) (p3 : Int32) (hp : jH) : Option (Int32 × jH) :=
  (jis hp this 0).bind fun u1 =>
  jb (f_X0_isProfile this p1 hp) fun v5 hp4 =>
  if v5 = 0 then (
    some ((-2), hp4))
  else (
    jb (f_X0_in p2 0 200000 hp4) fun v9 hp8 =>
    if v9 = 0 then (
      some ((-2), hp8))
    else (
      jb (f_X0_in p3 0 3 hp8) fun v13 hp12 =>
      if v13 = 0 then (
        some ((-2), hp12))
      else (
        (jgA hp12 this 0 0).bind fun a15 =>
        (jaA hp12 a15 p1).bind fun a17 =>
        (jis hp12 this 0).bind fun u19 =>
        (f_X0_cuts this a17 p2 hp12).bind fun hp22 =>
        if p3 = 3 then (
          (jgI hp22 this 0 14).bind fun v28 =>
          some (v28, hp22))
        else (
          (jgA hp22 this 0 13).bind fun a24 =>
          (jaI hp22 a24 .int p3).bind fun v26 =>
          some (v26, hp22)))))
def f_X0_stock (this : Nat) (p1 : Int32) (hp : jH) : Option (Int32 × jH) :=
  jb (f_X0_in p1 200 1200 hp) fun v3 hp2 =>
  if v3 = 0 then (
    some ((-2), hp2))
  else (
    (jgI hp2 this 0 16).bind fun v5 =>
    if v5 = 6 then (
      some ((-4), hp2))
    else (
      (jgA hp2 this 0 15).bind fun a8 =>
      (jgI hp2 this 0 16).bind fun v10 =>
      (jaSI hp2 a8 v10 p1).bind fun hp12 =>
      (jgI hp12 this 0 16).bind fun v14 =>
      (jpF hp12 this 0 16 (.int (v14 + 1))).bind fun hp16 =>
      (jgI hp16 this 0 16).bind fun v18 =>
      some (v18, hp16)))
def f_X0_best_j148 (K30 : Nat → Int32 → Nat → Int32 → Int32 → Int32 → jH → Option (Int32 × jH)) (xa_0 : Nat) (xi_2 : Int32) (xa_3 : Nat) (xi_4 : Int32) (xi_5 : Int32) (xi_6 : Int32) (hp : jH) : Option (Int32 × jH) :=
  K30 xa_0 xi_2 xa_3 xi_4 xi_5 (xi_6 + 1) hp
def f_X0_best_j133 (K30 : Nat → Int32 → Nat → Int32 → Int32 → Int32 → jH → Option (Int32 × jH)) (xa_0 : Nat) (xi_2 : Int32) (xa_3 : Nat) (xi_6 : Int32) (hp : jH) : Option (Int32 × jH) :=
  (jgA hp xa_0 0 15).bind fun a42 =>
  (jaI hp a42 .int xi_6).bind fun v44 =>
  (jgI hp xa_0 0 14).bind fun v46 =>
  f_X0_best_j148 K30 xa_0 xi_2 xa_3 v44 v46 xi_6 hp
def f_X0_best_j98 (K30 : Nat → Int32 → Nat → Int32 → Int32 → Int32 → jH → Option (Int32 × jH)) (xa_0 : Nat) (xi_2 : Int32) (xa_3 : Nat) (xi_4 : Int32) (xi_5 : Int32) (xi_6 : Int32) (xl_s0 : Int64) (hp : jH) : Option (Int32 × jH) :=
  if 0 < (lg_cmp xl_s0 (0 : Int64)) then (
    f_X0_best_j133 K30 xa_0 xi_2 xa_3 xi_6 hp)
  else (
    if (lg_cmp xl_s0 (0 : Int64)) = 0 then (
      (jgI hp xa_0 0 14).bind fun v49 =>
      if v49 ≤ 0 then (
        f_X0_best_j148 K30 xa_0 xi_2 xa_3 xi_4 xi_5 xi_6 hp)
      else (
        (jgA hp xa_0 0 15).bind fun a52 =>
        (jaI hp a52 .int xi_6).bind fun v54 =>
        if xi_4 ≤ v54 then (
          f_X0_best_j148 K30 xa_0 xi_2 xa_3 xi_4 xi_5 xi_6 hp)
        else (
          f_X0_best_j133 K30 xa_0 xi_2 xa_3 xi_6 hp)))
    else (
      f_X0_best_j148 K30 xa_0 xi_2 xa_3 xi_4 xi_5 xi_6 hp))
def f_X0_best_L30  : Nat → Nat → Int32 → Nat → Int32 → Int32 → Int32 → jH → Option (Int32 × jH)
  | 0, _, _, _, _, _, _, _ => none
  | N + 1, xa_0, xi_2, xa_3, xi_4, xi_5, xi_6, hp =>
    (jgI hp xa_0 0 16).bind fun v13 =>
    if v13 ≤ xi_6 then (
      some (xi_4, hp))
    else (
      (jgA hp xa_0 0 15).bind fun a16 =>
      (jaI hp a16 .int xi_6).bind fun v18 =>
      (jis hp xa_0 0).bind fun u20 =>
      jb (f_X0_barOf xa_0 xa_3 v18 hp) fun v24 hp23 =>
      (jis hp23 xa_0 0).bind fun u25 =>
      jb (f_X0_usable xa_0 v24 xi_2 0 hp23) fun v29 hp28 =>
      (jis hp28 xa_0 0).bind fun u30 =>
      (f_X0_cuts xa_0 xa_3 v29 hp28).bind fun hp33 =>
      if xi_4 = (-1) then (
        (jgI hp33 xa_0 0 14).bind fun v57 =>
        f_X0_best_j98 (fun z0 z1 z2 z3 z4 z5 z6 => f_X0_best_L30 N z0 z1 z2 z3 z4 z5 z6) xa_0 xi_2 xa_3 xi_4 xi_5 xi_6 v57.toInt64 hp33)
      else (
        (jgI hp33 xa_0 0 14).bind fun v35 =>
        (jgA hp33 xa_0 0 15).bind fun a37 =>
        (jaI hp33 a37 .int xi_6).bind fun v39 =>
        f_X0_best_j98 (fun z0 z1 z2 z3 z4 z5 z6 => f_X0_best_L30 N z0 z1 z2 z3 z4 z5 z6) xa_0 xi_2 xa_3 xi_4 xi_5 xi_6 ((v35.toInt64 * xi_4.toInt64) - (xi_5.toInt64 * v39.toInt64)) hp33))
def f_X0_best (this : Nat) (p1 : Int32) (p2 : Int32) (hp : jH) : Option (Int32 × jH) :=
  (jis hp this 0).bind fun u1 =>
  jb (f_X0_isDie this p1 hp) fun v5 hp4 =>
  if v5 = 0 then (
    some ((-2), hp4))
  else (
    (jgA hp4 this 0 2).bind fun a7 =>
    (jaA hp4 a7 p1).bind fun a9 =>
    (jgA hp4 a9 6 0).bind fun a11 =>
    f_X0_best_L30 300 this p2 a11 (-1) 0 0 hp4)
def f_X0_job (this : Nat) (p1 : Int32) (p2 : Int32) (p3 : Int32) (hp : jH) : Option (Int32 × jH) :=
  (jis hp this 0).bind fun u1 =>
  jb (f_X0_isProfile this p1 hp) fun v5 hp4 =>
  if v5 = 0 then (
    some ((-2), hp4))
  else (
    jb (f_X0_in p2 1 50 hp4) fun v9 hp8 =>
    if v9 = 0 then (
      some ((-2), hp8))
    else (
      jb (f_X0_in p3 0 1000 hp8) fun v13 hp12 =>
      if v13 = 0 then (
        some ((-2), hp12))
      else (
        (jgI hp12 this 0 18).bind fun v15 =>
        if v15 = 7 then (
          some ((-4), hp12))
        else (
          (jgA hp12 this 0 17).bind fun a18 =>
          (jgI hp12 this 0 18).bind fun v20 =>
          (jaA hp12 a18 v20).bind fun a22 =>
          (jaSI hp12 a22 0 p1).bind fun hp24 =>
          (jgA hp24 this 0 17).bind fun a26 =>
          (jgI hp24 this 0 18).bind fun v28 =>
          (jaA hp24 a26 v28).bind fun a30 =>
          (jaSI hp24 a30 1 p2).bind fun hp32 =>
          (jgA hp32 this 0 17).bind fun a34 =>
          (jgI hp32 this 0 18).bind fun v36 =>
          (jaA hp32 a34 v36).bind fun a38 =>
          (jaSI hp32 a38 2 p3).bind fun hp40 =>
          (jgI hp40 this 0 18).bind fun v42 =>
          (jpF hp40 this 0 18 (.int (v42 + 1))).bind fun hp44 =>
          (jgI hp44 this 0 18).bind fun v46 =>
          some ((v46 - 1), hp44)))))
def f_X0_change (this : Nat) (p1 : Int32) (hp : jH) : Option (Int32 × jH) :=
  jb (f_X0_in p1 0 20 hp) fun v3 hp2 =>
  if v3 = 0 then (
    some ((-2), hp2))
  else (
    (jgI hp2 this 0 19).bind fun v5 =>
    (jpF hp2 this 0 19 (.int p1)).bind fun hp7 =>
    some (v5, hp7))
def f_X0_alloyOf (this : Nat) (p1 : Int32) (hp : jH) : Option (Int32 × jH) :=
  (jgA hp this 0 0).bind fun a1 =>
  (jgA hp this 0 17).bind fun a3 =>
  (jaA hp a3 p1).bind fun a5 =>
  (jaI hp a5 .int 0).bind fun v7 =>
  (jaA hp a1 v7).bind fun a9 =>
  (jgI hp a9 4 0).bind fun v11 =>
  some (v11, hp)
def f_X0_tries_j201 (rec : Nat → Int32 → Int32 → Int32 → Int32 → jH → Option jH) (K82 : Nat → Int32 → Int32 → Int32 → Int32 → Int32 → jH → Option jH) (xa_0 : Nat) (xi_1 : Int32) (xi_2 : Int32) (xi_3 : Int32) (xi_4 : Int32) (xi_5 : Int32) (hp : jH) : Option jH :=
  K82 xa_0 xi_1 xi_2 xi_3 xi_4 (xi_5 + 1) hp
def f_X0_tries_j146 (rec : Nat → Int32 → Int32 → Int32 → Int32 → jH → Option jH) (K82 : Nat → Int32 → Int32 → Int32 → Int32 → Int32 → jH → Option jH) (xa_0 : Nat) (xi_1 : Int32) (xi_2 : Int32) (xi_3 : Int32) (xi_4 : Int32) (xi_5 : Int32) (xi_s0 : Int32) (xi_s1 : Int32) (hp : jH) : Option jH :=
  (jgA hp xa_0 0 17).bind fun a13 =>
  (jaA hp a13 xi_5).bind fun a15 =>
  (jaI hp a15 .int 1).bind fun v17 =>
  (jgA hp xa_0 0 20).bind fun a19 =>
  (jaSI hp a19 xi_1 xi_5).bind fun hp21 =>
  (jgA hp21 xa_0 0 17).bind fun a23 =>
  (jaA hp21 a23 xi_5).bind fun a25 =>
  (jaI hp21 a25 .int 2).bind fun v27 =>
  (jis hp21 xa_0 0).bind fun u29 =>
  (rec xa_0 (xi_1 + 1) (xi_2 ||| (1 <<< (xi_5 &&& 31))) ((xi_s0 + xi_s1) + v17) (xi_4 + (jmax 0 (((xi_s0 + xi_s1) + v17) - v27))) hp21).bind fun hp32 =>
  f_X0_tries_j201 rec K82 xa_0 xi_1 xi_2 xi_3 xi_4 xi_5 hp32
def f_X0_tries_j130 (rec : Nat → Int32 → Int32 → Int32 → Int32 → jH → Option jH) (K82 : Nat → Int32 → Int32 → Int32 → Int32 → Int32 → jH → Option jH) (xa_0 : Nat) (xi_1 : Int32) (xi_2 : Int32) (xi_3 : Int32) (xi_4 : Int32) (xi_5 : Int32) (xi_s0 : Int32) (hp : jH) : Option jH :=
  if xi_s0 = 0 then (
    f_X0_tries_j146 rec K82 xa_0 xi_1 xi_2 xi_3 xi_4 xi_5 xi_3 0 hp)
  else (
    (jgI hp xa_0 0 19).bind fun v33 =>
    f_X0_tries_j146 rec K82 xa_0 xi_1 xi_2 xi_3 xi_4 xi_5 xi_3 v33 hp)
def f_X0_tries_j129 (rec : Nat → Int32 → Int32 → Int32 → Int32 → jH → Option jH) (K82 : Nat → Int32 → Int32 → Int32 → Int32 → Int32 → jH → Option jH) (xa_0 : Nat) (xi_1 : Int32) (xi_2 : Int32) (xi_3 : Int32) (xi_4 : Int32) (xi_5 : Int32) (hp : jH) : Option jH :=
  f_X0_tries_j130 rec K82 xa_0 xi_1 xi_2 xi_3 xi_4 xi_5 0 hp
def f_X0_tries_L82 (rec : Nat → Int32 → Int32 → Int32 → Int32 → jH → Option jH)  : Nat → Nat → Int32 → Int32 → Int32 → Int32 → Int32 → jH → Option jH
  | 0, _, _, _, _, _, _, _ => none
  | N + 1, xa_0, xi_1, xi_2, xi_3, xi_4, xi_5, hp =>
    (jgI hp xa_0 0 18).bind fun v7 =>
    if v7 ≤ xi_5 then (
      some hp)
    else (
      if ((xi_2 >>> (xi_5 &&& 31)) &&& 1) = 0 then (
        if xi_1 ≤ 0 then (
          f_X0_tries_j129 rec (fun z0 z1 z2 z3 z4 z5 z6 => f_X0_tries_L82 rec N z0 z1 z2 z3 z4 z5 z6) xa_0 xi_1 xi_2 xi_3 xi_4 xi_5 hp)
        else (
          (jgA hp xa_0 0 20).bind fun a35 =>
          (jaI hp a35 .int (xi_1 - 1)).bind fun v37 =>
          (jis hp xa_0 0).bind fun u39 =>
          jb (f_X0_alloyOf xa_0 v37 hp) fun v43 hp42 =>
          (jis hp42 xa_0 0).bind fun u44 =>
          jb (f_X0_alloyOf xa_0 xi_5 hp42) fun v48 hp47 =>
          if v43 = v48 then (
            f_X0_tries_j129 rec (fun z0 z1 z2 z3 z4 z5 z6 => f_X0_tries_L82 rec N z0 z1 z2 z3 z4 z5 z6) xa_0 xi_1 xi_2 xi_3 xi_4 xi_5 hp47)
          else (
            f_X0_tries_j130 rec (fun z0 z1 z2 z3 z4 z5 z6 => f_X0_tries_L82 rec N z0 z1 z2 z3 z4 z5 z6) xa_0 xi_1 xi_2 xi_3 xi_4 xi_5 1 hp47)))
      else (
        f_X0_tries_j201 rec (fun z0 z1 z2 z3 z4 z5 z6 => f_X0_tries_L82 rec N z0 z1 z2 z3 z4 z5 z6) xa_0 xi_1 xi_2 xi_3 xi_4 xi_5 hp))
def f_X0_tries_L49 (rec : Nat → Int32 → Int32 → Int32 → Int32 → jH → Option jH)  : Nat → Nat → Int32 → jH → Option jH
  | 0, _, _, _ => none
  | N + 1, xa_0, xi_5, hp =>
    (jgI hp xa_0 0 18).bind fun v57 =>
    if v57 ≤ xi_5 then (
      some hp)
    else (
      (jgA hp xa_0 0 21).bind fun a60 =>
      (jgA hp xa_0 0 20).bind fun a62 =>
      (jaI hp a62 .int xi_5).bind fun v64 =>
      (jaSI hp a60 xi_5 v64).bind fun hp66 =>
      f_X0_tries_L49 rec N xa_0 (xi_5 + 1) hp66)
def f_X0_tries_j35 (rec : Nat → Int32 → Int32 → Int32 → Int32 → jH → Option jH)  (xa_0 : Nat) (xi_3 : Int32) (xi_4 : Int32) (hp : jH) : Option jH :=
  (jpF hp xa_0 0 22 (.int xi_4)).bind fun hp53 =>
  (jpF hp53 xa_0 0 23 (.int xi_3)).bind fun hp55 =>
  f_X0_tries_L49 rec 300 xa_0 0 hp55
def f_X0_tries (rec : Nat → Int32 → Int32 → Int32 → Int32 → jH → Option jH) (this : Nat) (p1 : Int32) (p2 : Int32) (p3 : Int32) (p4 : Int32) (hp : jH) : Option jH :=
  (jgI hp this 0 22).bind fun v1 =>
  if p4 ≤ v1 then (
    (jgI hp this 0 18).bind fun v4 =>
    if p1 = v4 then (
      (jgI hp this 0 22).bind fun v50 =>
      if p4 < v50 then (
        f_X0_tries_j35 rec this p3 p4 hp)
      else (
        (jgI hp this 0 23).bind fun v68 =>
        if v68 ≤ p3 then (
          some hp)
        else (
          f_X0_tries_j35 rec this p3 p4 hp)))
    else (
      f_X0_tries_L82 rec 300 this p1 p2 p3 p4 0 hp))
  else (
    some hp)
def f_X0_triesD : Nat → Nat → Int32 → Int32 → Int32 → Int32 → jH → Option jH
  | 0, _, _, _, _, _, _ => none
  | d + 1, this, p1, p2, p3, p4, hp => f_X0_tries (f_X0_triesD d) this p1 p2 p3 p4 hp
def f_X0_triesR (this : Nat) (p1 p2 p3 p4 : Int32) (hp : jH) : Option jH := f_X0_triesD 9 this p1 p2 p3 p4 hp
def f_X0_plans (this : Nat) (hp : jH) : Option jH :=
  (jpF hp this 0 22 (.int 2147483647)).bind fun hp1 =>
  (jpF hp1 this 0 23 (.int 2147483647)).bind fun hp3 =>
  (jis hp3 this 0).bind fun u5 =>
  (f_X0_triesR this 0 0 0 0 hp3).bind fun hp8 =>
  some hp8
def f_X0_late (this : Nat) (hp : jH) : Option (Int32 × jH) :=
  (jis hp this 0).bind fun u1 =>
  (f_X0_plans this hp).bind fun hp4 =>
  (jgI hp4 this 0 22).bind fun v5 =>
  some (v5, hp4)
def f_X0_planned (this : Nat) (p1 : Int32) (hp : jH) : Option (Int32 × jH) :=
  (jgI hp this 0 18).bind fun v1 =>
  jb (f_X0_in p1 0 (v1 - 1) hp) fun v5 hp4 =>
  if v5 = 0 then (
    some ((-2), hp4))
  else (
    (jis hp4 this 0).bind fun u7 =>
    (f_X0_plans this hp4).bind fun hp10 =>
    (jgA hp10 this 0 21).bind fun a11 =>
    (jaI hp10 a11 .int p1).bind fun v13 =>
    some (v13, hp10))
def f_X0_room (this : Nat) (p1 : Int32) (hp : jH) : Option (Int32 × jH) :=
  jb (f_X0_in p1 1000 1000000 hp) fun v3 hp2 =>
  if v3 = 0 then (
    some ((-2), hp2))
  else (
    (jgI hp2 this 0 24).bind fun v5 =>
    (jpF hp2 this 0 24 (.int p1)).bind fun hp7 =>
    some (v5, hp7))
def f_X0_fills_j119 (K10 : Nat → Int32 → Int32 → Int32 → Int32 → Int32 → jH → Option (Int32 × jH)) (xa_0 : Nat) (xi_1 : Int32) (xi_2 : Int32) (xi_3 : Int32) (xi_4 : Int32) (xi_5 : Int32) (hp : jH) : Option (Int32 × jH) :=
  K10 xa_0 xi_1 xi_2 xi_3 xi_4 (xi_5 + 1) hp
def f_X0_fills_j90 (K10 : Nat → Int32 → Int32 → Int32 → Int32 → Int32 → jH → Option (Int32 × jH)) (xa_0 : Nat) (xi_1 : Int32) (xi_3 : Int32) (xi_4 : Int32) (xi_5 : Int32) (xa_6 : Nat) (hp : jH) : Option (Int32 × jH) :=
  (jgA hp xa_6 7 0).bind fun a16 =>
  (jgA hp a16 6 0).bind fun a18 =>
  (jgI hp a18 4 2).bind fun v20 =>
  (jgI hp xa_6 7 3).bind fun v22 =>
  (jpF hp xa_6 7 6 (.int xi_1)).bind fun hp24 =>
  f_X0_fills_j119 K10 xa_0 xi_1 v20 (xi_3 + v22) (xi_4 + 1) xi_5 hp24
def f_X0_fills_j68 (K10 : Nat → Int32 → Int32 → Int32 → Int32 → Int32 → jH → Option (Int32 × jH)) (xa_0 : Nat) (xi_1 : Int32) (xi_3 : Int32) (xi_4 : Int32) (xi_5 : Int32) (xa_6 : Nat) (hp : jH) : Option (Int32 × jH) :=
  if xi_4 ≤ 0 then (
    f_X0_fills_j90 K10 xa_0 xi_1 xi_3 xi_4 xi_5 xa_6 hp)
  else (
    (jgI hp xa_6 7 3).bind fun v26 =>
    (jgI hp xa_0 0 24).bind fun v28 =>
    if (xi_3 + v26) ≤ v28 then (
      f_X0_fills_j90 K10 xa_0 xi_1 xi_3 xi_4 xi_5 xa_6 hp)
    else (
      some (xi_4, hp)))
def f_X0_fills_L10  : Nat → Nat → Int32 → Int32 → Int32 → Int32 → Int32 → jH → Option (Int32 × jH)
  | 0, _, _, _, _, _, _, _ => none
  | N + 1, xa_0, xi_1, xi_2, xi_3, xi_4, xi_5, hp =>
    (jgI hp xa_0 0 10).bind fun v1 =>
    if v1 ≤ xi_5 then (
      some (xi_4, hp))
    else (
      (jgA hp xa_0 0 9).bind fun a4 =>
      (jaA hp a4 xi_5).bind fun a6 =>
      (jgI hp a6 7 3).bind fun v8 =>
      if v8 = 0 then (
        f_X0_fills_j119 (fun z0 z1 z2 z3 z4 z5 z6 => f_X0_fills_L10 N z0 z1 z2 z3 z4 z5 z6) xa_0 xi_1 xi_2 xi_3 xi_4 xi_5 hp)
      else (
        (jgI hp a6 7 6).bind fun v11 =>
        if v11 = (-1) then (
          if xi_2 = (-1) then (
            f_X0_fills_j68 (fun z0 z1 z2 z3 z4 z5 z6 => f_X0_fills_L10 N z0 z1 z2 z3 z4 z5 z6) xa_0 xi_1 xi_3 xi_4 xi_5 a6 hp)
          else (
            (jgA hp a6 7 0).bind fun a31 =>
            (jgA hp a31 6 0).bind fun a33 =>
            (jgI hp a33 4 2).bind fun v35 =>
            if v35 = xi_2 then (
              f_X0_fills_j68 (fun z0 z1 z2 z3 z4 z5 z6 => f_X0_fills_L10 N z0 z1 z2 z3 z4 z5 z6) xa_0 xi_1 xi_3 xi_4 xi_5 a6 hp)
            else (
              f_X0_fills_j119 (fun z0 z1 z2 z3 z4 z5 z6 => f_X0_fills_L10 N z0 z1 z2 z3 z4 z5 z6) xa_0 xi_1 xi_2 xi_3 xi_4 xi_5 hp)))
        else (
          f_X0_fills_j119 (fun z0 z1 z2 z3 z4 z5 z6 => f_X0_fills_L10 N z0 z1 z2 z3 z4 z5 z6) xa_0 xi_1 xi_2 xi_3 xi_4 xi_5 hp)))
def f_X0_fills (this : Nat) (p1 : Int32) (hp : jH) : Option (Int32 × jH) :=
  f_X0_fills_L10 300 this p1 (-1) 0 0 0 hp
def f_X0_age (this : Nat) (hp : jH) : Option (Int32 × jH) :=
  (jgI hp this 0 25).bind fun v1 =>
  (jis hp this 0).bind fun u3 =>
  jb (f_X0_fills this v1 hp) fun v7 hp6 =>
  if v7 = 0 then (
    some ((-3), hp6))
  else (
    (jgI hp6 this 0 25).bind fun v9 =>
    (jpF hp6 this 0 25 (.int (v9 + 1))).bind fun hp11 =>
    some (v7, hp11))
def f_X0_batches_j66 (K23 : Nat → Int32 → Int32 → jH → Option (Int32 × jH)) (xa_0 : Nat) (xi_1 : Int32) (xi_2 : Int32) (xa_s0 : Nat) (xi_s1 : Int32) (hp : jH) : Option (Int32 × jH) :=
  (jpF hp xa_s0 7 6 (.int xi_s1)).bind fun hp31 =>
  K23 xa_0 xi_1 (xi_2 + 1) hp31
def f_X0_batches_L23  : Nat → Nat → Int32 → Int32 → jH → Option (Int32 × jH)
  | 0, _, _, _, _ => none
  | N + 1, xa_0, xi_1, xi_2, hp =>
    (jgI hp xa_0 0 10).bind fun v9 =>
    if v9 ≤ xi_2 then (
      some (xi_1, hp))
    else (
      (jgA hp xa_0 0 9).bind fun a12 =>
      (jaA hp a12 xi_2).bind fun a14 =>
      (jgA hp xa_0 0 9).bind fun a16 =>
      (jaA hp a16 xi_2).bind fun a18 =>
      (jgI hp a18 7 6).bind fun v20 =>
      (jgI hp xa_0 0 25).bind fun v22 =>
      if v20 < v22 then (
        (jgA hp xa_0 0 9).bind fun a25 =>
        (jaA hp a25 xi_2).bind fun a27 =>
        (jgI hp a27 7 6).bind fun v29 =>
        f_X0_batches_j66 (fun z0 z1 z2 z3 => f_X0_batches_L23 N z0 z1 z2 z3) xa_0 xi_1 xi_2 a14 v29 hp)
      else (
        f_X0_batches_j66 (fun z0 z1 z2 z3 => f_X0_batches_L23 N z0 z1 z2 z3) xa_0 xi_1 xi_2 a14 (-1) hp))
def f_X0_batches_L2  : Nat → Nat → Int32 → jH → Option (Int32 × jH)
  | 0, _, _, _ => none
  | N + 1, xa_0, xi_1, hp =>
    (jgI hp xa_0 0 25).bind fun v1 =>
    (jis hp xa_0 0).bind fun u3 =>
    jb (f_X0_fills xa_0 (v1 + xi_1) hp) fun v7 hp6 =>
    if v7 ≤ 0 then (
      f_X0_batches_L23 300 xa_0 xi_1 0 hp6)
    else (
      f_X0_batches_L2 N xa_0 (xi_1 + 1) hp6)
def f_X0_batches (this : Nat) (hp : jH) : Option (Int32 × jH) :=
  f_X0_batches_L2 300 this 0 hp
def f_X0_sample (this : Nat) (p1 : Int32) (p2 : Int32) (hp : jH) : Option (Int32 × jH) :=
  (jis hp this 0).bind fun u1 =>
  jb (f_X0_isBar this p1 hp) fun v5 hp4 =>
  if v5 = 0 then (
    some ((-2), hp4))
  else (
    (jgA hp4 this 0 9).bind fun a7 =>
    (jaA hp4 a7 p1).bind fun a9 =>
    if p2 = 0 then (
      (jpF hp4 a9 7 7 (.int 2)).bind fun hp12 =>
      some (1, hp12))
    else (
      (jpF hp4 a9 7 7 (.int 1)).bind fun hp14 =>
      some (1, hp14)))
def f_X0_isNear_j64 (K4 : Nat → Int32 → Int32 → Int32 → jH → Option (Int32 × jH)) (xa_0 : Nat) (xi_1 : Int32) (xi_2 : Int32) (xi_3 : Int32) (hp : jH) : Option (Int32 × jH) :=
  K4 xa_0 xi_1 xi_2 (xi_3 + xi_2) hp
def f_X0_isNear_L4  : Nat → Nat → Int32 → Int32 → Int32 → jH → Option (Int32 × jH)
  | 0, _, _, _, _, _ => none
  | N + 1, xa_0, xi_1, xi_2, xi_3, hp =>
    (jis hp xa_0 0).bind fun u1 =>
    jb (f_X0_isBar xa_0 xi_3 hp) fun v5 hp4 =>
    if v5 = 0 then (
      some (0, hp4))
    else (
      (jgA hp4 xa_0 0 9).bind fun a7 =>
      (jaA hp4 a7 xi_3).bind fun a9 =>
      (jgA hp4 a9 7 0).bind fun a11 =>
      (jgA hp4 xa_0 0 9).bind fun a13 =>
      (jaA hp4 a13 xi_1).bind fun a15 =>
      (jgA hp4 a15 7 0).bind fun a17 =>
      if a11 = a17 then (
        (jgA hp4 xa_0 0 9).bind fun a20 =>
        (jaA hp4 a20 xi_3).bind fun a22 =>
        (jgI hp4 a22 7 7).bind fun v24 =>
        if v24 ≤ 0 then (
          f_X0_isNear_j64 (fun z0 z1 z2 z3 z4 => f_X0_isNear_L4 N z0 z1 z2 z3 z4) xa_0 xi_1 xi_2 xi_3 hp4)
        else (
          (jgA hp4 xa_0 0 9).bind fun a27 =>
          (jaA hp4 a27 xi_3).bind fun a29 =>
          (jgI hp4 a29 7 7).bind fun v31 =>
          if v31 = 2 then (
            some (1, hp4))
          else (
            some (0, hp4))))
      else (
        f_X0_isNear_j64 (fun z0 z1 z2 z3 z4 => f_X0_isNear_L4 N z0 z1 z2 z3 z4) xa_0 xi_1 xi_2 xi_3 hp4))
def f_X0_isNear (this : Nat) (p1 : Int32) (p2 : Int32) (hp : jH) : Option (Int32 × jH) :=
  f_X0_isNear_L4 300 this p1 p2 (p1 + p2) hp
def f_X0_isSuspect (this : Nat) (p1 : Int32) (hp : jH) : Option (Int32 × jH) :=
  (jgA hp this 0 9).bind fun a1 =>
  (jaA hp a1 p1).bind fun a3 =>
  (jgI hp a3 7 7).bind fun v5 =>
  if v5 = 2 then (
    some (1, hp))
  else (
    if v5 = 0 then (
      (jis hp this 0).bind fun u9 =>
      jb (f_X0_isNear this p1 1 hp) fun v13 hp12 =>
      if v13 = 0 then (
        (jis hp12 this 0).bind fun u15 =>
        jb (f_X0_isNear this p1 (-1) hp12) fun v19 hp18 =>
        if v19 = 0 then (
          some (0, hp18))
        else (
          some (1, hp18)))
      else (
        some (1, hp12)))
    else (
      some (0, hp)))
def f_X0_suspect (this : Nat) (p1 : Int32) (hp : jH) : Option (Int32 × jH) :=
  (jis hp this 0).bind fun u1 =>
  jb (f_X0_isBar this p1 hp) fun v5 hp4 =>
  if v5 = 0 then (
    some ((-2), hp4))
  else (
    (jis hp4 this 0).bind fun u7 =>
    jb (f_X0_isSuspect this p1 hp4) fun v11 hp10 =>
    if v11 = 0 then (
      some (0, hp10))
    else (
      some (1, hp10)))
def f_X0_held_j34 (K4 : Nat → Int32 → Int32 → jH → Option (Int32 × jH)) (xa_0 : Nat) (xi_2 : Int32) (xi_s0 : Int32) (xi_s1 : Int32) (hp : jH) : Option (Int32 × jH) :=
  K4 xa_0 (xi_s0 + xi_s1) (xi_2 + 1) hp
def f_X0_held_L4  : Nat → Nat → Int32 → Int32 → jH → Option (Int32 × jH)
  | 0, _, _, _, _ => none
  | N + 1, xa_0, xi_1, xi_2, hp =>
    (jgI hp xa_0 0 10).bind fun v1 =>
    if v1 ≤ xi_2 then (
      some (xi_1, hp))
    else (
      (jis hp xa_0 0).bind fun u4 =>
      jb (f_X0_isSuspect xa_0 xi_2 hp) fun v8 hp7 =>
      if v8 = 0 then (
        f_X0_held_j34 (fun z0 z1 z2 z3 => f_X0_held_L4 N z0 z1 z2 z3) xa_0 xi_2 xi_1 0 hp7)
      else (
        (jgA hp7 xa_0 0 9).bind fun a10 =>
        (jaA hp7 a10 xi_2).bind fun a12 =>
        (jgI hp7 a12 7 3).bind fun v14 =>
        f_X0_held_j34 (fun z0 z1 z2 z3 => f_X0_held_L4 N z0 z1 z2 z3) xa_0 xi_2 xi_1 v14 hp7))
def f_X0_held (this : Nat) (hp : jH) : Option (Int32 × jH) :=
  f_X0_held_L4 300 this 0 0 hp
def f_X0_meets (this : Nat) (p1 : Int32) (hp : jH) : Option (Int32 × jH) :=
  (jpF hp this 0 27 (.int p1)).bind fun hp1 =>
  some (((-10) - p1), hp1)
def f_X0_isSheet (p1 : Int32) (hp : jH) : Option (Int32 × jH) :=
  jb (f_X0_in p1 0 3 hp) fun v3 hp2 =>
  if ¬ (v3 = 0 ∨ v3 = 1) then none else
  some (v3, hp2)
def f_X0_item (p1 : Nat) (p2 : Int32) (p3 : Int32) (hp : jH) : Option (Int32 × jH) :=
  if p2 = 0 then (
    (jisA hp p1 .byte).bind fun u3 =>
    (jaI hp p1 .byte p3).bind fun v4 =>
    some (v4, hp))
  else if p2 = 1 then (
    (jisA hp p1 .short).bind fun u8 =>
    (jaI hp p1 .short p3).bind fun v9 =>
    some (v9, hp))
  else (
    (jisA hp p1 .int).bind fun u12 =>
    (jaI hp p1 .int p3).bind fun v13 =>
    some (v13, hp))
def f_X0_drift_j123  (xi_4 : Int32) (xi_5 : Int32) (hp : jH) : Option (Int32 × jH) :=
  if xi_5 = 0 then (
    some ((-100001), hp))
  else (
    if xi_5 = 0 then none else
    if xi_5 = 0 then none else
    if 0 ≤ (xi_4 - xi_4 / xi_5 * xi_5) then (
      some (((xi_4 / xi_5) - 0), hp))
    else (
      some (((xi_4 / xi_5) - 1), hp)))
def f_X0_drift_j117 (K41 : Nat → Int32 → Nat → Int32 → Int32 → Int32 → jH → Option (Int32 × jH)) (xa_0 : Nat) (xi_2 : Int32) (xa_3 : Nat) (xi_4 : Int32) (xi_5 : Int32) (xi_6 : Int32) (hp : jH) : Option (Int32 × jH) :=
  K41 xa_0 xi_2 xa_3 xi_4 xi_5 (xi_6 + 1) hp
def f_X0_drift_L41  : Nat → Nat → Int32 → Nat → Int32 → Int32 → Int32 → jH → Option (Int32 × jH)
  | 0, _, _, _, _, _, _, _ => none
  | N + 1, xa_0, xi_2, xa_3, xi_4, xi_5, xi_6, hp =>
    if xi_2 < xi_6 then (
      f_X0_drift_j123 xi_4 xi_5 hp)
    else (
      (jgR hp xa_3 3 1).bind fun r25 =>
      match r25 with
      | none => (
        f_X0_drift_j123 xi_4 xi_5 hp)
      | some a23 => (
        (jis hp xa_3 3).bind fun u26 =>
        jb (f_X4_size xa_3 hp) fun v30 hp29 =>
        if v30 ≤ xi_6 then (
          f_X0_drift_j123 xi_4 xi_5 hp29)
        else (
          (jgA hp29 xa_3 3 1).bind fun a32 =>
          (jgI hp29 xa_3 3 0).bind fun v34 =>
          jb (f_X0_item a32 v34 xi_6 hp29) fun v38 hp37 =>
          jb (f_X0_in v38 1 20000 hp37) fun v41 hp40 =>
          if v41 = 0 then (
            f_X0_drift_j117 (fun z0 z1 z2 z3 z4 z5 z6 => f_X0_drift_L41 N z0 z1 z2 z3 z4 z5 z6) xa_0 xi_2 xa_3 xi_4 xi_5 xi_6 hp40)
          else (
            (jgA hp40 xa_0 0 9).bind fun a43 =>
            (jaA hp40 a43 xi_6).bind fun a45 =>
            (jgA hp40 a45 7 0).bind fun a47 =>
            (jgA hp40 a47 6 0).bind fun a49 =>
            (jgI hp40 a49 4 3).bind fun v51 =>
            f_X0_drift_j117 (fun z0 z1 z2 z3 z4 z5 z6 => f_X0_drift_L41 N z0 z1 z2 z3 z4 z5 z6) xa_0 xi_2 xa_3 (xi_4 + (v38 - v51)) (xi_5 + 1) xi_6 hp40))))
def f_X0_drift (this : Nat) (p1 : Int32) (p2 : Int32) (hp : jH) : Option (Int32 × jH) :=
  (jis hp this 0).bind fun u1 =>
  jb (f_X0_isBar this p1 hp) fun v5 hp4 =>
  if v5 = 0 then (
    some ((-100000), hp4))
  else (
    (jis hp4 this 0).bind fun u7 =>
    jb (f_X0_isBar this p2 hp4) fun v11 hp10 =>
    if v11 = 0 then (
      some ((-100000), hp10))
    else (
      if p1 ≤ p2 then (
        (jgA hp10 this 0 26).bind fun a14 =>
        (jaA hp10 a14 0).bind fun a16 =>
        f_X0_drift_L41 300 this p2 a16 0 0 p1 hp10)
      else (
        some ((-100000), hp10))))
def f_X0_lose (this : Nat) (p1 : Int32) (hp : jH) : Option (Int32 × jH) :=
  jb (f_X0_isSheet p1 hp) fun v3 hp2 =>
  if v3 = 0 then (
    some ((-2), hp2))
  else (
    (jgA hp2 this 0 26).bind fun a5 =>
    (jaA hp2 a5 p1).bind fun a7 =>
    (jgR hp2 a7 3 1).bind fun r11 =>
    match r11 with
    | none => (
      (jis hp2 this 0).bind fun u12 =>
      jb (f_X0_meets this 1 hp2) fun v16 hp15 =>
      some (v16, hp15))
    | some a9 => (
      (jgA hp2 this 0 26).bind fun a17 =>
      (jaA hp2 a17 p1).bind fun a19 =>
      (jis hp2 a19 3).bind fun u21 =>
      jb (f_X4_size a19 hp2) fun v25 hp24 =>
      (jgA hp24 this 0 26).bind fun a26 =>
      (jaA hp24 a26 p1).bind fun a28 =>
      (jpF hp24 a28 3 1 (.null)).bind fun hp30 =>
      some (v25, hp30)))
def f_X0_waiting_j43 (K4 : Nat → Int32 → Int32 → jH → Option (Int32 × jH)) (xa_0 : Nat) (xi_2 : Int32) (xi_s0 : Int32) (xi_s1 : Int32) (hp : jH) : Option (Int32 × jH) :=
  K4 xa_0 (xi_s0 + xi_s1) (xi_2 + 1) hp
def f_X0_waiting_j42 (K4 : Nat → Int32 → Int32 → jH → Option (Int32 × jH)) (xa_0 : Nat) (xi_2 : Int32) (xi_s0 : Int32) (hp : jH) : Option (Int32 × jH) :=
  f_X0_waiting_j43 K4 xa_0 xi_2 xi_s0 0 hp
def f_X0_waiting_L4  : Nat → Nat → Int32 → Int32 → jH → Option (Int32 × jH)
  | 0, _, _, _, _ => none
  | N + 1, xa_0, xi_1, xi_2, hp =>
    (jgI hp xa_0 0 10).bind fun v1 =>
    if v1 ≤ xi_2 then (
      some (xi_1, hp))
    else (
      (jgA hp xa_0 0 9).bind fun a4 =>
      (jaA hp a4 xi_2).bind fun a6 =>
      (jgI hp a6 7 3).bind fun v8 =>
      if v8 ≤ 0 then (
        f_X0_waiting_j42 (fun z0 z1 z2 z3 => f_X0_waiting_L4 N z0 z1 z2 z3) xa_0 xi_2 xi_1 hp)
      else (
        (jgA hp xa_0 0 9).bind fun a11 =>
        (jaA hp a11 xi_2).bind fun a13 =>
        (jgI hp a13 7 6).bind fun v15 =>
        if v15 = (-1) then (
          f_X0_waiting_j43 (fun z0 z1 z2 z3 => f_X0_waiting_L4 N z0 z1 z2 z3) xa_0 xi_2 xi_1 1 hp)
        else (
          f_X0_waiting_j42 (fun z0 z1 z2 z3 => f_X0_waiting_L4 N z0 z1 z2 z3) xa_0 xi_2 xi_1 hp)))
def f_X0_waiting (this : Nat) (hp : jH) : Option (Int32 × jH) :=
  f_X0_waiting_L4 300 this 0 0 hp
def f_X0_count (this : Nat) (p1 : Int32) (hp : jH) : Option (Int32 × jH) :=
  if p1 = 0 then (
    (jgI hp this 0 1).bind fun v2 =>
    some (v2, hp))
  else if p1 = 1 then (
    (jgI hp this 0 3).bind fun v5 =>
    some (v5, hp))
  else if p1 = 2 then (
    (jgI hp this 0 4).bind fun v8 =>
    some (v8, hp))
  else if p1 = 3 then (
    (jgI hp this 0 10).bind fun v11 =>
    some (v11, hp))
  else if p1 = 4 then (
    (jgI hp this 0 18).bind fun v14 =>
    some (v14, hp))
  else if p1 = 5 then (
    (jgI hp this 0 25).bind fun v17 =>
    some (v17, hp))
  else if p1 = 6 then (
    (jgI hp this 0 27).bind fun v20 =>
    some (v20, hp))
  else if p1 = 7 then (
    (jis hp this 0).bind fun u23 =>
    jb (f_X0_waiting this hp) fun v27 hp26 =>
    some (v27, hp26))
  else (
    some ((-2), hp))
def f_X0_init_L172  : Nat → Nat → Int32 → jH → Option jH
  | 0, _, _, _ => none
  | N + 1, xa_0, xi_1, hp =>
    if 4 ≤ xi_1 then (
      some hp)
    else (
      (jgA hp xa_0 0 26).bind fun a76 =>
      (jnew hp (xa_0 + 24 + xi_1.toNatClampNeg) (.inr (3, [.int 0, .null]))).bind fun hp78 =>
      (f_X4_init (xa_0 + 24 + xi_1.toNatClampNeg) hp78).bind fun hp81 =>
      (jaSR hp81 a76 "BilletBars$Sheet" xi_1 (xa_0 + 24 + xi_1.toNatClampNeg) 3).bind fun hp82 =>
      f_X0_init_L172 N xa_0 (xi_1 + 1) hp82)
def f_X0_init (this : Nat) (hp : jH) : Option jH :=
  (jnew hp (this + 1) (.inl (.object "BilletBars$Profile", 8, .inr (.inr (.inr (.inr (fun _ => none))))))).bind fun hp1 =>
  (jpF hp1 this 0 0 (.ref (this + 1))).bind fun hp3 =>
  (jnew hp3 (this + 2) (.inl (.object "BilletBars$Die", 12, .inr (.inr (.inr (.inr (fun _ => none))))))).bind fun hp5 =>
  (jpF hp5 this 0 2 (.ref (this + 2))).bind fun hp7 =>
  (jnew hp7 (this + 3) (.inl (.int, 6, .inl (fun _ => 0)))).bind fun hp9 =>
  (jaSI hp9 (this + 3) 0 20).bind fun hp11 =>
  (jaSI hp11 (this + 3) 1 500).bind fun hp13 =>
  (jaSI hp13 (this + 3) 2 300).bind fun hp15 =>
  (jaSI hp15 (this + 3) 3 400).bind fun hp17 =>
  (jaSI hp17 (this + 3) 4 5).bind fun hp19 =>
  (jaSI hp19 (this + 3) 5 5).bind fun hp21 =>
  (jpF hp21 this 0 5 (.ref (this + 3))).bind fun hp23 =>
  (jnew hp23 (this + 4) (.inr (1, [.int 0, .null, .int 0, .null]))).bind fun hp25 =>
  (f_X2_init (this + 4) this 1 hp25).bind fun hp28 =>
  (jpF hp28 this 0 6 (.ref (this + 4))).bind fun hp29 =>
  (jnew hp29 (this + 5) (.inr (1, [.int 0, .null, .int 0, .null]))).bind fun hp31 =>
  (f_X2_init (this + 5) this 2 hp31).bind fun hp34 =>
  (jpF hp34 this 0 7 (.ref (this + 5))).bind fun hp35 =>
  (jnew hp35 (this + 6) (.inr (2, [.int 0, .null, .int 0, .null]))).bind fun hp37 =>
  (f_X3_init (this + 6) this hp37).bind fun hp40 =>
  (jpF hp40 this 0 8 (.ref (this + 6))).bind fun hp41 =>
  (jnew hp41 (this + 7) (.inl (.object "BilletBars$Bar", 200, .inr (.inr (.inr (.inr (fun _ => none))))))).bind fun hp43 =>
  (jpF hp43 this 0 9 (.ref (this + 7))).bind fun hp45 =>
  (jnew hp45 (this + 8) (.inl (.int, 3, .inl (fun _ => 0)))).bind fun hp47 =>
  (jpF hp47 this 0 13 (.ref (this + 8))).bind fun hp49 =>
  (jnew hp49 (this + 9) (.inl (.int, 6, .inl (fun _ => 0)))).bind fun hp51 =>
  (jpF hp51 this 0 15 (.ref (this + 9))).bind fun hp53 =>
  (jmulti hp53 (this + 10) (this + 16)).bind fun hp55 =>
  (jpF hp55 this 0 17 (.ref (this + 10))).bind fun hp57 =>
  (jpF hp57 this 0 19 (.int 2)).bind fun hp59 =>
  (jnew hp59 (this + 11) (.inl (.int, 7, .inl (fun _ => 0)))).bind fun hp61 =>
  (jpF hp61 this 0 20 (.ref (this + 11))).bind fun hp63 =>
  (jnew hp63 (this + 12) (.inl (.int, 7, .inl (fun _ => 0)))).bind fun hp65 =>
  (jpF hp65 this 0 21 (.ref (this + 12))).bind fun hp67 =>
  (jpF hp67 this 0 24 (.int 100000)).bind fun hp69 =>
  (jnew hp69 (this + 13) (.inl (.object "BilletBars$Sheet", 4, .inr (.inr (.inr (.inr (fun _ => none))))))).bind fun hp71 =>
  (jpF hp71 this 0 26 (.ref (this + 13))).bind fun hp73 =>
  f_X0_init_L172 5 this 0 hp73
