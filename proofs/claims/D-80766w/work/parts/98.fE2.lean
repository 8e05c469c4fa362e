/-! rowOf, lay, sheet, put, get, digest: functions (printed by gen/exc2.py) -/
set_option maxRecDepth 100000
/-- the element type of a form -/
def jty (w : Int32) : FieldType := if w = 0 then .byte else if w = 1 then .short else .int
/-- how a row answers an access: 0 well, 2 of another type, 3 out of it -/
noncomputable def jqc (hp : jH) (a : Nat) (w i : Int32) : Option Nat := match hp a with
  | some (.inl (ty, len, .inl _)) => @ite _ (¬ (len < 2 ^ 31 ∧ jt3 ty ∧ 8 ≤ a)) (Classical.propDecidable _) none (@ite _ (¬ ty = jty w) (Classical.propDecidable _) (some 2) (if 0 ≤ i.toInt ∧ i.toInt < len then some 0 else some 3))
  | _ => none
/-- a free name for a row -/
def jrow (hp : jH) : Nat := if (hp 40).isNone then 40 else if (hp 41).isNone then 41 else if (hp 42).isNone then 42 else if (hp 43).isNone then 43 else 44
def f_X0_rowOf (p1 : Int32) (p2 : Int32) (hp : jH) : Option (Nat × jH) :=
  if p1 = 0 then (
    if ¬ (¬ p2 < 0 ∧ p2.toNatClampNeg ≤ 200) then none else
    (jnew hp (jrow hp) (.inl (.byte, p2.toNatClampNeg, .inl (fun _ => 0)))).bind fun hp2 =>
    some (jrow hp, hp2))
  else if p1 = 1 then (
    if ¬ (¬ p2 < 0 ∧ p2.toNatClampNeg ≤ 200) then none else
    (jnew hp (jrow hp) (.inl (.short, p2.toNatClampNeg, .inl (fun _ => 0)))).bind fun hp6 =>
    some (jrow hp, hp6))
  else (
    if ¬ (¬ p2 < 0 ∧ p2.toNatClampNeg ≤ 200) then none else
    (jnew hp (jrow hp) (.inl (.int, p2.toNatClampNeg, .inl (fun _ => 0)))).bind fun hp9 =>
    some (jrow hp, hp9))
def f_X0_lay (p1 : Nat) (p2 : Int32) (p3 : Int32) (p4 : Int32) (hp : jH) : Option jH :=
  if p2 = 0 then (
    (jisA hp p1 .byte).bind fun u3 =>
    (jaSB hp p1 .byte p3 p4.toInt8.toInt32).bind fun hp4 =>
    some hp4)
  else if p2 = 1 then (
    (jisA hp p1 .short).bind fun u8 =>
    (jaSB hp p1 .short p3 p4.toInt16.toInt32).bind fun hp9 =>
    some hp9)
  else (
    (jisA hp p1 .int).bind fun u12 =>
    (jaSI hp p1 p3 p4).bind fun hp13 =>
    some hp13)
def f_X0_sheet (this : Nat) (p1 : Int32) (p2 : Int32) (p3 : Int32) (hp : jH) : Option (Int32 × jH) :=
  jb (f_X0_isSheet p1 hp) fun v3 hp2 =>
  if v3 = 0 then (
    some ((-2), hp2))
  else (
    jb (f_X0_in p2 0 2 hp2) fun v7 hp6 =>
    if v7 = 0 then (
      some ((-2), hp6))
    else (
      if p3 ≤ 200 then (
        (jgA hp6 this 0 26).bind fun a10 =>
        (jaA hp6 a10 p1).bind fun a12 =>
        if p3 < 0 then (
          (jis hp6 this 0).bind fun u15 =>
          jb (f_X0_meets this 5 hp6) fun v19 hp18 =>
          some (v19, hp18))
        else (
          jb (f_X0_rowOf p2 p3 hp6) fun a22 hp21 =>
          (jpF hp21 a12 3 1 (.ref a22)).bind fun hp23 =>
          (jgA hp23 this 0 26).bind fun a25 =>
          (jaA hp23 a25 p1).bind fun a27 =>
          (jpF hp23 a27 3 0 (.int p2)).bind fun hp29 =>
          some (p3, hp29)))
      else (
        some ((-2), hp6))))
noncomputable def f_X0_put (this : Nat) (p1 : Int32) (p2 : Int32) (p3 : Int32) (p4 : Int32) (hp : jH) : Option (Int32 × jH) :=
  jb (f_X0_isSheet p1 hp) fun v3 hp2 =>
  if v3 = 0 then (
    some ((-2), hp2))
  else (
    jb (f_X0_in p2 0 2 hp2) fun v7 hp6 =>
    if v7 = 0 then (
      some ((-2), hp6))
    else (
      (jgA hp6 this 0 26).bind fun a9 =>
      (jaA hp6 a9 p1).bind fun a11 =>
      (jgR hp6 a11 3 1).bind fun r15 =>
      match r15 with
      | none => (
        (jis hp6 this 0).bind fun u16 =>
        jb (f_X0_meets this 1 hp6) fun v20 hp19 =>
        some (v20, hp19))
      | some a13 => (
        (jqc hp6 a13 p2 p3).bind fun q21 =>
        if q21 = 0 then (
          (f_X0_lay a13 p2 p3 p4 hp6).bind fun hp26 =>
          some (1, hp26))
        else if q21 = 2 then (
          (jis hp6 this 0).bind fun u27 =>
          jb (f_X0_meets this 3 hp6) fun v31 hp30 =>
          some (v31, hp30))
        else (
          (jis hp6 this 0).bind fun u32 =>
          jb (f_X0_meets this 2 hp6) fun v36 hp35 =>
          some (v36, hp35)))))
noncomputable def f_X0_get (this : Nat) (p1 : Int32) (p2 : Int32) (p3 : Int32) (hp : jH) : Option (Int32 × jH) :=
  jb (f_X0_isSheet p1 hp) fun v3 hp2 =>
  if v3 = 0 then (
    some ((-2147483648), hp2))
  else (
    jb (f_X0_in p2 0 2 hp2) fun v7 hp6 =>
    if v7 = 0 then (
      some ((-2147483648), hp6))
    else (
      (jgA hp6 this 0 26).bind fun a9 =>
      (jaA hp6 a9 p1).bind fun a11 =>
      (jgR hp6 a11 3 1).bind fun r15 =>
      match r15 with
      | none => (
        (jpF hp6 this 0 27 (.int 1)).bind fun hp16 =>
        some ((-2147483648), hp16))
      | some a13 => (
        (jqc hp6 a13 p2 p3).bind fun q18 =>
        if q18 = 0 then (
          jb (f_X0_item a13 p2 p3 hp6) fun v24 hp23 =>
          some (v24, hp23))
        else if q18 = 2 then (
          (jpF hp6 this 0 27 (.int 3)).bind fun hp25 =>
          some ((-2147483648), hp25))
        else (
          (jpF hp6 this 0 27 (.int 2)).bind fun hp27 =>
          some ((-2147483648), hp27)))))
noncomputable def f_X0_digest_L174 (K163 : Nat → Int64 → Int32 → jH → Option (Int64 × jH)) : Nat → Nat → Int64 → Int32 → Int32 → jH → Option (Int64 × jH)
  | 0, _, _, _, _, _ => none
  | N + 1, xa_0, xl_1, xi_3, xi_4, hp =>
    (jgA hp xa_0 0 0).bind fun a12 =>
    (jaA hp a12 xi_3).bind fun a14 =>
    (jgA hp a14 4 4).bind fun a16 =>
    (jis hp a16 5).bind fun u18 =>
    jb (f_J2_size a16 hp) fun v22 hp21 =>
    if v22 ≤ xi_4 then (
      K163 xa_0 xl_1 (xi_3 + 1) hp21)
    else (
      (jgA hp21 xa_0 0 0).bind fun a24 =>
      (jaA hp21 a24 xi_3).bind fun a26 =>
      (jgA hp21 a26 4 4).bind fun a28 =>
      (jis hp21 a28 5).bind fun u30 =>
      jb (f_J2_get a28 xi_4 hp21) fun a34 hp33 =>
      (jis hp33 a34 8).bind fun u36 =>
      (jgI hp33 a34 8 1).bind fun v37 =>
      f_X0_digest_L174 K163 N xa_0 (((31 : Int64) * xl_1) + v37.toInt64) xi_3 (xi_4 + 1) hp33)
noncomputable def f_X0_digest_L163  : Nat → Nat → Int64 → Int32 → jH → Option (Int64 × jH)
  | 0, _, _, _, _ => none
  | N + 1, xa_0, xl_1, xi_3, hp =>
    (jgI hp xa_0 0 1).bind fun v9 =>
    if v9 ≤ xi_3 then (
      some (xl_1, hp))
    else (
      f_X0_digest_L174 (fun z0 z1 z2 z3 => f_X0_digest_L163 N z0 z1 z2 z3) 300 xa_0 xl_1 xi_3 0 hp)
noncomputable def f_X0_digest_L136  : Nat → Nat → Int64 → Int32 → jH → Option (Int64 × jH)
  | 0, _, _, _, _ => none
  | N + 1, xa_0, xl_1, xi_3, hp =>
    if 7 ≤ xi_3 then (
      f_X0_digest_L163 300 xa_0 xl_1 0 hp)
    else (
      (jis hp xa_0 0).bind fun u39 =>
      jb (f_X0_account xa_0 xi_3 hp) fun v43 hp42 =>
      f_X0_digest_L136 N xa_0 (((31 : Int64) * xl_1) + v43.toInt64) (xi_3 + 1) hp42)
noncomputable def f_X0_digest_L100 (K89 : Nat → Int64 → Int32 → jH → Option (Int64 × jH)) : Nat → Nat → Int64 → Int32 → Int32 → jH → Option (Int64 × jH)
  | 0, _, _, _, _, _ => none
  | N + 1, xa_0, xl_1, xi_3, xi_4, hp =>
    if 7 ≤ xi_4 then (
      K89 xa_0 xl_1 (xi_3 + 1) hp)
    else (
      (jis hp xa_0 0).bind fun u45 =>
      jb (f_X0_bar xa_0 xi_3 xi_4 hp) fun v49 hp48 =>
      f_X0_digest_L100 K89 N xa_0 (((31 : Int64) * xl_1) + v49.toInt64) xi_3 (xi_4 + 1) hp48)
noncomputable def f_X0_digest_L89  : Nat → Nat → Int64 → Int32 → jH → Option (Int64 × jH)
  | 0, _, _, _, _ => none
  | N + 1, xa_0, xl_1, xi_3, hp =>
    (jgI hp xa_0 0 10).bind fun v5 =>
    if v5 ≤ xi_3 then (
      f_X0_digest_L136 8 xa_0 xl_1 0 hp)
    else (
      f_X0_digest_L100 (fun z0 z1 z2 z3 => f_X0_digest_L89 N z0 z1 z2 z3) 300 xa_0 xl_1 xi_3 3 hp)
noncomputable def f_X0_digest_L54 (K43 : Nat → Int64 → Int32 → jH → Option (Int64 × jH)) : Nat → Nat → Int64 → Int32 → Int32 → jH → Option (Int64 × jH)
  | 0, _, _, _, _, _ => none
  | N + 1, xa_0, xl_1, xi_3, xi_4, hp =>
    if 5 ≤ xi_4 then (
      K43 xa_0 xl_1 (xi_3 + 1) hp)
    else (
      (jis hp xa_0 0).bind fun u51 =>
      jb (f_X0_about xa_0 xi_3 xi_4 hp) fun v55 hp54 =>
      f_X0_digest_L54 K43 N xa_0 (((31 : Int64) * xl_1) + v55.toInt64) xi_3 (xi_4 + 1) hp54)
noncomputable def f_X0_digest_L43  : Nat → Nat → Int64 → Int32 → jH → Option (Int64 × jH)
  | 0, _, _, _, _ => none
  | N + 1, xa_0, xl_1, xi_3, hp =>
    (jgI hp xa_0 0 3).bind fun v2 =>
    if v2 ≤ xi_3 then (
      f_X0_digest_L89 300 xa_0 xl_1 0 hp)
    else (
      f_X0_digest_L54 (fun z0 z1 z2 z3 => f_X0_digest_L43 N z0 z1 z2 z3) 300 xa_0 xl_1 xi_3 2 hp)
noncomputable def f_X0_digest_j34 (K6 : Nat → Int64 → Int32 → jH → Option (Int64 × jH)) (xa_0 : Nat) (xi_3 : Int32) (xl_s0 : Int64) (hp : jH) : Option (Int64 × jH) :=
  K6 xa_0 xl_s0 (xi_3 + 1) hp
noncomputable def f_X0_digest_L6  : Nat → Nat → Int64 → Int32 → jH → Option (Int64 × jH)
  | 0, _, _, _, _ => none
  | N + 1, xa_0, xl_1, xi_3, hp =>
    if 8 ≤ xi_3 then (
      f_X0_digest_L43 300 xa_0 xl_1 0 hp)
    else (
      if xi_3 = 6 then (
        f_X0_digest_j34 (fun z0 z1 z2 z3 => f_X0_digest_L6 N z0 z1 z2 z3) xa_0 xi_3 xl_1 hp)
      else (
        (jis hp xa_0 0).bind fun u57 =>
        jb (f_X0_count xa_0 xi_3 hp) fun v61 hp60 =>
        f_X0_digest_j34 (fun z0 z1 z2 z3 => f_X0_digest_L6 N z0 z1 z2 z3) xa_0 xi_3 (((31 : Int64) * xl_1) + v61.toInt64) hp60))
noncomputable def f_X0_digest (this : Nat) (hp : jH) : Option (Int64 × jH) :=
  f_X0_digest_L6 300 this (17 : Int64) 0 hp
