/-! copy: functions (printed by gen/exc3.py) -/
set_option maxRecDepth 100000
/-- how arraycopy answers: 0 copied, 3 out of the arrays -/
noncomputable def jcq (hp : jH) (a b : Nat) (sp dp len : Int32) : Option Nat := match hp a, hp b with
  | some (.inl (t1, n1, .inl f1)), some (.inl (t2, n2, .inl _)) => @ite _ (¬ (t1 = t2 ∧ jt3 t1 ∧ n1 < 2 ^ 31 ∧ n2 < 2 ^ 31 ∧ 8 ≤ a ∧ 8 ≤ b)) (Classical.propDecidable _) none (@ite _ (sp < 0 ∨ dp < 0 ∨ len < 0 ∨ sp.toInt + len.toInt > (n1 : Int) ∨ dp.toInt + len.toInt > (n2 : Int)) (Classical.propDecidable _) (some 3) (@ite _ (∀ i, i < len.toNatClampNeg → fits t1 (.int (f1 (sp.toNatClampNeg + i))) = true) (Classical.propDecidable _) (some 0) none))
  | _, _ => none
def jcw (hp : jH) (a b : Nat) (sp dp len : Int32) : Option jH := match hp a, hp b with
  | some (.inl (_, _, .inl f1)), some (.inl (t2, n2, .inl f2)) => some (jset hp b (.inl (t2, n2, .inl (va_cpy f1 f2 sp.toNatClampNeg dp.toNatClampNeg len.toNatClampNeg))))
  | _, _ => none
noncomputable def f_X0_copy_j68  (xa_0 : Nat) (xi_2 : Int32) (xi_4 : Int32) (xi_5 : Int32) (xa_6 : Nat) (xa_7 : Nat) (hp : jH) : Option (Int32 × jH) :=
  (jgR hp xa_6 3 1).bind fun r22 =>
  match r22 with
  | none => (
    (jgR hp xa_7 3 1).bind fun r25 =>
    match r25 with
    | none => (
      (jis hp xa_0 0).bind fun u26 =>
      jb (f_X0_meets xa_0 1 hp) fun v30 hp29 =>
      some (v30, hp29))
    | some a23 => (
      (jis hp xa_0 0).bind fun u31 =>
      jb (f_X0_meets xa_0 1 hp) fun v35 hp34 =>
      some (v35, hp34)))
  | some a20 => (
    (jgR hp xa_7 3 1).bind fun r38 =>
    match r38 with
    | none => (
      (jis hp xa_0 0).bind fun u39 =>
      jb (f_X0_meets xa_0 1 hp) fun v43 hp42 =>
      some (v43, hp42))
    | some a36 => (
      (jcq hp a20 a36 xi_2 xi_4 xi_5).bind fun q44 =>
      if q44 = 0 then (
        (jcw hp a20 a36 xi_2 xi_4 xi_5).bind fun hp47 =>
        some (1, hp47))
      else (
        (jis hp xa_0 0).bind fun u49 =>
        jb (f_X0_meets xa_0 2 hp) fun v53 hp52 =>
        some (v53, hp52))))
noncomputable def f_X0_copy (this : Nat) (p1 : Int32) (p2 : Int32) (p3 : Int32) (p4 : Int32) (p5 : Int32) (hp : jH) : Option (Int32 × jH) :=
  jb (f_X0_isSheet p1 hp) fun v3 hp2 =>
  if v3 = 0 then (
    some ((-2), hp2))
  else (
    jb (f_X0_isSheet p3 hp2) fun v7 hp6 =>
    if v7 = 0 then (
      some ((-2), hp6))
    else (
      (jgA hp6 this 0 26).bind fun a9 =>
      (jaA hp6 a9 p1).bind fun a11 =>
      (jgA hp6 this 0 26).bind fun a13 =>
      (jaA hp6 a13 p3).bind fun a15 =>
      (jgR hp6 a11 3 1).bind fun r19 =>
      match r19 with
      | none => (
        f_X0_copy_j68 this p2 p4 p5 a11 a15 hp6)
      | some a17 => (
        (jgR hp6 a15 3 1).bind fun r56 =>
        match r56 with
        | none => (
          f_X0_copy_j68 this p2 p4 p5 a11 a15 hp6)
        | some a54 => (
          (jgI hp6 a11 3 0).bind fun v57 =>
          (jgI hp6 a15 3 0).bind fun v59 =>
          if v57 = v59 then (
            f_X0_copy_j68 this p2 p4 p5 a11 a15 hp6)
          else (
            (jis hp6 this 0).bind fun u62 =>
            jb (f_X0_meets this 4 hp6) fun v66 hp65 =>
            some (v66, hp65))))))
