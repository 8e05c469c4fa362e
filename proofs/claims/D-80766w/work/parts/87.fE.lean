/-! the methods with handlers: functions (printed by gen/exc.py) -/
set_option maxRecDepth 100000
noncomputable def f_X0_account_L37  : Nat → Nat → Int32 → Nat → Int32 → jH → Option (Int32 × jH)
  | 0, _, _, _, _, _ => none
  | N + 1, xa_0, xi_1, xa_2, xi_3, hp =>
    (jgI hp xa_0 0 10).bind fun v21 =>
    if v21 ≤ xi_3 then (
      (jalI hp xa_2).bind fun n24 =>
      if 0 ≤ xi_1.toInt ∧ xi_1.toInt < (n24 : Int) then (
        (jaI hp xa_2 .int xi_1).bind fun v26 =>
        (jfg hp 22).bind fun hp30 =>
        some (v26, hp30))
      else (
        (jfg hp 22).bind fun hp30 =>
        some ((-2), hp30)))
    else (
      (jaI hp xa_2 .int 3).bind fun v32 =>
      (jgA hp xa_0 0 9).bind fun a34 =>
      (jaA hp a34 xi_3).bind fun a36 =>
      (jgI hp a36 7 3).bind fun v38 =>
      (jaSI hp xa_2 3 (v32 + v38)).bind fun hp40 =>
      (jaI hp40 xa_2 .int 4).bind fun v42 =>
      (jgA hp40 xa_0 0 9).bind fun a44 =>
      (jaA hp40 a44 xi_3).bind fun a46 =>
      (jgI hp40 a46 7 4).bind fun v48 =>
      (jaSI hp40 xa_2 4 (v42 + v48)).bind fun hp50 =>
      (jaI hp50 xa_2 .int 5).bind fun v52 =>
      (jgA hp50 xa_0 0 9).bind fun a54 =>
      (jaA hp50 a54 xi_3).bind fun a56 =>
      (jgI hp50 a56 7 2).bind fun v58 =>
      (jaSI hp50 xa_2 5 (v52 + v58)).bind fun hp60 =>
      (jaI hp60 xa_2 .int 6).bind fun v62 =>
      (jgA hp60 xa_0 0 9).bind fun a64 =>
      (jaA hp60 a64 xi_3).bind fun a66 =>
      (jgI hp60 a66 7 1).bind fun v68 =>
      (jaSI hp60 xa_2 6 (v62 + v68)).bind fun hp70 =>
      f_X0_account_L37 N xa_0 xi_1 xa_2 (xi_3 + 1) hp70)
noncomputable def f_X0_account (this : Nat) (p1 : Int32) (hp : jH) : Option (Int32 × jH) :=
  (jnew hp 22 (.inl (.int, 7, .inl (fun _ => 0)))).bind fun hp1 =>
  (jgA hp1 this 0 6).bind fun a3 =>
  (jgI hp1 a3 1 0).bind fun v5 =>
  (jaSI hp1 22 0 v5).bind fun hp7 =>
  (jgA hp7 this 0 7).bind fun a9 =>
  (jgI hp7 a9 1 0).bind fun v11 =>
  (jaSI hp7 22 1 v11).bind fun hp13 =>
  (jgA hp13 this 0 8).bind fun a15 =>
  (jgI hp13 a15 2 0).bind fun v17 =>
  (jaSI hp13 22 2 v17).bind fun hp19 =>
  f_X0_account_L37 300 this p1 22 0 hp19
