/-! the changes: their constructors; a new one is the world's first cell -/
section Chg
variable {g : GX} {ws : va_W} {a : Nat}
theorem pkX8_init : PkI yX8_init cX8_init 3 2 := ⟨q1163, q141, q1164, by decide, rfl, by decide +kernel, by decide +kernel, by decide +kernel⟩
theorem c_X8_init (hG : Gok g) {u v : Int} {fu fv : Value} : XMet g yX8_init cX8_init 3 none 1 0 0 [.ref a, .int (jI u), .int (jI v)] ((a, .inr (6, [fu, fv])) :: ws) (pV (fun w => w = (a, .inr (6, [.int (jI u), .int (jI v)])) :: ws)) := by
  refine XMet.ofI (L := [some (.ref a), some (.int (jI u)), some (.int (jI v))]) hG (by decide +kernel) rfl (Nat.le_of_ble_eq_true rfl) rfl (fun K C E I => ?_)
  refine r_aload_0 C dX8_init_0 ?_
  refine r_objInit C q1165 dX8_init_1 (by decide) (by decide) ?_
  refine r_aload_0 C dX8_init_4 ?_
  refine r_iload_1 C dX8_init_5 ?_
  refine r_putF C I 0 rfl rfl in_X8 tyX8 tyX8_ok nmX8 0 (by decide) q1166 rfl rfl rfl (tyX8_ok 0 (by decide)) rfl rfl (Nat.le_of_ble_eq_true rfl) dX8_init_6 ?_
  refine r_aload_0 C dX8_init_9 ?_
  refine r_iload_2 C dX8_init_10 ?_
  refine r_putF C I 0 rfl rfl in_X8 tyX8 tyX8_ok nmX8 1 (by decide) q1167 rfl rfl rfl (tyX8_ok 1 (by decide)) rfl rfl (Nat.le_of_ble_eq_true rfl) dX8_init_11 ?_
  exact r_return C E dX8_init_14 ⟨rfl, rfl⟩
theorem pkX9_init : PkI yX9_init cX9_init 2 1 := ⟨q1235, q144, q1236, by decide, rfl, by decide +kernel, by decide +kernel, by decide +kernel⟩
theorem c_X9_init (hG : Gok g) {u : Int} {fu : Value} : XMet g yX9_init cX9_init 2 none 1 0 0 [.ref a, .int (jI u)] ((a, .inr (7, [fu])) :: ws) (pV (fun w => w = (a, .inr (7, [.int (jI u)])) :: ws)) := by
  refine XMet.ofI (L := [some (.ref a), some (.int (jI u))]) hG (by decide +kernel) rfl (Nat.le_of_ble_eq_true rfl) rfl (fun K C E I => ?_)
  refine r_aload_0 C dX9_init_0 ?_
  refine r_objInit C q1237 dX9_init_1 (by decide) (by decide) ?_
  refine r_aload_0 C dX9_init_4 ?_
  refine r_iload_1 C dX9_init_5 ?_
  refine r_putF C I 0 rfl rfl in_X9 tyX9 tyX9_ok nmX9 0 (by decide) q1238 rfl rfl rfl (tyX9_ok 0 (by decide)) rfl rfl (Nat.le_of_ble_eq_true rfl) dX9_init_6 ?_
  exact r_return C E dX9_init_9 ⟨rfl, rfl⟩
theorem pkX10_init : PkI yX10_init cX10_init 3 2 := ⟨q1250, q145, q1251, by decide, rfl, by decide +kernel, by decide +kernel, by decide +kernel⟩
theorem c_X10_init (hG : Gok g) {u v : Int} {fu fv : Value} : XMet g yX10_init cX10_init 3 none 1 0 0 [.ref a, .int (jI u), .int (jI v)] ((a, .inr (8, [fu, fv])) :: ws) (pV (fun w => w = (a, .inr (8, [.int (jI u), .int (jI v)])) :: ws)) := by
  refine XMet.ofI (L := [some (.ref a), some (.int (jI u)), some (.int (jI v))]) hG (by decide +kernel) rfl (Nat.le_of_ble_eq_true rfl) rfl (fun K C E I => ?_)
  refine r_aload_0 C dX10_init_0 ?_
  refine r_objInit C q1252 dX10_init_1 (by decide) (by decide) ?_
  refine r_aload_0 C dX10_init_4 ?_
  refine r_iload_1 C dX10_init_5 ?_
  refine r_putF C I 0 rfl rfl in_X10 tyX10 tyX10_ok nmX10 0 (by decide) q1253 rfl rfl rfl (tyX10_ok 0 (by decide)) rfl rfl (Nat.le_of_ble_eq_true rfl) dX10_init_6 ?_
  refine r_aload_0 C dX10_init_9 ?_
  refine r_iload_2 C dX10_init_10 ?_
  refine r_putF C I 0 rfl rfl in_X10 tyX10 tyX10_ok nmX10 1 (by decide) q1254 rfl rfl rfl (tyX10_ok 1 (by decide)) rfl rfl (Nat.le_of_ble_eq_true rfl) dX10_init_11 ?_
  exact r_return C E dX10_init_14 ⟨rfl, rfl⟩
theorem pkX11_init : PkI yX11_init cX11_init 2 1 := ⟨q1268, q146, q1269, by decide, rfl, by decide +kernel, by decide +kernel, by decide +kernel⟩
theorem c_X11_init (hG : Gok g) {u : Int} {fu : Value} : XMet g yX11_init cX11_init 2 none 1 0 0 [.ref a, .int (jI u)] ((a, .inr (9, [fu])) :: ws) (pV (fun w => w = (a, .inr (9, [.int (jI u)])) :: ws)) := by
  refine XMet.ofI (L := [some (.ref a), some (.int (jI u))]) hG (by decide +kernel) rfl (Nat.le_of_ble_eq_true rfl) rfl (fun K C E I => ?_)
  refine r_aload_0 C dX11_init_0 ?_
  refine r_objInit C q1270 dX11_init_1 (by decide) (by decide) ?_
  refine r_aload_0 C dX11_init_4 ?_
  refine r_iload_1 C dX11_init_5 ?_
  refine r_putF C I 0 rfl rfl in_X11 tyX11 tyX11_ok nmX11 0 (by decide) q1271 rfl rfl rfl (tyX11_ok 0 (by decide)) rfl rfl (Nat.le_of_ble_eq_true rfl) dX11_init_6 ?_
  exact r_return C E dX11_init_9 ⟨rfl, rfl⟩
end Chg
