/-! a reader is made -/
section R6
variable {g : GX} {ws : va_W} {T : Int → Int} {qt : Nat} {a tp : Nat} {n : Int}
theorem pkX6_initI : PkI yX6_init cX6_init 3 2 := ⟨q414, q128, q415, by decide, rfl, by decide +kernel, by decide +kernel, by decide +kernel⟩
theorem c_X6_init (hG : Gok g) {mi : Nat} (Z : GA g mi) (ht : ws[qt]? = some (tp, .inl (g.2.2.1 2, 700, .inl (arI T)))) (hn0 : 0 ≤ n) (hn : n ≤ 700) (hT : TpOk T) : XMet g yX6_init cX6_init 3 none 5 9 95 [.ref a, .ref tp, .int (jI n)] ((a, .inr (4, [.null, .int 0, .null, .int 0, .int 0, .int 0, .int 0, .int 0, .int 0])) :: ws) (pV (fun w => ∃ (τ : Nat → Nat) (bu : Int → Int) (vl' : Int), (∀ v : Int, 0 ≤ v → v < 4 → bu v = 999) ∧ (tK T n (tB T n 0) = 2 → vl' = tV T n (tB T n 0)) ∧ w = wRd g a tp τ n (tE T n (tB T n 0)) (tB T n 0) (tK T n (tB T n 0)) vl' 0 0 (fun _ => 0) (fun _ => 0) (fun _ => 0) (fun _ => 0) (fun _ => 0) bu 0 0 0 0 0 0 0 0 0 (fun _ => none) ++ ws)) := by
  refine XMet.ofI (L := [some (.ref a), some (.ref tp), some (.int (jI n))]) hG (by decide +kernel) rfl (Nat.le_of_ble_eq_true rfl) rfl (fun K C E I => ?_)
  refine r_aload_0 C dX6_init_0 ?_
  refine r_objInit C q416 dX6_init_1 (by decide) (by decide) ?_
  refine r_aload_0 C dX6_init_4 ?_
  refine AW.less (k' := 8 + 1) (n' := 81 + 14) (by omega) (by omega) ?_
  refine r_new (ws := []) (wt := (a, .inr (4, [.null, .int 0, .null, .int 0, .int 0, .int 0, .int 0, .int 0, .int 0])) :: ws) C in_X1 tyX1_ok q417 q157 q120 (ci := 1) (fs := [.null, .null, .null, .null, .null, .null, .null, .int 0, .int 0, .int 0, .int 0, .int 0, .int 0, .int 0]) rfl (fun j hj => by rcases (show j = 0 ∨ j = 1 ∨ j = 2 ∨ j = 3 ∨ j = 4 ∨ j = 5 ∨ j = 6 ∨ j = 7 ∨ j = 8 ∨ j = 9 ∨ j = 10 ∨ j = 11 ∨ j = 12 ∨ j = 13 by omega) with rfl | rfl | rfl | rfl | rfl | rfl | rfl | rfl | rfl | rfl | rfl | rfl | rfl | rfl <;> rfl) dX6_init_5 (fun b => ?_)
  refine r_dup C dX6_init_8 ?_
  refine r_callI C (c_X1_init hG Z) q418 pkX1_initI (by decide) (by omega) (by omega) rfl (Nat.le_of_ble_eq_true rfl) dX6_init_9 (fun r w h => ?_)
  obtain ⟨rfl, τ, bu, rfl, hb0, rfl⟩ := h
  refine AW.less (k' := 0) (n' := 0) (by omega) (by omega) ?_
  refine AW.perm List.perm_middle ?_
  first
    | refine r_putF C I 0 rfl rfl in_X6 tyX6 tyX6_ok nmX6 2 (by decide) q434 rfl rfl rfl (tyX6_ok 2 (by decide)) rfl rfl (Nat.le_of_ble_eq_true rfl) dX6_init_12 ?_
    | refine r_put C 0 rfl rfl in_X6 tyX6 tyX6_ok nmX6 2 (by decide) q434 rfl rfl (tyX6_ok 2 (by decide)) rfl rfl (Nat.le_of_ble_eq_true rfl) dX6_init_12 ?_
  refine r_aload_0 C dX6_init_15 ?_
  refine r_aload_1 C dX6_init_16 ?_
  first
    | refine r_putF C I 0 rfl rfl in_X6 tyX6 tyX6_ok nmX6 0 (by decide) q432 rfl rfl rfl (tyX6_ok 0 (by decide)) rfl rfl (Nat.le_of_ble_eq_true rfl) dX6_init_17 ?_
    | refine r_put C 0 rfl rfl in_X6 tyX6 tyX6_ok nmX6 0 (by decide) q432 rfl rfl (tyX6_ok 0 (by decide)) rfl rfl (Nat.le_of_ble_eq_true rfl) dX6_init_17 ?_
  refine r_aload_0 C dX6_init_20 ?_
  refine r_iload_2 C dX6_init_21 ?_
  first
    | refine r_putF C I 0 rfl rfl in_X6 tyX6 tyX6_ok nmX6 1 (by decide) q433 rfl rfl rfl (tyX6_ok 1 (by decide)) rfl rfl (Nat.le_of_ble_eq_true rfl) dX6_init_22 ?_
    | refine r_put C 0 rfl rfl in_X6 tyX6 tyX6_ok nmX6 1 (by decide) q433 rfl rfl (tyX6_ok 1 (by decide)) rfl rfl (Nat.le_of_ble_eq_true rfl) dX6_init_22 ?_
  refine r_aload_0 C dX6_init_25 ?_
  show AW g K (wRd g a tp τ n 0 0 0 0 0 0 (fun _ => 0) (fun _ => 0) (fun _ => 0) (fun _ => 0) (fun _ => 0) bu 0 0 0 0 0 0 0 0 0 (fun _ => none) ++ ws) _ _ _ _ _
  refine r_cV0v C (c_X6_next hG ht hn ⟨Int.le_refl 0, hn0⟩ hT) (q0 := 0) rfl rfl q419 pkX6_next dX6_init_26 (fun w h => ?_)
  obtain ⟨vl', hvl, rfl⟩ := h
  exact r_return C E dX6_init_29 ⟨rfl, τ, bu, vl', hb0, hvl, rfl⟩
end R6
