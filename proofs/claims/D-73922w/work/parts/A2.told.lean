/-! a list and what is told: made, copied -/
abbrev wT (g : GX) (τ : Nat → Nat) (wd fr to ld gr bu : Int → Int) (c r lm we ss pd ln md sz : Int) (el : Nat → Option Nat) : va_W := [(τ 0, .inr (1, [.ref (τ 1), .ref (τ 2), .ref (τ 3), .ref (τ 4), .ref (τ 5), .ref (τ 6), .ref (τ 7), .int (jI c), .int (jI r), .int (jI lm), .int (jI we), .int (jI ss), .int (jI pd), .int (jI ln)])), (τ 1, .inl (g.2.2.1 0, 12, .inl (arI wd))), (τ 2, .inl (g.2.2.1 0, 12, .inl (arI fr))), (τ 3, .inl (g.2.2.1 0, 12, .inl (arI to))), (τ 4, .inl (g.2.2.1 0, 9, .inl (arI ld))), (τ 5, .inl (g.2.2.1 0, 9, .inl (arI gr))), (τ 6, .inl (g.2.2.1 0, 4, .inl (arI bu))), (τ 7, .inr (10, [.int (jI md), .ref (τ 8), .int (jI sz)])), (τ 8, .inl (g.2.2.1 4, 20, qs el))]
theorem perm2 {α : Type} {P ws : List α} {x y : α} : (x :: y :: (P ++ ws)).Perm (P ++ x :: y :: ws) := (List.perm_middle.trans (List.perm_middle.cons _)).symm
section Told
variable {g : GX} {ws : va_W} {a : Nat}
theorem pkJ0_initI : PkI yJ0_init cJ0_init 1 0 := ⟨q171, q121, q172, by decide, rfl, by decide +kernel, by decide +kernel, by decide +kernel⟩
theorem pkJ1_initI : PkI yJ1_init cJ1_init 1 0 := ⟨q168, q122, q169, by decide, rfl, by decide +kernel, by decide +kernel, by decide +kernel⟩
theorem pkJ2_initI : PkI yJ2_init cJ2_init 2 1 := ⟨q165, q123, q166, by decide, rfl, by decide +kernel, by decide +kernel, by decide +kernel⟩
theorem pkX1_initI : PkI yX1_init cX1_init 2 0 := ⟨q159, q120, q160, by decide, rfl, by decide +kernel, by decide +kernel, by decide +kernel⟩
theorem c_J0_init (hG : Gok g) : XMet g yJ0_init cJ0_init 1 none 1 0 0 [.ref a] ws (pV (fun w => w = ws)) := by
  refine XMet.ofI (L := [some (.ref a)]) hG (by decide +kernel) rfl (Nat.le_of_ble_eq_true rfl) rfl (fun K C E I => ?_)
  refine r_aload_0 C dJ0_init_0 ?_
  refine r_objInit C q173 dJ0_init_1 (by decide) (by decide) ?_
  exact r_return C E dJ0_init_4 ⟨rfl, rfl⟩
theorem c_J1_init (hG : Gok g) {v0 v1 v2 : Value} : XMet g yJ1_init cJ1_init 1 none 2 0 0 [.ref a] ((a, .inr (10, [v0, v1, v2])) :: ws) (pV (fun w => w = (a, .inr (10, [.int (jI 0), v1, v2])) :: ws)) := by
  refine XMet.ofI (L := [some (.ref a)]) hG (by decide +kernel) rfl (Nat.le_of_ble_eq_true rfl) rfl (fun K C E I => ?_)
  refine r_aload_0 C dJ1_init_0 ?_
  refine r_callI C (c_J0_init hG) q170 pkJ0_initI (by decide) (Nat.zero_le _) (Nat.zero_le _) rfl (Nat.le_of_ble_eq_true rfl) dJ1_init_1 (fun r w h => ?_)
  obtain ⟨rfl, rfl⟩ := h
  refine r_aload_0 C dJ1_init_4 ?_
  refine r_iconst C dJ1_init_5 ?_
  refine r_put C 0 rfl rfl in_J2 tyJ2 tyJ2_ok nmJ2 0 (by decide) q180 rfl rfl (tyJ2_ok 0 (by decide)) rfl rfl (Nat.le_of_ble_eq_true rfl) dJ1_init_6 ?_
  exact r_return C E dJ1_init_9 ⟨rfl, rfl⟩
theorem c_J2_init (hG : Gok g) {mi : Nat} (Z : GA g mi) {v0 v1 v2 : Value} : XMet g yJ2_init cJ2_init 2 none 3 1 20 [.ref a, .int (jI 20)] ((a, .inr (10, [v0, v1, v2])) :: ws) (pV (fun w => ∃ b : Nat, w = (a, .inr (10, [.int (jI 0), .ref b, v2])) :: (b, .inl (g.2.2.1 4, 20, qs (fun _ => none))) :: ws)) := by
  refine XMet.ofI (L := [some (.ref a), some (.int (jI 20))]) hG (by decide +kernel) rfl (Nat.le_of_ble_eq_true rfl) rfl (fun K C E I => ?_)
  refine r_aload_0 C dJ2_init_0 ?_
  refine r_callI C (c_J1_init hG) q167 pkJ1_initI (by decide) (Nat.zero_le _) (Nat.zero_le _) rfl (Nat.le_of_ble_eq_true rfl) dJ2_init_1 (fun r w h => ?_)
  obtain ⟨rfl, rfl⟩ := h
  refine r_iload_1 C dJ2_init_4 ?_
  refine r_ifle (tgt := 19) C dJ2_init_5 (by decide) (fun c => absurd c (by decide)) (fun _ => ?_)
  refine r_aload_0 C dJ2_init_8 ?_
  refine r_iload_1 C dJ2_init_9 ?_
  refine AW.less (k' := 0 + 1) (n' := 0 + 20) (by omega) (by omega) ?_
  refine r_newq C 4 (fun A U H h => (Z A U H h).1) rfl q174 dJ2_init_10 rfl (by decide) (fun b => ?_)
  refine r_put C 1 rfl rfl in_J2 tyJ2 tyJ2_ok nmJ2 1 (by decide) q178 rfl rfl (tyJ2_ok 1 (by decide)) rfl rfl (Nat.le_of_ble_eq_true rfl) dJ2_init_13 ?_
  refine r_goto (tgt := 60) C dJ2_init_16 (by decide) ?_
  refine AW.perm (List.Perm.swap _ _ _) ?_
  exact r_return C E dJ2_init_60 ⟨rfl, b, rfl⟩
theorem c_X1_init (hG : Gok g) {mi : Nat} (Z : GA g mi) {v0 v1 v2 v3 v4 v5 v6 : Value} : XMet g yX1_init cX1_init 2 none 4 8 81 [.ref a] ((a, .inr (1, [v0, v1, v2, v3, v4, v5, v6, .int (jI 0), .int (jI 0), .int (jI 0), .int (jI 0), .int (jI 0), .int (jI 0), .int (jI 0)])) :: ws) (pV (fun w => ∃ (τ : Nat → Nat) (bu : Int → Int), τ 0 = a ∧ (∀ v : Int, 0 ≤ v → v < 4 → bu v = 999) ∧ w = wT g τ (fun _ => 0) (fun _ => 0) (fun _ => 0) (fun _ => 0) (fun _ => 0) bu 0 0 0 0 0 0 0 0 0 (fun _ => none) ++ ws)) := by
  refine XMet.ofI (L := [some (.ref a), none]) hG (by decide +kernel) rfl (Nat.le_of_ble_eq_true rfl) rfl (fun K C E I => ?_)
  refine r_aload_0 C dX1_init_0 ?_
  refine r_objInit C q161 dX1_init_1 (by decide) (by decide) ?_
  refine r_aload_0 C dX1_init_4 ?_
  refine r_bipush C dX1_init_5 ?_
  refine AW.less (k' := 7 + 1) (n' := 69 + 12) (by omega) (by omega) ?_
  refine r_newarrI (ws := [_]) (wt := ws) C q190 dX1_init_7 rfl (by decide) (fun a1 => ?_)
  refine r_putF C I 0 rfl rfl in_X1 tyX1 tyX1_ok nmX1 0 (by decide) q191 rfl rfl rfl (tyX1_ok 0 (by decide)) rfl rfl (Nat.le_of_ble_eq_true rfl) dX1_init_9 ?_
  refine r_aload_0 C dX1_init_12 ?_
  refine r_bipush C dX1_init_13 ?_
  refine AW.less (k' := 6 + 1) (n' := 57 + 12) (by omega) (by omega) ?_
  refine r_newarrI (ws := [_, _]) (wt := ws) C q190 dX1_init_15 rfl (by decide) (fun a2 => ?_)
  refine r_putF C I 0 rfl rfl in_X1 tyX1 tyX1_ok nmX1 1 (by decide) q197 rfl rfl rfl (tyX1_ok 1 (by decide)) rfl rfl (Nat.le_of_ble_eq_true rfl) dX1_init_17 ?_
  refine r_aload_0 C dX1_init_20 ?_
  refine r_bipush C dX1_init_21 ?_
  refine AW.less (k' := 5 + 1) (n' := 45 + 12) (by omega) (by omega) ?_
  refine r_newarrI (ws := [_, _, _]) (wt := ws) C q190 dX1_init_23 rfl (by decide) (fun a3 => ?_)
  refine r_putF C I 0 rfl rfl in_X1 tyX1 tyX1_ok nmX1 2 (by decide) q201 rfl rfl rfl (tyX1_ok 2 (by decide)) rfl rfl (Nat.le_of_ble_eq_true rfl) dX1_init_25 ?_
  refine r_aload_0 C dX1_init_28 ?_
  refine r_bipush C dX1_init_29 ?_
  refine AW.less (k' := 4 + 1) (n' := 36 + 9) (by omega) (by omega) ?_
  refine r_newarrI (ws := [_, _, _, _]) (wt := ws) C q190 dX1_init_31 rfl (by decide) (fun a4 => ?_)
  refine r_putF C I 0 rfl rfl in_X1 tyX1 tyX1_ok nmX1 3 (by decide) q205 rfl rfl rfl (tyX1_ok 3 (by decide)) rfl rfl (Nat.le_of_ble_eq_true rfl) dX1_init_33 ?_
  refine r_aload_0 C dX1_init_36 ?_
  refine r_bipush C dX1_init_37 ?_
  refine AW.less (k' := 3 + 1) (n' := 27 + 9) (by omega) (by omega) ?_
  refine r_newarrI (ws := [_, _, _, _, _]) (wt := ws) C q190 dX1_init_39 rfl (by decide) (fun a5 => ?_)
  refine r_putF C I 0 rfl rfl in_X1 tyX1 tyX1_ok nmX1 4 (by decide) q210 rfl rfl rfl (tyX1_ok 4 (by decide)) rfl rfl (Nat.le_of_ble_eq_true rfl) dX1_init_41 ?_
  refine r_aload_0 C dX1_init_44 ?_
  refine r_iconst C dX1_init_45 ?_
  refine AW.less (k' := 2 + 1) (n' := 23 + 4) (by omega) (by omega) ?_
  refine r_newarrI (ws := [_, _, _, _, _, _]) (wt := ws) C q190 dX1_init_46 rfl (by decide) (fun a6 => ?_)
  refine r_putF C I 0 rfl rfl in_X1 tyX1 tyX1_ok nmX1 5 (by decide) q213 rfl rfl rfl (tyX1_ok 5 (by decide)) rfl rfl (Nat.le_of_ble_eq_true rfl) dX1_init_48 ?_
  refine r_aload_0 C dX1_init_51 ?_
  refine AW.less (k' := 1 + 1) (n' := 20 + 3) (by omega) (by omega) ?_
  refine r_new (ws := [_, _, _, _, _, _, _]) (wt := ws) C in_J2 tyJ2_ok q162 q163 q123 (ci := 10) (fs := [.int 0, .null, .int 0]) rfl (fun j hj => by rcases (show j = 0 ∨ j = 1 ∨ j = 2 by omega) with rfl | rfl | rfl <;> rfl) dX1_init_52 (fun a7 => ?_)
  refine r_dup C dX1_init_55 ?_
  refine r_bipush C dX1_init_56 ?_
  refine AW.perm List.perm_middle ?_
  refine r_callI C (c_J2_init hG Z) q164 pkJ2_initI (by decide) (by decide) (by decide) rfl (Nat.le_of_ble_eq_true rfl) dX1_init_58 (fun r w h => ?_)
  obtain ⟨rfl, a8, rfl⟩ := h
  refine AW.perm (perm2 (P := [_, _, _, _, _, _, _])) ?_
  refine r_putF C I 0 rfl rfl in_X1 tyX1 tyX1_ok nmX1 6 (by decide) q216 rfl rfl rfl (tyX1_ok 6 (by decide)) rfl rfl (Nat.le_of_ble_eq_true rfl) dX1_init_61 ?_
  refine r_iconst C dX1_init_64 ?_
  refine r_istore_1 C dX1_init_65 ?_
  refine r_iload_1 C dX1_init_66 ?_
  refine r_iconst C dX1_init_67 ?_
  refine r_if_icmpgt (tgt := 86) C dX1_init_68 (by decide) (fun c => absurd c (by decide)) (fun _ => ?_) (ha := by unfold inR; decide) (hb0 := by unfold inR; decide)
  refine r_aload_0 C dX1_init_71 ?_
  refine r_get C 0 rfl rfl in_X1 5 (by decide) q213 rfl rfl dX1_init_72 ?_
  refine r_iload_1 C dX1_init_75 ?_
  refine r_sipush C dX1_init_76 ?_
  refine r_iast C 6 rfl dX1_init_79 (by decide) (by decide) (by decide) ?_
  refine r_iinc_1 C dX1_init_80 ?_
  refine r_goto (tgt := 66) C dX1_init_83 (by decide) ?_
  refine r_iload_1 C dX1_init_66 ?_
  refine r_iconst C dX1_init_67 ?_
  refine r_if_icmpgt (tgt := 86) C dX1_init_68 (by decide) (fun c => absurd c (by decide)) (fun _ => ?_) (ha := by unfold inR; decide) (hb0 := by unfold inR; decide)
  refine r_aload_0 C dX1_init_71 ?_
  refine r_get C 0 rfl rfl in_X1 5 (by decide) q213 rfl rfl dX1_init_72 ?_
  refine r_iload_1 C dX1_init_75 ?_
  refine r_sipush C dX1_init_76 ?_
  refine r_iast C 6 rfl dX1_init_79 (by decide) (by decide) (by decide) ?_
  refine r_iinc_1 C dX1_init_80 ?_
  refine r_goto (tgt := 66) C dX1_init_83 (by decide) ?_
  refine r_iload_1 C dX1_init_66 ?_
  refine r_iconst C dX1_init_67 ?_
  refine r_if_icmpgt (tgt := 86) C dX1_init_68 (by decide) (fun c => absurd c (by decide)) (fun _ => ?_) (ha := by unfold inR; decide) (hb0 := by unfold inR; decide)
  refine r_aload_0 C dX1_init_71 ?_
  refine r_get C 0 rfl rfl in_X1 5 (by decide) q213 rfl rfl dX1_init_72 ?_
  refine r_iload_1 C dX1_init_75 ?_
  refine r_sipush C dX1_init_76 ?_
  refine r_iast C 6 rfl dX1_init_79 (by decide) (by decide) (by decide) ?_
  refine r_iinc_1 C dX1_init_80 ?_
  refine r_goto (tgt := 66) C dX1_init_83 (by decide) ?_
  refine r_iload_1 C dX1_init_66 ?_
  refine r_iconst C dX1_init_67 ?_
  refine r_if_icmpgt (tgt := 86) C dX1_init_68 (by decide) (fun c => absurd c (by decide)) (fun _ => ?_) (ha := by unfold inR; decide) (hb0 := by unfold inR; decide)
  refine r_aload_0 C dX1_init_71 ?_
  refine r_get C 0 rfl rfl in_X1 5 (by decide) q213 rfl rfl dX1_init_72 ?_
  refine r_iload_1 C dX1_init_75 ?_
  refine r_sipush C dX1_init_76 ?_
  refine r_iast C 6 rfl dX1_init_79 (by decide) (by decide) (by decide) ?_
  refine r_iinc_1 C dX1_init_80 ?_
  refine r_goto (tgt := 66) C dX1_init_83 (by decide) ?_
  refine r_iload_1 C dX1_init_66 ?_
  refine r_iconst C dX1_init_67 ?_
  refine r_if_icmpgt (tgt := 86) C dX1_init_68 (by decide) (fun _ => ?_) (fun c => absurd c (by decide)) (ha := by unfold inR; decide) (hb0 := by unfold inR; decide)
  refine r_return C E dX1_init_86 ⟨rfl, fun i => [a, a1, a2, a3, a4, a5, a6, a7, a8].getD i 0, _, rfl, fun v h0 h1 => ?_, rfl⟩
  rcases (show v = 0 ∨ v = 1 ∨ v = 2 ∨ v = 3 by omega) with rfl | rfl | rfl | rfl <;> rfl
end Told
section Copies
variable {g : GX} {ws : va_W} {mi : Nat}
theorem c_J12_copyOf_2 (hG : Gok g) (Z : GA g mi) {a N n q0 : Nat} {f : Nat → Option Nat} (ha : ws[q0]? = some (a, .inl (g.2.2.1 4, N, qs f))) (hn : n ≤ N) (hN : N ≤ 20) (hel : ElOk ws f n) : XMet g yJ12_copyOf_2 cJ12_copyOf_2 4 (some (.array (.object "java/lang/Object"))) 1 1 n [.ref a, .int (jI n), .ref mi] ws (pA (fun z w => w = (z, .inl (g.2.2.1 4, n, qs (va_cpy f (fun _ => none) 0 0 n))) :: ws)) := by
  refine XMet.of (L := [some (.ref a), some (.int (jI n)), some (.ref mi), none]) hG (by decide +kernel) (Nat.le_of_ble_eq_true rfl) rfl (fun K C E => ?_)
  refine r_aload_2 C dJ12_copyOf_2_0 ?_
  refine r_ldcM C Z q1223 dJ12_copyOf_2_1 ?_
  refine r_acmpneE (tgt := 13) C dJ12_copyOf_2_3 (by decide) ?_
  refine r_iload_1 C dJ12_copyOf_2_6 ?_
  refine AW.less (k' := 0 + 1) (n' := 0 + n) (by omega) (by omega) ?_
  refine r_newq C 4 (fun A U H h => (Z A U H h).1) rfl q1224 dJ12_copyOf_2_7 rfl (by omega) (fun b => ?_)
  refine r_goto (tgt := 24) C dJ12_copyOf_2_10 (by decide) ?_
  refine r_astore_3 C dJ12_copyOf_2_24 ?_
  refine r_aload_0 C dJ12_copyOf_2_25 ?_
  refine r_iconst C dJ12_copyOf_2_26 ?_
  refine r_aload_3 C dJ12_copyOf_2_27 ?_
  refine r_iconst C dJ12_copyOf_2_28 ?_
  refine r_aload_0 C dJ12_copyOf_2_29 ?_
  refine r_alen C 4 (q0 + 1) (by simpa using ha) rfl dJ12_copyOf_2_30 ?_
  refine r_iload_1 C dJ12_copyOf_2_31 ?_
  refine r_mmin C q1225 dJ12_copyOf_2_32 ?_
  refine r_copyq C (m := n) (q0 + 1) 0 (by simpa using ha) rfl q1226 dJ12_copyOf_2_35 (by split <;> omega) hn (Nat.le_refl _) (by omega) hel.cons (by decide) (by decide) ?_
  refine r_aload_3 C dJ12_copyOf_2_38 ?_
  exact r_areturn C E (Or.inr ⟨_, rfl⟩) dJ12_copyOf_2_39 ⟨_, rfl, rfl⟩
theorem c_J12_copyOf (hG : Gok g) (Z : GA g mi) {a N n q0 : Nat} {f : Nat → Option Nat} (ha : ws[q0]? = some (a, .inl (g.2.2.1 4, N, qs f))) (hn : n ≤ N) (hN : N ≤ 20) (hel : ElOk ws f n) : XMet g yJ12_copyOf cJ12_copyOf 2 (some (.array (.object "java/lang/Object"))) 2 1 n [.ref a, .int (jI n)] ws (pA (fun z w => w = (z, .inl (g.2.2.1 4, n, qs (va_cpy f (fun _ => none) 0 0 n))) :: ws)) := by
  refine XMet.of (L := [some (.ref a), some (.int (jI n))]) hG (by decide +kernel) (Nat.le_of_ble_eq_true rfl) rfl (fun K C E => ?_)
  refine r_aload_0 C dJ12_copyOf_0 ?_
  refine r_iload_1 C dJ12_copyOf_1 ?_
  refine r_aload_0 C dJ12_copyOf_2 ?_
  refine r_getC C Z q0 ha q1203 (by decide) (Nat.le_of_ble_eq_true rfl) dJ12_copyOf_3 ?_
  refine r_callS C (av := [.ref a, .int (jI n), .ref mi]) (c_J12_copyOf_2 hG Z ha hn hN hel) q1220 pkJ12_copyOf_2 (by decide) (by decide) (by omega) rfl (by decide) dJ12_copyOf_6 (fun r w h => ?_)
  obtain ⟨z, rfl, rfl⟩ := h
  exact r_areturn C E (Or.inr ⟨_, rfl⟩) dJ12_copyOf_9 ⟨_, rfl, rfl⟩
theorem c_J2_toArray (hG : Gok g) (Z : GA g mi) {a b n q0 q1 : Nat} {f : Nat → Option Nat} {v0 : Value} (hl : ws[q0]? = some (a, .inr (10, [v0, .ref b, .int (jI n)]))) (ha : ws[q1]? = some (b, .inl (g.2.2.1 4, 20, qs f))) (hn : n ≤ 20) (hel : ElOk ws f n) : XMet g yJ2_toArray cJ2_toArray 1 (some (.array (.object "java/lang/Object"))) 3 1 n [.ref a] ws (pA (fun z w => w = (z, .inl (g.2.2.1 4, n, qs (va_cpy f (fun _ => none) 0 0 n))) :: ws)) := by
  refine XMet.of (L := [some (.ref a)]) hG (by decide +kernel) (Nat.le_of_ble_eq_true rfl) rfl (fun K C E => ?_)
  refine r_aload_0 C dJ2_toArray_0 ?_
  refine r_get C q0 hl rfl in_J2 1 (by decide) q178 rfl rfl dJ2_toArray_1 ?_
  refine r_aload_0 C dJ2_toArray_4 ?_
  refine r_get C q0 hl rfl in_J2 2 (by decide) q179 rfl rfl dJ2_toArray_5 ?_
  refine r_callS C (av := [.ref b, .int (jI n)]) (c_J12_copyOf hG Z ha hn (by decide) hel) q1200 pkJ12_copyOf (by decide) (by decide) (by omega) rfl (by decide) dJ2_toArray_8 (fun r w h => ?_)
  obtain ⟨z, rfl, rfl⟩ := h
  exact r_areturn C E (Or.inr ⟨_, rfl⟩) dJ2_toArray_11 ⟨_, rfl, rfl⟩
def yColl : MethodName := ⟨"java/util/Collection", "toArray", "()[Ljava/lang/Object;"⟩
theorem pfJ2 : PkF "java/util/ArrayList" yColl yJ2_toArray cJ2_toArray 1 (some (.array (.object "java/lang/Object"))) 0 := ⟨⟨q1297, q1299, q123, q1301⟩, ⟨nw_in q1295 rfl, nw_in q1294 rfl, nw_in q1300 rfl, nw_in q1298 rfl, nw_in q1296 rfl⟩, by decide, by decide +kernel, by decide +kernel, by decide +kernel⟩
/-- two that are told, one behind the other: the second's list is added to the first's, which is empty -/
theorem c_J2_addAll (hG : Gok g) (Z : GA g mi) {τ' τ : Nat → Nat} {wd fr to ld gr bu wd' fr' to' ld' gr' bu' : Int → Int} {c r lm we ss pd ln md c' r' lm' we' ss' pd' ln' md' : Int} {n : Nat} {el : Nat → Option Nat} (hn : n ≤ 20) (hel : ElOk ws el n) : XMet g yJ2_addAll cJ2_addAll 6 (some .boolean) 4 1 n [.ref (τ' 7), .ref (τ 7)] (wT g τ' wd' fr' to' ld' gr' bu' c' r' lm' we' ss' pd' ln' md' 0 (fun _ => none) ++ (wT g τ wd fr to ld gr bu c r lm we ss pd ln md n el ++ ws)) (pI (fun _ w => ∃ el' : Nat → Option Nat, (∀ i : Nat, i < n → el' i = el i) ∧ w = wT g τ' wd' fr' to' ld' gr' bu' c' r' lm' we' ss' pd' ln' (md' + 1) n el' ++ (wT g τ wd fr to ld gr bu c r lm we ss pd ln md n el ++ ws))) := by
  refine XMet.of (L := [some (.ref (τ' 7)), some (.ref (τ 7)), none, none, none, none]) hG (by decide +kernel) (Nat.le_of_ble_eq_true rfl) rfl (fun K C E => ?_)
  refine r_aload_1 C dJ2_addAll_0 ?_
  refine r_callF C (q0 := 16) (c_J2_toArray (q0 := 16) (q1 := 17) hG Z rfl rfl hn hel.app.app) rfl rfl q1293 pfJ2 (by decide) (by decide) (by omega) rfl (by decide) dJ2_addAll_1 (fun r w h => ?_)
  obtain ⟨z, rfl, rfl⟩ := h
  refine r_astore_2 C dJ2_addAll_6 ?_
  refine r_aload_0 C dJ2_addAll_7 ?_
  refine r_dup C dJ2_addAll_8 ?_
  refine r_getI C 8 rfl rfl in_J2 0 (by decide) q181 q182 rfl dJ2_addAll_9 ?_
  refine r_iconst C dJ2_addAll_12 ?_
  refine r_iadd C dJ2_addAll_13 ?_
  refine r_putI C 8 rfl rfl in_J2 tyJ2 tyJ2_ok nmJ2 0 (by decide) q181 q182 rfl (tyJ2_ok 0 (by decide)) rfl rfl (Nat.le_of_ble_eq_true rfl) dJ2_addAll_14 ?_
  refine r_aload_2 C dJ2_addAll_17 ?_
  refine r_alen C 4 0 rfl rfl dJ2_addAll_18 ?_
  refine r_istore_3 C dJ2_addAll_19 ?_
  refine r_iload_3 C dJ2_addAll_20 ?_
  refine r_ifne (tgt := 26) C dJ2_addAll_21 (by decide) (fun h0 => ?_) (fun h0 => ?_) (ha := by unfold inR; omega)
  · refine r_iload_3 C dJ2_addAll_26 ?_
    refine r_aload_0 C dJ2_addAll_27 ?_
    refine r_get C 8 rfl rfl in_J2 1 (by decide) q178 rfl rfl dJ2_addAll_28 ?_
    refine r_dup C dJ2_addAll_31 ?_
    refine r_astore_4 C dJ2_addAll_32 ?_
    refine r_alen C 4 9 rfl rfl dJ2_addAll_34 ?_
    refine r_aload_0 C dJ2_addAll_35 ?_
    refine r_get C 8 rfl rfl in_J2 2 (by decide) q179 rfl rfl dJ2_addAll_36 ?_
    refine r_dup C dJ2_addAll_39 ?_
    refine r_istore_5 C dJ2_addAll_40 ?_
    refine r_isub C dJ2_addAll_42 ?_
    refine r_if_icmple (tgt := 56) C dJ2_addAll_43 (by decide) (fun h1 => ?_) (fun h1 => ?_) (ha := by unfold inR; omega) (hb0 := by unfold inR; omega)
    · refine r_aload_2 C dJ2_addAll_56 ?_
      refine r_iconst C dJ2_addAll_57 ?_
      refine r_aload_4 C dJ2_addAll_58 ?_
      refine r_iload_5 C dJ2_addAll_60 ?_
      refine r_iload_3 C dJ2_addAll_62 ?_
      refine r_copyq C (m := n) 0 9 rfl rfl q1302 dJ2_addAll_63 rfl (Nat.le_refl _) hn (by decide) (hel.cpy.app (ws := _ :: wT g τ' wd' fr' to' ld' gr' bu' c' r' lm' we' ss' pd' ln' (md' + 1) 0 (fun _ => none) ++ wT g τ wd fr to ld gr bu c r lm we ss pd ln md n el)) (by decide) (by decide) ?_
      refine r_aload_0 C dJ2_addAll_66 ?_
      refine r_iload_5 C dJ2_addAll_67 ?_
      refine r_iload_3 C dJ2_addAll_69 ?_
      refine r_iadd C dJ2_addAll_70 ?_
      refine r_topi (n : Int) (Int.zero_add _) ?_
      refine r_put C 8 rfl rfl in_J2 tyJ2 tyJ2_ok nmJ2 2 (by decide) q179 rfl rfl (tyJ2_ok 2 (by decide)) rfl rfl (Nat.le_of_ble_eq_true rfl) dJ2_addAll_71 ?_
      refine r_iconst C dJ2_addAll_74 ?_
      refine AW.drop ?_
      refine r_zreturn C E dJ2_addAll_75 (Or.inr rfl) ⟨_, rfl, va_cpy (va_cpy el (fun _ => none) 0 0 n) (fun _ => none) 0 0 n, fun i hi => ?_, ?_⟩
      · unfold va_cpy
        simp [hi]
      · rfl
    · exfalso
      omega
  · refine r_iconst C dJ2_addAll_24 ?_
    refine AW.drop ?_
    have e0 : n = 0 := by omega
    subst e0
    exact r_zreturn C E dJ2_addAll_25 (Or.inl rfl) ⟨_, rfl, fun _ => none, fun i hi => absurd hi (Nat.not_lt_zero _), rfl⟩
end Copies
section Same
variable {g : GX} {ws : va_W} {mi : Nat}
/-- a copy stands ahead of what was copied -/
theorem c_X1_same (hG : Gok g) (Z : GA g mi) {τ : Nat → Nat} {wd fr to ld gr bu : Int → Int} {c r lm we ss pd ln md : Int} {n : Nat} {el : Nat → Option Nat} (hn : n ≤ 20) (hel : ElOk ws el n) : XMet g yX1_same cX1_same 2 (some (.object "SupplyGrid$Told")) 5 10 (95 + n) [.ref (τ 0)] (wT g τ wd fr to ld gr bu c r lm we ss pd ln md n el ++ ws) (pA (fun z w => ∃ (τ' : Nat → Nat) (wd' fr' to' ld' gr' bu' : Int → Int) (md' : Int) (el' : Nat → Option Nat), z = τ' 0 ∧ (∀ k, 0 ≤ k → k < 12 → wd' k = wd k ∧ fr' k = fr k ∧ to' k = to k) ∧ (∀ k, 0 ≤ k → k < 9 → ld' k = ld k ∧ gr' k = gr k) ∧ (∀ k, 0 ≤ k → k < 4 → bu' k = bu k) ∧ (∀ i : Nat, i < n → el' i = el i) ∧ w = wT g τ' wd' fr' to' ld' gr' bu' c r lm we ss pd ln md' n el' ++ (wT g τ wd fr to ld gr bu c r lm we ss pd ln md n el ++ ws))) := by
  refine XMet.of (L := [some (.ref (τ 0)), none]) hG (by decide +kernel) (Nat.le_of_ble_eq_true rfl) rfl (fun K C E => ?_)
  refine AW.less (k' := 9 + 1) (n' := (81 + n) + 14) (by omega) (by omega) ?_
  refine r_new (ws := []) (wt := wT g τ wd fr to ld gr bu c r lm we ss pd ln md n el ++ ws) C in_X1 tyX1_ok q1285 q157 q120 (ci := 1) (fs := [.null, .null, .null, .null, .null, .null, .null, .int 0, .int 0, .int 0, .int 0, .int 0, .int 0, .int 0]) rfl (fun j hj => by rcases (show j = 0 ∨ j = 1 ∨ j = 2 ∨ j = 3 ∨ j = 4 ∨ j = 5 ∨ j = 6 ∨ j = 7 ∨ j = 8 ∨ j = 9 ∨ j = 10 ∨ j = 11 ∨ j = 12 ∨ j = 13 by omega) with rfl | rfl | rfl | rfl | rfl | rfl | rfl | rfl | rfl | rfl | rfl | rfl | rfl | rfl <;> rfl) dX1_same_0 (fun a0 => ?_)
  refine r_dup C dX1_same_3 ?_
  refine r_callI C (c_X1_init hG Z) q1286 pkX1_initI (by decide) (by omega) (by omega) rfl (Nat.le_of_ble_eq_true rfl) dX1_same_4 (fun r w h => ?_)
  obtain ⟨rfl, τ', bu0, rfl, hb0, rfl⟩ := h
  refine r_astore_1 C dX1_same_7 ?_
  refine r_aload_0 C dX1_same_8 ?_
  refine r_get C 9 rfl rfl in_X1 0 (by decide) q191 rfl rfl dX1_same_9 ?_
  refine r_iconst C dX1_same_12 ?_
  refine r_aload_1 C dX1_same_13 ?_
  refine r_get C 0 rfl rfl in_X1 0 (by decide) q191 rfl rfl dX1_same_14 ?_
  refine r_iconst C dX1_same_17 ?_
  refine r_bipush C dX1_same_18 ?_
  refine r_copyi C 10 1 rfl rfl q1287 dX1_same_20 (by decide) (by decide) (by decide) (by decide) (by decide) (by decide) ?_
  refine r_aload_0 C dX1_same_23 ?_
  refine r_get C 9 rfl rfl in_X1 1 (by decide) q197 rfl rfl dX1_same_24 ?_
  refine r_iconst C dX1_same_27 ?_
  refine r_aload_1 C dX1_same_28 ?_
  refine r_get C 0 rfl rfl in_X1 1 (by decide) q197 rfl rfl dX1_same_29 ?_
  refine r_iconst C dX1_same_32 ?_
  refine r_bipush C dX1_same_33 ?_
  refine r_copyi C 11 2 rfl rfl q1287 dX1_same_35 (by decide) (by decide) (by decide) (by decide) (by decide) (by decide) ?_
  refine r_aload_0 C dX1_same_38 ?_
  refine r_get C 9 rfl rfl in_X1 2 (by decide) q201 rfl rfl dX1_same_39 ?_
  refine r_iconst C dX1_same_42 ?_
  refine r_aload_1 C dX1_same_43 ?_
  refine r_get C 0 rfl rfl in_X1 2 (by decide) q201 rfl rfl dX1_same_44 ?_
  refine r_iconst C dX1_same_47 ?_
  refine r_bipush C dX1_same_48 ?_
  refine r_copyi C 12 3 rfl rfl q1287 dX1_same_50 (by decide) (by decide) (by decide) (by decide) (by decide) (by decide) ?_
  refine r_aload_0 C dX1_same_53 ?_
  refine r_get C 9 rfl rfl in_X1 3 (by decide) q205 rfl rfl dX1_same_54 ?_
  refine r_iconst C dX1_same_57 ?_
  refine r_aload_1 C dX1_same_58 ?_
  refine r_get C 0 rfl rfl in_X1 3 (by decide) q205 rfl rfl dX1_same_59 ?_
  refine r_iconst C dX1_same_62 ?_
  refine r_bipush C dX1_same_63 ?_
  refine r_copyi C 13 4 rfl rfl q1287 dX1_same_65 (by decide) (by decide) (by decide) (by decide) (by decide) (by decide) ?_
  refine r_aload_0 C dX1_same_68 ?_
  refine r_get C 9 rfl rfl in_X1 4 (by decide) q210 rfl rfl dX1_same_69 ?_
  refine r_iconst C dX1_same_72 ?_
  refine r_aload_1 C dX1_same_73 ?_
  refine r_get C 0 rfl rfl in_X1 4 (by decide) q210 rfl rfl dX1_same_74 ?_
  refine r_iconst C dX1_same_77 ?_
  refine r_bipush C dX1_same_78 ?_
  refine r_copyi C 14 5 rfl rfl q1287 dX1_same_80 (by decide) (by decide) (by decide) (by decide) (by decide) (by decide) ?_
  refine r_aload_0 C dX1_same_83 ?_
  refine r_get C 9 rfl rfl in_X1 5 (by decide) q213 rfl rfl dX1_same_84 ?_
  refine r_iconst C dX1_same_87 ?_
  refine r_aload_1 C dX1_same_88 ?_
  refine r_get C 0 rfl rfl in_X1 5 (by decide) q213 rfl rfl dX1_same_89 ?_
  refine r_iconst C dX1_same_92 ?_
  refine r_iconst C dX1_same_93 ?_
  refine r_copyi C 15 6 rfl rfl q1287 dX1_same_94 (by decide) (by decide) (by decide) (by decide) (by decide) (by decide) ?_
  refine r_aload_1 C dX1_same_97 ?_
  refine r_get C 0 rfl rfl in_X1 6 (by decide) q216 rfl rfl dX1_same_98 ?_
  refine r_aload_0 C dX1_same_101 ?_
  refine r_get C 9 rfl rfl in_X1 6 (by decide) q216 rfl rfl dX1_same_102 ?_
  refine r_callV C (av := [.ref (τ 7)]) (q0 := 7) (c_J2_addAll hG Z hn hel) rfl rfl q1288 pkJ2_addAll (by decide) (by omega) (by omega) rfl (by decide) dX1_same_105 (fun r w h => ?_)
  obtain ⟨z, rfl, el', he, rfl⟩ := h
  refine r_pop C dX1_same_108 ?_
  refine r_aload_1 C dX1_same_109 ?_
  refine r_aload_0 C dX1_same_110 ?_
  refine r_get C 9 rfl rfl in_X1 7 (by decide) q220 rfl rfl dX1_same_111 ?_
  refine r_put C 0 rfl rfl in_X1 tyX1 tyX1_ok nmX1 7 (by decide) q220 rfl rfl (tyX1_ok 7 (by decide)) rfl rfl (Nat.le_of_ble_eq_true rfl) dX1_same_114 ?_
  refine r_aload_1 C dX1_same_117 ?_
  refine r_aload_0 C dX1_same_118 ?_
  refine r_get C 9 rfl rfl in_X1 8 (by decide) q224 rfl rfl dX1_same_119 ?_
  refine r_put C 0 rfl rfl in_X1 tyX1 tyX1_ok nmX1 8 (by decide) q224 rfl rfl (tyX1_ok 8 (by decide)) rfl rfl (Nat.le_of_ble_eq_true rfl) dX1_same_122 ?_
  refine r_aload_1 C dX1_same_125 ?_
  refine r_aload_0 C dX1_same_126 ?_
  refine r_get C 9 rfl rfl in_X1 9 (by decide) q227 rfl rfl dX1_same_127 ?_
  refine r_put C 0 rfl rfl in_X1 tyX1 tyX1_ok nmX1 9 (by decide) q227 rfl rfl (tyX1_ok 9 (by decide)) rfl rfl (Nat.le_of_ble_eq_true rfl) dX1_same_130 ?_
  refine r_aload_1 C dX1_same_133 ?_
  refine r_aload_0 C dX1_same_134 ?_
  refine r_get C 9 rfl rfl in_X1 10 (by decide) q231 rfl rfl dX1_same_135 ?_
  refine r_put C 0 rfl rfl in_X1 tyX1 tyX1_ok nmX1 10 (by decide) q231 rfl rfl (tyX1_ok 10 (by decide)) rfl rfl (Nat.le_of_ble_eq_true rfl) dX1_same_138 ?_
  refine r_aload_1 C dX1_same_141 ?_
  refine r_aload_0 C dX1_same_142 ?_
  refine r_get C 9 rfl rfl in_X1 11 (by decide) q238 rfl rfl dX1_same_143 ?_
  refine r_put C 0 rfl rfl in_X1 tyX1 tyX1_ok nmX1 11 (by decide) q238 rfl rfl (tyX1_ok 11 (by decide)) rfl rfl (Nat.le_of_ble_eq_true rfl) dX1_same_146 ?_
  refine r_aload_1 C dX1_same_149 ?_
  refine r_aload_0 C dX1_same_150 ?_
  refine r_get C 9 rfl rfl in_X1 12 (by decide) q242 rfl rfl dX1_same_151 ?_
  refine r_put C 0 rfl rfl in_X1 tyX1 tyX1_ok nmX1 12 (by decide) q242 rfl rfl (tyX1_ok 12 (by decide)) rfl rfl (Nat.le_of_ble_eq_true rfl) dX1_same_154 ?_
  refine r_aload_1 C dX1_same_157 ?_
  refine r_aload_0 C dX1_same_158 ?_
  refine r_get C 9 rfl rfl in_X1 13 (by decide) q245 rfl rfl dX1_same_159 ?_
  refine r_put C 0 rfl rfl in_X1 tyX1 tyX1_ok nmX1 13 (by decide) q245 rfl rfl (tyX1_ok 13 (by decide)) rfl rfl (Nat.le_of_ble_eq_true rfl) dX1_same_162 ?_
  refine r_aload_1 C dX1_same_165 ?_
  refine r_areturn C E (Or.inl ⟨_, rfl⟩) dX1_same_166 ⟨_, rfl, τ', _, _, _, _, _, _, _, el', rfl, fun k h0 h1 => ⟨if_pos ⟨h0, h1⟩, if_pos ⟨h0, h1⟩, if_pos ⟨h0, h1⟩⟩, fun k h0 h1 => ⟨if_pos ⟨h0, h1⟩, if_pos ⟨h0, h1⟩⟩, fun k h0 h1 => if_pos ⟨h0, h1⟩, he, rfl⟩
end Same
