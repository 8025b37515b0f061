/-! which change it is -/
section Kind
variable {g : GX} {ws : va_W} {c q0 : Nat} {fs : List Value}
theorem c_kind_Laid (hG : Gok g) (N : Gnc g) (he : ws[q0]? = some (c, .inr (6, fs))) : XMet g yX0_kindOf cX0_kindOf 1 (some .int) 0 0 0 [.ref c] ws (pI (fun z w => z = 0 ∧ w = ws)) := by
  refine XMet.of (L := [some (.ref c)]) hG (by decide +kernel) (Nat.le_of_ble_eq_true rfl) rfl (fun K C E => ?_)
  refine r_aload_0 C dX0_kindOf_0 ?_
  refine r_instS C q0 he rfl q1160 dX0_kindOf_1 ?_
  refine r_ifeq (tgt := 11) C dX0_kindOf_4 (by decide) (fun h => absurd h (by decide)) (fun _ => ?_)
  refine r_iconst C dX0_kindOf_7 ?_
  refine r_goto (tgt := 34) C dX0_kindOf_8 (by decide) ?_
  exact r_ireturn C E dX0_kindOf_34 ⟨_, rfl, rfl, rfl⟩
theorem c_kind_Fed1 (hG : Gok g) (N : Gnc g) (he : ws[q0]? = some (c, .inr (7, fs))) : XMet g yX0_kindOf cX0_kindOf 1 (some .int) 0 0 0 [.ref c] ws (pI (fun z w => z = 1 ∧ w = ws)) := by
  refine XMet.of (L := [some (.ref c)]) hG (by decide +kernel) (Nat.le_of_ble_eq_true rfl) rfl (fun K C E => ?_)
  refine r_aload_0 C dX0_kindOf_0 ?_
  refine r_instNo C N q0 he rfl q1160 (by decide +kernel) (by decide +kernel) (by decide +kernel) dX0_kindOf_1 ?_
  refine r_ifeq (tgt := 11) C dX0_kindOf_4 (by decide) (fun _ => ?_) (fun h => absurd rfl h)
  refine r_aload_0 C dX0_kindOf_11 ?_
  refine r_instS C q0 he rfl q1232 dX0_kindOf_12 ?_
  refine r_ifeq (tgt := 22) C dX0_kindOf_15 (by decide) (fun h => absurd h (by decide)) (fun _ => ?_)
  refine r_iconst C dX0_kindOf_18 ?_
  refine r_goto (tgt := 34) C dX0_kindOf_19 (by decide) ?_
  exact r_ireturn C E dX0_kindOf_34 ⟨_, rfl, rfl, rfl⟩
theorem c_kind_Drawn (hG : Gok g) (N : Gnc g) (he : ws[q0]? = some (c, .inr (8, fs))) : XMet g yX0_kindOf cX0_kindOf 1 (some .int) 0 0 0 [.ref c] ws (pI (fun z w => z = 2 ∧ w = ws)) := by
  refine XMet.of (L := [some (.ref c)]) hG (by decide +kernel) (Nat.le_of_ble_eq_true rfl) rfl (fun K C E => ?_)
  refine r_aload_0 C dX0_kindOf_0 ?_
  refine r_instNo C N q0 he rfl q1160 (by decide +kernel) (by decide +kernel) (by decide +kernel) dX0_kindOf_1 ?_
  refine r_ifeq (tgt := 11) C dX0_kindOf_4 (by decide) (fun _ => ?_) (fun h => absurd rfl h)
  refine r_aload_0 C dX0_kindOf_11 ?_
  refine r_instNo C N q0 he rfl q1232 (by decide +kernel) (by decide +kernel) (by decide +kernel) dX0_kindOf_12 ?_
  refine r_ifeq (tgt := 22) C dX0_kindOf_15 (by decide) (fun _ => ?_) (fun h => absurd rfl h)
  refine r_aload_0 C dX0_kindOf_22 ?_
  refine r_instS C q0 he rfl q1247 dX0_kindOf_23 ?_
  refine r_ifeq (tgt := 33) C dX0_kindOf_26 (by decide) (fun h => absurd h (by decide)) (fun _ => ?_)
  refine r_iconst C dX0_kindOf_29 ?_
  refine r_goto (tgt := 34) C dX0_kindOf_30 (by decide) ?_
  exact r_ireturn C E dX0_kindOf_34 ⟨_, rfl, rfl, rfl⟩
theorem c_kind_Aged (hG : Gok g) (N : Gnc g) (he : ws[q0]? = some (c, .inr (9, fs))) : XMet g yX0_kindOf cX0_kindOf 1 (some .int) 0 0 0 [.ref c] ws (pI (fun z w => z = 3 ∧ w = ws)) := by
  refine XMet.of (L := [some (.ref c)]) hG (by decide +kernel) (Nat.le_of_ble_eq_true rfl) rfl (fun K C E => ?_)
  refine r_aload_0 C dX0_kindOf_0 ?_
  refine r_instNo C N q0 he rfl q1160 (by decide +kernel) (by decide +kernel) (by decide +kernel) dX0_kindOf_1 ?_
  refine r_ifeq (tgt := 11) C dX0_kindOf_4 (by decide) (fun _ => ?_) (fun h => absurd rfl h)
  refine r_aload_0 C dX0_kindOf_11 ?_
  refine r_instNo C N q0 he rfl q1232 (by decide +kernel) (by decide +kernel) (by decide +kernel) dX0_kindOf_12 ?_
  refine r_ifeq (tgt := 22) C dX0_kindOf_15 (by decide) (fun _ => ?_) (fun h => absurd rfl h)
  refine r_aload_0 C dX0_kindOf_22 ?_
  refine r_instNo C N q0 he rfl q1247 (by decide +kernel) (by decide +kernel) (by decide +kernel) dX0_kindOf_23 ?_
  refine r_ifeq (tgt := 33) C dX0_kindOf_26 (by decide) (fun _ => ?_) (fun h => absurd rfl h)
  refine r_iconst C dX0_kindOf_33 ?_
  exact r_ireturn C E dX0_kindOf_34 ⟨_, rfl, rfl, rfl⟩
end Kind
