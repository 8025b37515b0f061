section X18
variable {g : GX} {σ : Nat → Nat} {ex : va_W}
variable {x_tape : Int → Int} {x_taped : Int} {x_faultKind : Int} {x_faultPlace : Int} {x_bestStarved : Int} {x_bestMost : Int} {x_bestWhole : Int} {x_draws : Int → Int} {x_left : Int → Int} {x_mosts : Int → Int} {x_widened : Int → Int} {x_drawn : Int} {x_img : Nat → Option Nat} {n_width : Int → Int} {n_from : Int → Int} {n_to : Int → Int} {n_load : Int → Int} {n_group : Int → Int} {n_budget : Int → Int} {n_columns : Int} {n_rows : Int} {n_limit : Int} {n_wear : Int} {n_straps : Int} {n_pads : Int} {n_lines : Int} {n_mod : Int} {n_asz : Int} {n_el : Nat → Option Nat} {i_width : Int → Int} {i_load : Int → Int} {i_pads : Int} {i_reached : Int} {i_place : Int → Int} {i_table : Int → Int} {i_drop : Int → Int} {i_size : Int} {i_whole : Int} {t_width : Int → Int} {t_load : Int → Int} {t_pads : Int} {t_reached : Int} {t_place : Int → Int} {t_table : Int → Int} {t_drop : Int → Int} {t_size : Int} {t_whole : Int}
theorem c_X0_undo (hG : Gok g) {w : Int → Int} {cs : Int → Chg} (hW : NW w n_width n_from n_to n_load n_group n_budget n_columns n_rows n_limit n_wear n_straps n_pads n_lines) (ha : 0 ≤ n_asz ∧ n_asz ≤ 20) (hA : ActsX ex n_el n_asz cs) (hx : 0 < n_asz → chOk w (cs (n_asz - 1)) ∧ Gd (chUndo w (cs (n_asz - 1)))) : XMet g yX0_undo cX0_undo 1 (some .int) (4) 0 0 [.ref (σ 0)] (wX g σ x_tape x_taped x_faultKind x_faultPlace x_bestStarved x_bestMost x_bestWhole x_draws x_left x_mosts x_widened x_drawn x_img n_width n_from n_to n_load n_group n_budget n_columns n_rows n_limit n_wear n_straps n_pads n_lines n_mod n_asz n_el i_width i_load i_pads i_reached i_place i_table i_drop i_size i_whole t_width t_load t_pads t_reached t_place t_table t_drop t_size t_whole ++ ex) (pI (fun z ww => if 0 < w 4 then (if n_asz = 0 then z = -5 ∧ PubX g σ ex x_tape x_taped x_faultKind x_faultPlace x_img n_width n_from n_to n_load n_group n_budget n_columns n_rows n_limit n_wear n_straps n_pads n_lines n_mod n_asz n_el ww else z = n_asz - 1 ∧ ∃ (nw nl : Int → Int) (np : Int), NW (chUndo w (cs (n_asz - 1))) nw n_from n_to nl n_group n_budget n_columns n_rows n_limit n_wear n_straps np n_lines ∧ PubX g σ ex x_tape x_taped x_faultKind x_faultPlace x_img (nw) n_from n_to (nl) n_group n_budget n_columns n_rows n_limit n_wear n_straps (np) n_lines (n_mod + 1) (n_asz - 1) (va_up n_el (n_asz - 1).toNat none) ww) else z = -2 ∧ PubX g σ ex x_tape x_taped x_faultKind x_faultPlace x_img n_width n_from n_to n_load n_group n_budget n_columns n_rows n_limit n_wear n_straps n_pads n_lines n_mod n_asz n_el ww)) := by
  refine XMet.of (L := [some (.ref (σ 0))]) hG (by decide +kernel) (Nat.le_of_ble_eq_true rfl) rfl (fun K C E => ?_)
  refine r_aload_0 C dX0_undo_0 ?_
  refine gG_now C q346 dX0_undo_1 ?_
  refine r_cV0i C (c_X1_is hG hW.inR4) (q0 := 7) rfl rfl q696 pkX1_is dX0_undo_4 (fun z w h => ?_)
  obtain ⟨rfl, rfl⟩ := h
  refine r_ifneB (tgt := 13) C dX0_undo_7 (by decide) (fun c_7 => ?_) (fun c_7 => ?_)
  · skip
    refine r_aload_0 C dX0_undo_13 ?_
    refine gG_now C q346 dX0_undo_14 ?_
    refine gTN_acts C q217 dX0_undo_17 ?_
    refine r_cV0i C (c_A_isEmpty hG (by unfold inR; omega)) (q0 := 14) rfl rfl q1331 pkJ2_isEmpty dX0_undo_20 (fun z w h => ?_)
    obtain ⟨rfl, rfl⟩ := h
    refine r_ifeqB (tgt := 29) C dX0_undo_23 (by decide) (fun c_23 => ?_) (fun c_23 => ?_)
    · skip
      rw [hW.ln] at c_7
      have hd := hW.wf.gd4 c_7
      have hpos : 0 < n_asz := by omega
      obtain ⟨c, qk, hy, hv⟩ := hA (n_asz - 1) (by omega) (by omega)
      refine r_aload_0 C dX0_undo_29 ?_
      refine r_cV0v C (c_X0_takesB hG hd hW (hx hpos).1 (hx hpos).2 hpos ha.2 hy hv) (q0 := 0) rfl rfl q1335 pkX0_takesBack dX0_undo_30 (fun w h => ?_)
      obtain ⟨nw, nl, np, hN, rfl⟩ := h
      refine r_aload_0 C dX0_undo_33 ?_
      refine gG_now C q346 dX0_undo_34 ?_
      refine gTN_acts C q217 dX0_undo_37 ?_
      refine r_cV0i C (c_J2_size hG) (q0 := 14) rfl rfl q692 pkJ2_size dX0_undo_40 (fun z w h => ?_)
      obtain ⟨rfl, rfl⟩ := h
      refine r_ireturn C E dX0_undo_43 ?_
      refine ⟨_, rfl, ?_⟩
      show @ite _ _ _ _ _
      rw [if_pos c_7, if_neg c_23]
      exact ⟨rfl, nw, nl, np, hN, PubX.mk⟩
    · skip
      refine r_bipush C dX0_undo_26 ?_
      refine r_ireturn C E dX0_undo_28 ?_
      rw [hW.ln] at c_7
      refine ⟨_, rfl, ?_⟩
      show @ite _ _ _ _ _
      rw [if_pos c_7, if_pos c_23]
      exact ⟨rfl, PubX.mk⟩
  · skip
    refine r_bipush C dX0_undo_10 ?_
    refine r_ireturn C E dX0_undo_12 ?_
    rw [hW.ln] at c_7
    refine ⟨_, rfl, ?_⟩
    show @ite _ _ _ _ _
    rw [if_neg c_7]
    exact ⟨rfl, PubX.mk⟩
end X18

