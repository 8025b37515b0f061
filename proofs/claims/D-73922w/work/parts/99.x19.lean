section X19
variable {g : GX} {σ : Nat → Nat} {ex : va_W}
variable {x_tape : Int → Int} {x_taped : Int} {x_faultKind : Int} {x_faultPlace : Int} {x_bestStarved : Int} {x_bestMost : Int} {x_bestWhole : Int} {x_draws : Int → Int} {x_left : Int → Int} {x_mosts : Int → Int} {x_widened : Int → Int} {x_drawn : Int} {x_img : Nat → Option Nat} {n_width : Int → Int} {n_from : Int → Int} {n_to : Int → Int} {n_load : Int → Int} {n_group : Int → Int} {n_budget : Int → Int} {n_columns : Int} {n_rows : Int} {n_limit : Int} {n_wear : Int} {n_straps : Int} {n_pads : Int} {n_lines : Int} {n_mod : Int} {n_asz : Int} {n_el : Nat → Option Nat} {i_width : Int → Int} {i_load : Int → Int} {i_pads : Int} {i_reached : Int} {i_place : Int → Int} {i_table : Int → Int} {i_drop : Int → Int} {i_size : Int} {i_whole : Int} {t_width : Int → Int} {t_load : Int → Int} {t_pads : Int} {t_reached : Int} {t_place : Int → Int} {t_table : Int → Int} {t_drop : Int → Int} {t_size : Int} {t_whole : Int}
theorem c_X0_anew (hG : Gok g) {w : Int → Int} {cs : Int → Chg} {U : Int → Int → Int} (hW : NW w n_width n_from n_to n_load n_group n_budget n_columns n_rows n_limit n_wear n_straps n_pads n_lines) (ha : 0 ≤ n_asz ∧ n_asz ≤ 20) (hA : ActsX ex n_el n_asz cs) (hU0 : U n_asz = w) (hU : ∀ i, 0 ≤ i → i < n_asz → U i = chUndo (U (i + 1)) (cs i) ∧ chOk (U (i + 1)) (cs i) ∧ Gd (U i)) : XMet g yX0_anew cX0_anew 2 (some .int) (4) 0 0 [.ref (σ 0)] (wX g σ x_tape x_taped x_faultKind x_faultPlace x_bestStarved x_bestMost x_bestWhole x_draws x_left x_mosts x_widened x_drawn x_img n_width n_from n_to n_load n_group n_budget n_columns n_rows n_limit n_wear n_straps n_pads n_lines n_mod n_asz n_el i_width i_load i_pads i_reached i_place i_table i_drop i_size i_whole t_width t_load t_pads t_reached t_place t_table t_drop t_size t_whole ++ ex) (pI (fun z ww => if 0 < w 4 then z = n_asz ∧ ∃ (nw nl : Int → Int) (np md : Int) (el : Nat → Option Nat), NW (U 0) nw n_from n_to nl n_group n_budget n_columns n_rows n_limit n_wear n_straps np n_lines ∧ PubX g σ ex x_tape x_taped x_faultKind x_faultPlace x_img (nw) n_from n_to (nl) n_group n_budget n_columns n_rows n_limit n_wear n_straps (np) n_lines (md) (0) (el) ww else z = -2 ∧ PubX g σ ex x_tape x_taped x_faultKind x_faultPlace x_img n_width n_from n_to n_load n_group n_budget n_columns n_rows n_limit n_wear n_straps n_pads n_lines n_mod n_asz n_el ww)) := by
  refine XMet.of (L := [some (.ref (σ 0)), none]) hG (by decide +kernel) (Nat.le_of_ble_eq_true rfl) rfl (fun K C E => ?_)
  refine r_aload_0 C dX0_anew_0 ?_
  refine gG_now C q346 dX0_anew_1 ?_
  refine r_cV0i C (c_X1_is hG hW.inR4) (q0 := 7) rfl rfl q696 pkX1_is dX0_anew_4 (fun z w h => ?_)
  obtain ⟨rfl, rfl⟩ := h
  refine r_ifneB (tgt := 13) C dX0_anew_7 (by decide) (fun c_7 => ?_) (fun c_7 => ?_)
  · skip
    rw [hW.ln] at c_7
    have hd := hW.wf.gd4 c_7
    have hG2 : ∀ m, 0 ≤ m → m ≤ n_asz → Gd (U m) := fun m p q => by
      by_cases e : m = n_asz
      · rw [e, hU0]; exact hd
      · exact (hU m p (by omega)).2.2
    have key : ∀ (mm : Nat), ∀ (m : Int) (nw nl : Int → Int) (np md : Int) (el : Nat → Option Nat), (0 ≤ m) → (m ≤ n_asz) → (NW (U m) nw n_from n_to nl n_group n_budget n_columns n_rows n_limit n_wear n_straps np n_lines) → (ActsX ex el m cs) → m.toNat = mm → AW g K (wX g σ x_tape x_taped x_faultKind x_faultPlace x_bestStarved x_bestMost x_bestWhole x_draws x_left x_mosts x_widened x_drawn x_img (nw) n_from n_to (nl) n_group n_budget n_columns n_rows n_limit n_wear n_straps (np) n_lines (md) (m) (el) i_width i_load i_pads i_reached i_place i_table i_drop i_size i_whole t_width t_load t_pads t_reached t_place t_table t_drop t_size t_whole ++ ex) 0 0 24 [some (.ref (σ 0)), some (.int (jI n_asz))] [] := by
      intro mm
      induction mm using Nat.strongRecOn with
      | _ mm ih =>
      intro m nw nl np md el hm0 hm1 hN hE hm
      refine r_aload_0 C dX0_anew_24 ?_
      refine gG_now C q346 dX0_anew_25 ?_
      refine gTN_acts C q217 dX0_anew_28 ?_
      refine r_cV0i C (c_A_isEmpty hG (by unfold inR; omega)) (q0 := 14) rfl rfl q1331 pkJ2_isEmpty dX0_anew_31 (fun z w h => ?_)
      obtain ⟨rfl, rfl⟩ := h
      refine r_ifneB (tgt := 44) C dX0_anew_34 (by decide) (fun c_34 => ?_) (fun c_34 => ?_)
      · skip
        refine r_iload_1 C dX0_anew_44 ?_
        refine r_ireturn C E dX0_anew_45 ?_
        have e : m = 0 := by omega
        subst e
        refine ⟨_, rfl, ?_⟩
        show @ite _ _ _ _ _
        rw [if_pos c_7]
        exact ⟨rfl, _, _, _, _, _, hN, PubX.mk⟩
      · skip
        have hpos : 0 < m := by omega
        obtain ⟨c, qk, hy, hv⟩ := hE (m - 1) (by omega) (by omega)
        have hu := hU (m - 1) (by omega) (by omega)
        rw [show m - 1 + 1 = m by omega] at hu
        refine r_aload_0 C dX0_anew_37 ?_
        refine r_cV0v C (c_X0_takesB hG (hG2 m hm0 hm1) hN hu.2.1 (by rw [← hu.1]; exact hu.2.2) hpos (by omega) hy hv) (q0 := 0) rfl rfl q1335 pkX0_takesBack dX0_anew_38 (fun w h => ?_)
        rw [← hu.1] at h
        obtain ⟨nw, nl, np, hN2, rfl⟩ := h
        refine r_goto (tgt := 24) C dX0_anew_41 (by decide) ?_
        refine ih _ (show (m - 1).toNat < mm by omega) (m - 1) _ _ _ _ _ (by omega) (by omega) hN2 (fun i p q => ?_) rfl
        obtain ⟨c2, q2, e1, e2⟩ := hE i p (by omega)
        exact ⟨c2, q2, by unfold va_up; rw [if_neg (by omega)]; exact e1, e2⟩
    refine r_aload_0 C dX0_anew_13 ?_
    refine gG_now C q346 dX0_anew_14 ?_
    refine gTN_acts C q217 dX0_anew_17 ?_
    refine r_cV0i C (c_J2_size hG) (q0 := 14) rfl rfl q692 pkJ2_size dX0_anew_20 (fun z w h => ?_)
    obtain ⟨hz, rfl⟩ := h
    rw [hz]
    refine r_istore_1 C dX0_anew_23 ?_
    exact key _ n_asz _ _ _ _ _ ha.1 (Int.le_refl _) (by rw [hU0]; exact hW) hA rfl
  · skip
    refine r_bipush C dX0_anew_10 ?_
    refine r_ireturn C E dX0_anew_12 ?_
    rw [hW.ln] at c_7
    refine ⟨_, rfl, ?_⟩
    show @ite _ _ _ _ _
    rw [if_neg c_7]
    exact ⟨rfl, PubX.mk⟩
end X19

