def chOk (w : Int → Int) (x : Chg) : Prop := (x.1 = 0 ∧ (0 ≤ x.2.1 ∧ x.2.1 < wS w) ∧ 0 ≤ x.2.2 ∧ x.2.2 ≤ 4) ∨ (x.1 = 1 ∧ 0 ≤ x.2.1 ∧ x.2.1 < wN w) ∨ (x.1 = 2 ∧ (0 ≤ x.2.1 ∧ x.2.1 < 9) ∧ 0 ≤ x.2.2 ∧ x.2.2 ≤ 99) ∨ (x.1 = 3 ∧ 0 ≤ x.2.1 ∧ x.2.1 < 4096)
section X17
variable {g : GX} {σ : Nat → Nat} {ex : va_W}
variable {x_tape : Int → Int} {x_taped : Int} {x_faultKind : Int} {x_faultPlace : Int} {x_bestStarved : Int} {x_bestMost : Int} {x_bestWhole : Int} {x_draws : Int → Int} {x_left : Int → Int} {x_mosts : Int → Int} {x_widened : Int → Int} {x_drawn : Int} {x_img : Nat → Option Nat} {n_width : Int → Int} {n_from : Int → Int} {n_to : Int → Int} {n_load : Int → Int} {n_group : Int → Int} {n_budget : Int → Int} {n_columns : Int} {n_rows : Int} {n_limit : Int} {n_wear : Int} {n_straps : Int} {n_pads : Int} {n_lines : Int} {n_mod : Int} {n_asz : Int} {n_el : Nat → Option Nat} {i_width : Int → Int} {i_load : Int → Int} {i_pads : Int} {i_reached : Int} {i_place : Int → Int} {i_table : Int → Int} {i_drop : Int → Int} {i_size : Int} {i_whole : Int} {t_width : Int → Int} {t_load : Int → Int} {t_pads : Int} {t_reached : Int} {t_place : Int → Int} {t_table : Int → Int} {t_drop : Int → Int} {t_size : Int} {t_whole : Int}
theorem c_X0_takesB (hG : Gok g) {c qk : Nat} {x : Chg} {w : Int → Int} (hd : Gd w) (hW : NW w n_width n_from n_to n_load n_group n_budget n_columns n_rows n_limit n_wear n_straps n_pads n_lines) (hx : chOk w x) (hU : Gd (chUndo w x)) (h0 : 0 < n_asz) (h1 : n_asz ≤ 20) (hy : n_el (n_asz - 1).toNat = some c) (hv : ex[qk]? = some (c, chCell x)) : XMet g yX0_takesBack cX0_takesBack 1 none 3 0 0 [.ref (σ 0)] (wX g σ x_tape x_taped x_faultKind x_faultPlace x_bestStarved x_bestMost x_bestWhole x_draws x_left x_mosts x_widened x_drawn x_img n_width n_from n_to n_load n_group n_budget n_columns n_rows n_limit n_wear n_straps n_pads n_lines n_mod n_asz n_el i_width i_load i_pads i_reached i_place i_table i_drop i_size i_whole t_width t_load t_pads t_reached t_place t_table t_drop t_size t_whole ++ ex) (pV (fun ww => ∃ (nw nl : Int → Int) (np : Int), NW (chUndo w x) nw n_from n_to nl n_group n_budget n_columns n_rows n_limit n_wear n_straps np n_lines ∧ ww = (wX g σ x_tape x_taped x_faultKind x_faultPlace x_bestStarved x_bestMost x_bestWhole x_draws x_left x_mosts x_widened x_drawn x_img (nw) n_from n_to (nl) n_group n_budget n_columns n_rows n_limit n_wear n_straps (np) n_lines (n_mod + 1) (n_asz - 1) (va_up n_el (n_asz - 1).toNat none) i_width i_load i_pads i_reached i_place i_table i_drop i_size i_whole t_width t_load t_pads t_reached t_place t_table t_drop t_size t_whole ++ ex))) := by
  obtain ⟨kd, a, b⟩ := x
  have hs := hd.s
  have hn := hd.n
  have hp5 := hd.p5
  have hpd := hW.pd
  rcases hx with ⟨e, ha, hb⟩ | ⟨e, ha⟩ | ⟨e, ha, hb⟩ | ⟨e, ha⟩
  · have e' : kd = 0 := e
    subst e'
    refine c_X0_takesBack hG h0 h1 hy hv rfl (db := 0) (by omega) pfX8 ((c_X8_back hG hv ⟨ha.1, by have := ha.2; (try simp only at this); omega⟩).mono (fun r ww h => ?_))
    obtain ⟨rfl, rfl⟩ := h
    exact ⟨rfl, _, _, _, hW.lay hd ha.1 ha.2 hb, rfl⟩
  · have e' : kd = 1 := e
    subst e'
    have hv9 : a < 9 := by have := ha.2; (try simp only at this); omega
    have hP := bsP_9 ha.1 hv9
    refine c_X0_takesBack hG h0 h1 hy hv rfl (db := 0) (by omega) pfX9 ((c_X9_back hG hv ⟨ha.1, hv9⟩ (by omega)).mono (fun r ww h => ?_))
    obtain ⟨rfl, rfl⟩ := h
    refine ⟨rfl, _, _, _, ?_, rfl⟩
    rw [hpd]
    exact hW.upd hU (fun j _ _ => aset_ne (by omega)) (show bsX (w 5) (bsP a) = aset w 5 (bsX (w 5) (bsP a)) 5 from (aset_at _ _ _).symm) (fun u p q => by rw [show chUndo w (1, a, b) (6 + u) = w (6 + u) from aset_ne (by omega)]; exact hW.ld u p q) (fun j _ _ => aset_ne (by omega)) (fun j p q => by rw [show chUndo w (1, a, b) (28 + j) = w (28 + j) from aset_ne (by omega)]; exact hW.wd j p q)
  · have e' : kd = 2 := e
    subst e'
    refine c_X0_takesBack hG h0 h1 hy hv rfl (db := 0) (by omega) pfX10 ((c_X10_back hG hv ha).mono (fun r ww h => ?_))
    obtain ⟨rfl, rfl⟩ := h
    exact ⟨rfl, _, _, _, hW.draw hd ha.1 ha.2 hb, rfl⟩
  · have e' : kd = 3 := e
    subst e'
    have hS := hW.s hd
    refine c_X0_takesBack hG h0 h1 hy hv rfl (db := 1) (by omega) pfX11 ((c_X11_back hG hv ha (by omega)).mono (fun r ww h => ?_))
    obtain ⟨rfl, nw, q1, q2, rfl⟩ := h
    have hu : ∀ j, chUndo w (3, a, b) j = if 28 ≤ j ∧ j < 28 + wS w ∧ bsB a (j - 28) = true then w j + 1 else w j := fun j => rfl
    refine ⟨rfl, nw, _, _, ?_, rfl⟩
    refine hW.upd hU (fun j p q => by rw [hu, if_neg (by omega)]) (by rw [hu, if_neg (by omega)]; exact hpd) (fun u p q => by rw [hu, if_neg (by omega)]; exact hW.ld u p q) (fun j p q => by rw [hu, if_neg (by omega)]) (fun j p q => ?_)
    rw [hu, show 28 + j - 28 = j by omega]
    by_cases ej : j < n_straps
    · rw [q1 j p ej, hW.wd j p q]
      by_cases eb : bsB a j = true
      · rw [if_pos eb, if_pos ⟨by omega, by omega, eb⟩]
      · rw [if_neg eb, if_neg (fun z => eb z.2.2)]
        omega
    · rw [q2 j (by omega) q, hW.wd j p q, if_neg (fun z => by omega)]
end X17

