section XL
variable {g : GX} {σ : Nat → Nat} {ex : va_W}
variable {x_tape : Int → Int} {x_taped : Int} {x_faultKind : Int} {x_faultPlace : Int} {x_bestStarved : Int} {x_bestMost : Int} {x_bestWhole : Int} {x_draws : Int → Int} {x_left : Int → Int} {x_mosts : Int → Int} {x_widened : Int → Int} {x_drawn : Int} {x_img : Nat → Option Nat} {n_width : Int → Int} {n_from : Int → Int} {n_to : Int → Int} {n_load : Int → Int} {n_group : Int → Int} {n_budget : Int → Int} {n_columns : Int} {n_rows : Int} {n_limit : Int} {n_wear : Int} {n_straps : Int} {n_pads : Int} {n_lines : Int} {n_mod : Int} {n_asz : Int} {n_el : Nat → Option Nat} {i_width : Int → Int} {i_load : Int → Int} {i_pads : Int} {i_reached : Int} {i_place : Int → Int} {i_table : Int → Int} {i_drop : Int → Int} {i_size : Int} {i_whole : Int} {t_width : Int → Int} {t_load : Int → Int} {t_pads : Int} {t_reached : Int} {t_place : Int → Int} {t_table : Int → Int} {t_drop : Int → Int} {t_size : Int} {t_whole : Int}
theorem c_A_isEmpty (hG : Gok g) (hs : inR n_asz) : XMet g yJ2_isEmpty cJ2_isEmpty 1 (some .boolean) 0 0 0 [.ref (σ 14)] (wX g σ x_tape x_taped x_faultKind x_faultPlace x_bestStarved x_bestMost x_bestWhole x_draws x_left x_mosts x_widened x_drawn x_img n_width n_from n_to n_load n_group n_budget n_columns n_rows n_limit n_wear n_straps n_pads n_lines n_mod n_asz n_el i_width i_load i_pads i_reached i_place i_table i_drop i_size i_whole t_width t_load t_pads t_reached t_place t_table t_drop t_size t_whole ++ ex) (pI (fun z w => z = (if n_asz = 0 then 1 else 0) ∧ w = (wX g σ x_tape x_taped x_faultKind x_faultPlace x_bestStarved x_bestMost x_bestWhole x_draws x_left x_mosts x_widened x_drawn x_img n_width n_from n_to n_load n_group n_budget n_columns n_rows n_limit n_wear n_straps n_pads n_lines n_mod n_asz n_el i_width i_load i_pads i_reached i_place i_table i_drop i_size i_whole t_width t_load t_pads t_reached t_place t_table t_drop t_size t_whole ++ ex))) := by
  refine XMet.of (L := [some (.ref (σ 14))]) hG (by decide +kernel) (Nat.le_of_ble_eq_true rfl) rfl (fun K C E => ?_)
  refine r_aload_0 C dJ2_isEmpty_0 ?_
  refine r_get C 14 rfl rfl in_J2 2 (by decide) q179 rfl rfl dJ2_isEmpty_1 ?_
  refine r_ifne (tgt := 11) C dJ2_isEmpty_4 (by decide) (fun c => ?_) (fun c => ?_)
  · refine r_iconst C dJ2_isEmpty_11 ?_
    refine r_zreturn C E dJ2_isEmpty_12 (Or.inl rfl) ⟨_, rfl, ?_, rfl⟩
    rw [if_neg c]
  · refine r_iconst C dJ2_isEmpty_7 ?_
    refine r_goto (tgt := 12) C dJ2_isEmpty_8 (by decide) ?_
    refine r_zreturn C E dJ2_isEmpty_12 (Or.inr rfl) ⟨_, rfl, ?_, rfl⟩
    rw [if_pos c]
theorem c_A_add2 (hG : Gok g) (h0 : 0 ≤ n_asz) (h1 : n_asz < 20) {qk ci v : Nat} {r : vw_C} {vs : List Value} (hca : Cond.castable r.1 "java/lang/Object" ∈ nwl) (hv : ex[qk]? = some (v, .inr (ci, vs))) (hc : vCl[ci]? = some r) : XMet g yJ2_add_2 cJ2_add_2 4 none 0 0 0 [.ref (σ 14), .ref v, .ref (σ 15), .int (jI n_asz)] (wX g σ x_tape x_taped x_faultKind x_faultPlace x_bestStarved x_bestMost x_bestWhole x_draws x_left x_mosts x_widened x_drawn x_img n_width n_from n_to n_load n_group n_budget n_columns n_rows n_limit n_wear n_straps n_pads n_lines n_mod n_asz n_el i_width i_load i_pads i_reached i_place i_table i_drop i_size i_whole t_width t_load t_pads t_reached t_place t_table t_drop t_size t_whole ++ ex) (pV (fun w => w = (wX g σ x_tape x_taped x_faultKind x_faultPlace x_bestStarved x_bestMost x_bestWhole x_draws x_left x_mosts x_widened x_drawn x_img n_width n_from n_to n_load n_group n_budget n_columns n_rows n_limit n_wear n_straps n_pads n_lines n_mod (n_asz + 1) (va_up n_el n_asz.toNat (some v)) i_width i_load i_pads i_reached i_place i_table i_drop i_size i_whole t_width t_load t_pads t_reached t_place t_table t_drop t_size t_whole ++ ex))) := by
  refine XMet.of (L := [some (.ref (σ 14)), some (.ref v), some (.ref (σ 15)), some (.int (jI n_asz))]) hG (by decide +kernel) (Nat.le_of_ble_eq_true rfl) rfl (fun K C E => ?_)
  refine r_iload_3 C dJ2_add_2_0 ?_
  refine r_aload_2 C dJ2_add_2_1 ?_
  refine r_alen C 4 15 rfl rfl dJ2_add_2_2 ?_
  refine r_if_icmpne (tgt := 11) C dJ2_add_2_3 (by decide) (fun c => ?_) (fun c => ?_) (ha := by unfold inR; omega) (hb0 := by unfold inR; omega)
  · refine r_aload_2 C dJ2_add_2_11 ?_
    refine r_iload_3 C dJ2_add_2_12 ?_
    refine r_aload_1 C dJ2_add_2_13 ?_
    refine r_aastO C 4 15 (qk + 46) ci rfl rfl hca ((List.getElem?_append_right (show 46 ≤ qk + 46 by omega)).trans (by show ex[qk + 46 - 46]? = _; rw [Nat.add_sub_cancel]; exact hv)) hc dJ2_add_2_14 h0 (by omega) (by omega) ?_
    refine r_aload_0 C dJ2_add_2_15 ?_
    refine r_iload_3 C dJ2_add_2_16 ?_
    refine r_iconst C dJ2_add_2_17 ?_
    refine r_iadd C dJ2_add_2_18 ?_
    refine r_put C 14 rfl rfl in_J2 tyJ2 tyJ2_ok nmJ2 2 (by decide) q179 rfl rfl (tyJ2_ok 2 (by decide)) rfl rfl (Nat.le_of_ble_eq_true rfl) dJ2_add_2_19 ?_
    exact r_return C E dJ2_add_2_22 ⟨rfl, rfl⟩
  · exfalso
    omega
theorem c_A_add (hG : Gok g) (h0 : 0 ≤ n_asz) (h1 : n_asz < 20) {qk ci v : Nat} {r : vw_C} {vs : List Value} (hca : Cond.castable r.1 "java/lang/Object" ∈ nwl) (hv : ex[qk]? = some (v, .inr (ci, vs))) (hc : vCl[ci]? = some r) : XMet g yJ2_add cJ2_add 2 (some .boolean) 1 0 0 [.ref (σ 14), .ref v] (wX g σ x_tape x_taped x_faultKind x_faultPlace x_bestStarved x_bestMost x_bestWhole x_draws x_left x_mosts x_widened x_drawn x_img n_width n_from n_to n_load n_group n_budget n_columns n_rows n_limit n_wear n_straps n_pads n_lines n_mod n_asz n_el i_width i_load i_pads i_reached i_place i_table i_drop i_size i_whole t_width t_load t_pads t_reached t_place t_table t_drop t_size t_whole ++ ex) (pI (fun z w => z = 1 ∧ w = (wX g σ x_tape x_taped x_faultKind x_faultPlace x_bestStarved x_bestMost x_bestWhole x_draws x_left x_mosts x_widened x_drawn x_img n_width n_from n_to n_load n_group n_budget n_columns n_rows n_limit n_wear n_straps n_pads n_lines (n_mod + 1) (n_asz + 1) (va_up n_el n_asz.toNat (some v)) i_width i_load i_pads i_reached i_place i_table i_drop i_size i_whole t_width t_load t_pads t_reached t_place t_table t_drop t_size t_whole ++ ex))) := by
  refine XMet.of (L := [some (.ref (σ 14)), some (.ref v)]) hG (by decide +kernel) (Nat.le_of_ble_eq_true rfl) rfl (fun K C E => ?_)
  refine r_aload_0 C dJ2_add_0 ?_
  refine r_dup C dJ2_add_1 ?_
  refine r_getI C 14 rfl rfl in_J2 0 (by decide) q181 q182 rfl dJ2_add_2 ?_
  refine r_iconst C dJ2_add_5 ?_
  refine r_iadd C dJ2_add_6 ?_
  refine r_putI C 14 rfl rfl in_J2 tyJ2 tyJ2_ok nmJ2 0 (by decide) q181 q182 rfl (tyJ2_ok 0 (by decide)) rfl rfl (Nat.le_of_ble_eq_true rfl) dJ2_add_7 ?_
  refine r_aload_0 C dJ2_add_10 ?_
  refine r_aload_1 C dJ2_add_11 ?_
  refine r_aload_0 C dJ2_add_12 ?_
  refine r_get C 14 rfl rfl in_J2 1 (by decide) q178 rfl rfl dJ2_add_13 ?_
  refine r_aload_0 C dJ2_add_16 ?_
  refine r_get C 14 rfl rfl in_J2 2 (by decide) q179 rfl rfl dJ2_add_17 ?_
  refine r_cV3v C (c_A_add2 (n_mod := n_mod + 1) hG h0 h1 hca hv hc) (q0 := 14) rfl rfl q1178 pkJ2_add_2 dJ2_add_20 (fun w h => ?_)
  subst h
  refine r_iconst C dJ2_add_23 ?_
  exact r_zreturn C E dJ2_add_24 (Or.inr rfl) ⟨_, rfl, rfl, rfl⟩
theorem c_A_elementData (hG : Gok g) {i : Int} {y : Nat} (h0 : 0 ≤ i) (h1 : i < 20) (hy : n_el i.toNat = some y) : XMet g yJ2_elementData cJ2_elementData 2 (some (.object "java/lang/Object")) 0 0 0 [.ref (σ 14), .int (jI i)] (wX g σ x_tape x_taped x_faultKind x_faultPlace x_bestStarved x_bestMost x_bestWhole x_draws x_left x_mosts x_widened x_drawn x_img n_width n_from n_to n_load n_group n_budget n_columns n_rows n_limit n_wear n_straps n_pads n_lines n_mod n_asz n_el i_width i_load i_pads i_reached i_place i_table i_drop i_size i_whole t_width t_load t_pads t_reached t_place t_table t_drop t_size t_whole ++ ex) (pA (fun z w => z = y ∧ w = (wX g σ x_tape x_taped x_faultKind x_faultPlace x_bestStarved x_bestMost x_bestWhole x_draws x_left x_mosts x_widened x_drawn x_img n_width n_from n_to n_load n_group n_budget n_columns n_rows n_limit n_wear n_straps n_pads n_lines n_mod n_asz n_el i_width i_load i_pads i_reached i_place i_table i_drop i_size i_whole t_width t_load t_pads t_reached t_place t_table t_drop t_size t_whole ++ ex))) := by
  refine XMet.of (L := [some (.ref (σ 14)), some (.int (jI i))]) hG (by decide +kernel) (Nat.le_of_ble_eq_true rfl) rfl (fun K C E => ?_)
  refine r_aload_0 C dJ2_elementData_0 ?_
  refine r_get C 14 rfl rfl in_J2 1 (by decide) q178 rfl rfl dJ2_elementData_1 ?_
  refine r_iload_1 C dJ2_elementData_4 ?_
  refine r_aald C 4 15 rfl rfl rfl dJ2_elementData_5 h0 (by omega) (by omega) hy ?_
  exact r_areturn C E (Or.inl ⟨_, rfl⟩) dJ2_elementData_6 ⟨_, rfl, rfl, rfl⟩
theorem c_A_get (hG : Gok g) {i : Int} {y : Nat} (h0 : 0 ≤ i) (h1 : i < n_asz) (h2 : n_asz ≤ 20) (hy : n_el i.toNat = some y) : XMet g yJ2_get cJ2_get 2 (some (.object "java/lang/Object")) 2 0 0 [.ref (σ 14), .int (jI i)] (wX g σ x_tape x_taped x_faultKind x_faultPlace x_bestStarved x_bestMost x_bestWhole x_draws x_left x_mosts x_widened x_drawn x_img n_width n_from n_to n_load n_group n_budget n_columns n_rows n_limit n_wear n_straps n_pads n_lines n_mod n_asz n_el i_width i_load i_pads i_reached i_place i_table i_drop i_size i_whole t_width t_load t_pads t_reached t_place t_table t_drop t_size t_whole ++ ex) (pA (fun z w => z = y ∧ w = (wX g σ x_tape x_taped x_faultKind x_faultPlace x_bestStarved x_bestMost x_bestWhole x_draws x_left x_mosts x_widened x_drawn x_img n_width n_from n_to n_load n_group n_budget n_columns n_rows n_limit n_wear n_straps n_pads n_lines n_mod n_asz n_el i_width i_load i_pads i_reached i_place i_table i_drop i_size i_whole t_width t_load t_pads t_reached t_place t_table t_drop t_size t_whole ++ ex))) := by
  refine XMet.of (L := [some (.ref (σ 14)), some (.int (jI i))]) hG (by decide +kernel) (Nat.le_of_ble_eq_true rfl) rfl (fun K C E => ?_)
  refine r_iload_1 C dJ2_get_0 ?_
  refine r_aload_0 C dJ2_get_1 ?_
  refine r_get C 14 rfl rfl in_J2 2 (by decide) q179 rfl rfl dJ2_get_2 ?_
  refine r_cS2i C (c_J13_checkIndex hG h0 h1 (by omega)) q1315 pkJ13_checkIndex dJ2_get_5 (fun z w h => ?_)
  obtain ⟨rfl, rfl⟩ := h
  refine r_pop C dJ2_get_8 ?_
  refine r_aload_0 C dJ2_get_9 ?_
  refine r_iload_1 C dJ2_get_10 ?_
  refine r_cV1a C (c_A_elementData hG h0 (by omega) hy) (q0 := 14) rfl rfl q1319 pkJ2_elementData dJ2_get_11 (fun z w h => ?_)
  obtain ⟨rfl, rfl⟩ := h
  exact r_areturn C E (Or.inl ⟨_, rfl⟩) dJ2_get_14 ⟨_, rfl, rfl, rfl⟩
theorem c_A_fastRemove (hG : Gok g) (h0 : 0 < n_asz) (h1 : n_asz ≤ 20) : XMet g yJ2_fastRemove cJ2_fastRemove 4 none 0 0 0 [.ref (σ 14), .ref (σ 15), .int (jI (n_asz - 1))] (wX g σ x_tape x_taped x_faultKind x_faultPlace x_bestStarved x_bestMost x_bestWhole x_draws x_left x_mosts x_widened x_drawn x_img n_width n_from n_to n_load n_group n_budget n_columns n_rows n_limit n_wear n_straps n_pads n_lines n_mod n_asz n_el i_width i_load i_pads i_reached i_place i_table i_drop i_size i_whole t_width t_load t_pads t_reached t_place t_table t_drop t_size t_whole ++ ex) (pV (fun w => w = (wX g σ x_tape x_taped x_faultKind x_faultPlace x_bestStarved x_bestMost x_bestWhole x_draws x_left x_mosts x_widened x_drawn x_img n_width n_from n_to n_load n_group n_budget n_columns n_rows n_limit n_wear n_straps n_pads n_lines (n_mod + 1) (n_asz - 1) (va_up n_el (n_asz - 1).toNat none) i_width i_load i_pads i_reached i_place i_table i_drop i_size i_whole t_width t_load t_pads t_reached t_place t_table t_drop t_size t_whole ++ ex))) := by
  refine XMet.of (L := [some (.ref (σ 14)), some (.ref (σ 15)), some (.int (jI (n_asz - 1))), none]) hG (by decide +kernel) (Nat.le_of_ble_eq_true rfl) rfl (fun K C E => ?_)
  refine r_aload_0 C dJ2_fastRemove_0 ?_
  refine r_dup C dJ2_fastRemove_1 ?_
  refine r_getI C 14 rfl rfl in_J2 0 (by decide) q181 q182 rfl dJ2_fastRemove_2 ?_
  refine r_iconst C dJ2_fastRemove_5 ?_
  refine r_iadd C dJ2_fastRemove_6 ?_
  refine r_putI C 14 rfl rfl in_J2 tyJ2 tyJ2_ok nmJ2 0 (by decide) q181 q182 rfl (tyJ2_ok 0 (by decide)) rfl rfl (Nat.le_of_ble_eq_true rfl) dJ2_fastRemove_7 ?_
  refine r_aload_0 C dJ2_fastRemove_10 ?_
  refine r_get C 14 rfl rfl in_J2 2 (by decide) q179 rfl rfl dJ2_fastRemove_11 ?_
  refine r_iconst C dJ2_fastRemove_14 ?_
  refine r_isub C dJ2_fastRemove_15 ?_
  refine r_dup C dJ2_fastRemove_16 ?_
  refine r_istore_3 C dJ2_fastRemove_17 ?_
  refine r_iload_2 C dJ2_fastRemove_18 ?_
  refine r_if_icmple (tgt := 34) C dJ2_fastRemove_19 (by decide) (fun c => ?_) (fun c => ?_) (ha := by unfold inR; omega) (hb0 := by unfold inR; omega)
  · refine r_aload_1 C dJ2_fastRemove_34 ?_
    refine r_aload_0 C dJ2_fastRemove_35 ?_
    refine r_iload_3 C dJ2_fastRemove_36 ?_
    refine r_dup_x1 C dJ2_fastRemove_37 ?_
    refine r_put C 14 rfl rfl in_J2 tyJ2 tyJ2_ok nmJ2 2 (by decide) q179 rfl rfl (tyJ2_ok 2 (by decide)) rfl rfl (Nat.le_of_ble_eq_true rfl) dJ2_fastRemove_38 ?_
    refine r_aconst_null C dJ2_fastRemove_41 ?_
    refine r_aastN C 4 15 rfl rfl dJ2_fastRemove_42 (by omega) (by omega) (by omega) ?_
    exact r_return C E dJ2_fastRemove_43 ⟨rfl, rfl⟩
  · exfalso
    omega
theorem c_A_remove (hG : Gok g) {y : Nat} (h0 : 0 < n_asz) (h1 : n_asz ≤ 20) (hy : n_el (n_asz - 1).toNat = some y) : XMet g yJ2_remove cJ2_remove 4 (some (.object "java/lang/Object")) 2 0 0 [.ref (σ 14), .int (jI (n_asz - 1))] (wX g σ x_tape x_taped x_faultKind x_faultPlace x_bestStarved x_bestMost x_bestWhole x_draws x_left x_mosts x_widened x_drawn x_img n_width n_from n_to n_load n_group n_budget n_columns n_rows n_limit n_wear n_straps n_pads n_lines n_mod n_asz n_el i_width i_load i_pads i_reached i_place i_table i_drop i_size i_whole t_width t_load t_pads t_reached t_place t_table t_drop t_size t_whole ++ ex) (pA (fun z w => z = y ∧ w = (wX g σ x_tape x_taped x_faultKind x_faultPlace x_bestStarved x_bestMost x_bestWhole x_draws x_left x_mosts x_widened x_drawn x_img n_width n_from n_to n_load n_group n_budget n_columns n_rows n_limit n_wear n_straps n_pads n_lines (n_mod + 1) (n_asz - 1) (va_up n_el (n_asz - 1).toNat none) i_width i_load i_pads i_reached i_place i_table i_drop i_size i_whole t_width t_load t_pads t_reached t_place t_table t_drop t_size t_whole ++ ex))) := by
  refine XMet.of (L := [some (.ref (σ 14)), some (.int (jI (n_asz - 1))), none, none]) hG (by decide +kernel) (Nat.le_of_ble_eq_true rfl) rfl (fun K C E => ?_)
  refine r_iload_1 C dJ2_remove_0 ?_
  refine r_aload_0 C dJ2_remove_1 ?_
  refine r_get C 14 rfl rfl in_J2 2 (by decide) q179 rfl rfl dJ2_remove_2 ?_
  refine r_cS2i C (c_J13_checkIndex hG (by omega) (by omega) (by omega)) q1315 pkJ13_checkIndex dJ2_remove_5 (fun z w h => ?_)
  obtain ⟨rfl, rfl⟩ := h
  refine r_pop C dJ2_remove_8 ?_
  refine r_aload_0 C dJ2_remove_9 ?_
  refine r_get C 14 rfl rfl in_J2 1 (by decide) q178 rfl rfl dJ2_remove_10 ?_
  refine r_astore_2 C dJ2_remove_13 ?_
  refine r_aload_2 C dJ2_remove_14 ?_
  refine r_iload_1 C dJ2_remove_15 ?_
  refine r_aald C 4 15 rfl rfl rfl dJ2_remove_16 (by omega) (by omega) (by omega) hy ?_
  refine r_astore_3 C dJ2_remove_17 ?_
  refine r_aload_0 C dJ2_remove_18 ?_
  refine r_aload_2 C dJ2_remove_19 ?_
  refine r_iload_1 C dJ2_remove_20 ?_
  refine r_cV2v C (c_A_fastRemove hG h0 h1) (q0 := 14) rfl rfl q1343 pkJ2_fastRemove dJ2_remove_21 (fun w h => ?_)
  subst h
  refine r_aload_3 C dJ2_remove_24 ?_
  exact r_areturn C E (Or.inl ⟨_, rfl⟩) dJ2_remove_25 ⟨_, rfl, rfl, rfl⟩
end XL

