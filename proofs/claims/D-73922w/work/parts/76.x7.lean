section X7
variable {g : GX} {σ : Nat → Nat} {ex : va_W}
variable {x_tape : Int → Int} {x_taped : Int} {x_faultKind : Int} {x_faultPlace : Int} {x_bestStarved : Int} {x_bestMost : Int} {x_bestWhole : Int} {x_draws : Int → Int} {x_left : Int → Int} {x_mosts : Int → Int} {x_widened : Int → Int} {x_drawn : Int} {x_img : Nat → Option Nat} {n_width : Int → Int} {n_from : Int → Int} {n_to : Int → Int} {n_load : Int → Int} {n_group : Int → Int} {n_budget : Int → Int} {n_columns : Int} {n_rows : Int} {n_limit : Int} {n_wear : Int} {n_straps : Int} {n_pads : Int} {n_lines : Int} {n_mod : Int} {n_asz : Int} {n_el : Nat → Option Nat} {i_width : Int → Int} {i_load : Int → Int} {i_pads : Int} {i_reached : Int} {i_place : Int → Int} {i_table : Int → Int} {i_drop : Int → Int} {i_size : Int} {i_whole : Int} {t_width : Int → Int} {t_load : Int → Int} {t_pads : Int} {t_reached : Int} {t_place : Int → Int} {t_table : Int → Int} {t_drop : Int → Int} {t_size : Int} {t_whole : Int}
theorem c_X0_keepsScore (hG : Gok g) {u : Int → Int} (hu : Gd u) (hN : NB u n_columns n_rows n_limit n_wear n_straps n_from n_to) (hT : TS u t_width t_load t_pads t_reached t_place t_table t_drop t_size t_whole) : XMet g yX0_keepsScore cX0_keepsScore 2 none (6) 0 0 [.ref (σ 0), .ref (σ 31)] (wX g σ x_tape x_taped x_faultKind x_faultPlace x_bestStarved x_bestMost x_bestWhole x_draws x_left x_mosts x_widened x_drawn x_img n_width n_from n_to n_load n_group n_budget n_columns n_rows n_limit n_wear n_straps n_pads n_lines n_mod n_asz n_el i_width i_load i_pads i_reached i_place i_table i_drop i_size i_whole t_width t_load t_pads t_reached t_place t_table t_drop t_size t_whole ++ ex) (pV (fun ww => ww = (wX g σ x_tape x_taped x_faultKind x_faultPlace (wDl u) (wMx u) (wWh u) x_draws x_left x_mosts x_widened x_drawn x_img n_width n_from n_to n_load n_group n_budget n_columns n_rows n_limit n_wear n_straps n_pads n_lines n_mod n_asz n_el i_width i_load i_pads i_reached i_place i_table i_drop i_size i_whole t_width t_load t_pads t_reached t_place t_table t_drop t_size t_whole ++ ex))) := by
  refine XMet.of (L := [some (.ref (σ 0)), some (.ref (σ 31))]) hG (by decide +kernel) (Nat.le_of_ble_eq_true rfl) rfl (fun K C E => ?_)
  obtain ⟨hX, hS⟩ := hT
  obtain rfl : t_whole = wWh u := hS.2.2.2.2.2
  refine r_aload_0 C dX0_keepsScore_0 ?_
  refine r_aload_1 C dX0_keepsScore_1 ?_
  refine r_cV0i C (c_X4_starved_Y hG hu hN hS.1 hX.2.1) (q0 := 31) rfl rfl q1007 pkX4_starved dX0_keepsScore_2 (fun z w h => ?_)
  obtain ⟨rfl, rfl⟩ := h
  refine pG_bestStarved C q354 dX0_keepsScore_5 ?_
  refine r_aload_0 C dX0_keepsScore_8 ?_
  refine r_aload_1 C dX0_keepsScore_9 ?_
  refine r_cV0l C (c_X4_most_Y hG hu hN hS.1 hS.2.2.2.2.1) (q0 := 31) rfl rfl q1008 pkX4_most dX0_keepsScore_10 (fun z w h => ?_)
  obtain ⟨rfl, rfl⟩ := h
  refine pG_bestMost C q355 dX0_keepsScore_13 ?_
  refine r_aload_0 C dX0_keepsScore_16 ?_
  refine r_aload_1 C dX0_keepsScore_17 ?_
  refine gYN_whole C q298 dX0_keepsScore_18 ?_
  refine pG_bestWhole C q356 dX0_keepsScore_21 ?_
  refine r_return C E dX0_keepsScore_24 ?_
  exact ⟨rfl, rfl⟩
theorem c_X0_isBetter (hG : Gok g) {u : Int → Int} (hu : Gd u) (hN : NB u n_columns n_rows n_limit n_wear n_straps n_from n_to) (hT : TS u t_width t_load t_pads t_reached t_place t_table t_drop t_size t_whole) (hb : BsOk (0, x_bestStarved, x_bestMost, x_bestWhole)) : XMet g yX0_isBetter cX0_isBetter 2 (some .boolean) (71) 0 0 [.ref (σ 0), .ref (σ 31)] (wX g σ x_tape x_taped x_faultKind x_faultPlace x_bestStarved x_bestMost x_bestWhole x_draws x_left x_mosts x_widened x_drawn x_img n_width n_from n_to n_load n_group n_budget n_columns n_rows n_limit n_wear n_straps n_pads n_lines n_mod n_asz n_el i_width i_load i_pads i_reached i_place i_table i_drop i_size i_whole t_width t_load t_pads t_reached t_place t_table t_drop t_size t_whole ++ ex) (pI (fun z ww => z = (if sc u x_bestStarved x_bestMost x_bestWhole < 0 then 1 else 0) ∧ ww = (wX g σ x_tape x_taped x_faultKind x_faultPlace x_bestStarved x_bestMost x_bestWhole x_draws x_left x_mosts x_widened x_drawn x_img n_width n_from n_to n_load n_group n_budget n_columns n_rows n_limit n_wear n_straps n_pads n_lines n_mod n_asz n_el i_width i_load i_pads i_reached i_place i_table i_drop i_size i_whole t_width t_load t_pads t_reached t_place t_table t_drop t_size t_whole ++ ex))) := by
  refine XMet.of (L := [some (.ref (σ 0)), some (.ref (σ 31))]) hG (by decide +kernel) (Nat.le_of_ble_eq_true rfl) rfl (fun K C E => ?_)
  obtain ⟨hX, hS⟩ := hT
  obtain ⟨⟨b1, b2⟩, ⟨b3, b4⟩, b5, b6⟩ := hb
  simp only at b1 b2 b3 b4 b5 b6
  have hdl := hu.dl
  have hmx := hu.mx
  have hwh := hu.who
  obtain rfl : t_whole = wWh u := hS.2.2.2.2.2
  refine r_aload_1 C dX0_isBetter_0 ?_
  refine r_cV0i C (c_X4_starved_Y hG hu hN hS.1 hX.2.1) (q0 := 31) rfl rfl q1007 pkX4_starved dX0_isBetter_1 (fun z w h => ?_)
  obtain ⟨rfl, rfl⟩ := h
  refine r_aload_0 C dX0_isBetter_4 ?_
  refine gG_bestStarved C q354 dX0_isBetter_5 ?_
  refine r_if_icmpeq (tgt := 30) C dX0_isBetter_8 (by decide) (fun c_8 => ?_) (fun c_8 => ?_)
  · skip
    refine r_aload_0 C dX0_isBetter_30 ?_
    refine gG_bestMost C q355 dX0_isBetter_31 ?_
    refine r_aload_0 C dX0_isBetter_34 ?_
    refine gG_bestWhole C q356 dX0_isBetter_35 ?_
    refine r_aload_1 C dX0_isBetter_38 ?_
    refine r_cV0l C (c_X4_most_Y hG hu hN hS.1 hS.2.2.2.2.1) (q0 := 31) rfl rfl q1008 pkX4_most dX0_isBetter_39 (fun z w h => ?_)
    obtain ⟨rfl, rfl⟩ := h
    refine r_aload_1 C dX0_isBetter_42 ?_
    refine gYN_whole C q298 dX0_isBetter_43 ?_
    refine r_cS4i C (c_X0_isMore hG (by omega) (by omega) (by omega) (by omega)) q1013 pkX0_isMore dX0_isBetter_46 (fun z w h => ?_)
    obtain ⟨rfl, rfl⟩ := h
    refine r_zreturnB C E dX0_isBetter_49 ?_
    refine ⟨_, rfl, ?_, rfl⟩
    first
      | (rw [if_pos (show sc u x_bestStarved x_bestMost x_bestWhole < 0 by rw [sc_ne c_8, if_pos c_19]; omega)]; done)
      | (rw [if_neg (show ¬ sc u x_bestStarved x_bestMost x_bestWhole < 0 by rw [sc_ne c_8, if_neg (by omega)]; omega)]; done)
      | (have h := sc_neg (ba := x_bestMost) (bb := x_bestWhole) c_8
         by_cases q : 0 < cmpF x_bestMost x_bestWhole (wMx u) (wWh u)
         · rw [if_pos q, if_pos (h.mpr q)]
         · rw [if_neg q, if_neg (fun z => q (h.mp z))])
  · skip
    refine r_aload_1 C dX0_isBetter_11 ?_
    refine r_cV0i C (c_X4_starved_Y hG hu hN hS.1 hX.2.1) (q0 := 31) rfl rfl q1007 pkX4_starved dX0_isBetter_12 (fun z w h => ?_)
    obtain ⟨rfl, rfl⟩ := h
    refine r_aload_0 C dX0_isBetter_15 ?_
    refine gG_bestStarved C q354 dX0_isBetter_16 ?_
    refine r_if_icmpge (tgt := 26) C dX0_isBetter_19 (by decide) (fun c_19 => ?_) (fun c_19 => ?_)
    · skip
      refine r_iconst C dX0_isBetter_26 ?_
      refine r_goto (tgt := 49) C dX0_isBetter_27 (by decide) ?_
      refine r_zreturn C E dX0_isBetter_49 (by first | exact Or.inl rfl | exact Or.inr rfl | omega) ?_
      refine ⟨_, rfl, ?_, rfl⟩
      first
        | (rw [if_pos (show sc u x_bestStarved x_bestMost x_bestWhole < 0 by rw [sc_ne c_8, if_pos c_19]; omega)]; done)
        | (rw [if_neg (show ¬ sc u x_bestStarved x_bestMost x_bestWhole < 0 by rw [sc_ne c_8, if_neg (by omega)]; omega)]; done)
        | (have h := sc_neg (ba := x_bestMost) (bb := x_bestWhole) c_8
           by_cases q : 0 < cmpF x_bestMost x_bestWhole (wMx u) (wWh u)
           · rw [if_pos q, if_pos (h.mpr q)]
           · rw [if_neg q, if_neg (fun z => q (h.mp z))])
    · skip
      refine r_iconst C dX0_isBetter_22 ?_
      refine r_goto (tgt := 49) C dX0_isBetter_23 (by decide) ?_
      refine r_zreturn C E dX0_isBetter_49 (by first | exact Or.inl rfl | exact Or.inr rfl | omega) ?_
      refine ⟨_, rfl, ?_, rfl⟩
      first
        | (rw [if_pos (show sc u x_bestStarved x_bestMost x_bestWhole < 0 by rw [sc_ne c_8, if_pos c_19]; omega)]; done)
        | (rw [if_neg (show ¬ sc u x_bestStarved x_bestMost x_bestWhole < 0 by rw [sc_ne c_8, if_neg (by omega)]; omega)]; done)
        | (have h := sc_neg (ba := x_bestMost) (bb := x_bestWhole) c_8
           by_cases q : 0 < cmpF x_bestMost x_bestWhole (wMx u) (wWh u)
           · rw [if_pos q, if_pos (h.mpr q)]
           · rw [if_neg q, if_neg (fun z => q (h.mp z))])
theorem c_X0_isWorse (hG : Gok g) {u : Int → Int} (hu : Gd u) (hN : NB u n_columns n_rows n_limit n_wear n_straps n_from n_to) (hT : TS u t_width t_load t_pads t_reached t_place t_table t_drop t_size t_whole) (hb : BsOk (0, x_bestStarved, x_bestMost, x_bestWhole)) : XMet g yX0_isWorse cX0_isWorse 2 (some .boolean) (71) 0 0 [.ref (σ 0), .ref (σ 31)] (wX g σ x_tape x_taped x_faultKind x_faultPlace x_bestStarved x_bestMost x_bestWhole x_draws x_left x_mosts x_widened x_drawn x_img n_width n_from n_to n_load n_group n_budget n_columns n_rows n_limit n_wear n_straps n_pads n_lines n_mod n_asz n_el i_width i_load i_pads i_reached i_place i_table i_drop i_size i_whole t_width t_load t_pads t_reached t_place t_table t_drop t_size t_whole ++ ex) (pI (fun z ww => z = (if 0 < sc u x_bestStarved x_bestMost x_bestWhole then 1 else 0) ∧ ww = (wX g σ x_tape x_taped x_faultKind x_faultPlace x_bestStarved x_bestMost x_bestWhole x_draws x_left x_mosts x_widened x_drawn x_img n_width n_from n_to n_load n_group n_budget n_columns n_rows n_limit n_wear n_straps n_pads n_lines n_mod n_asz n_el i_width i_load i_pads i_reached i_place i_table i_drop i_size i_whole t_width t_load t_pads t_reached t_place t_table t_drop t_size t_whole ++ ex))) := by
  refine XMet.of (L := [some (.ref (σ 0)), some (.ref (σ 31))]) hG (by decide +kernel) (Nat.le_of_ble_eq_true rfl) rfl (fun K C E => ?_)
  obtain ⟨hX, hS⟩ := hT
  obtain ⟨⟨b1, b2⟩, ⟨b3, b4⟩, b5, b6⟩ := hb
  simp only at b1 b2 b3 b4 b5 b6
  have hdl := hu.dl
  have hmx := hu.mx
  have hwh := hu.who
  obtain rfl : t_whole = wWh u := hS.2.2.2.2.2
  refine r_aload_1 C dX0_isWorse_0 ?_
  refine r_cV0i C (c_X4_starved_Y hG hu hN hS.1 hX.2.1) (q0 := 31) rfl rfl q1007 pkX4_starved dX0_isWorse_1 (fun z w h => ?_)
  obtain ⟨rfl, rfl⟩ := h
  refine r_aload_0 C dX0_isWorse_4 ?_
  refine gG_bestStarved C q354 dX0_isWorse_5 ?_
  refine r_if_icmpeq (tgt := 30) C dX0_isWorse_8 (by decide) (fun c_8 => ?_) (fun c_8 => ?_)
  · skip
    refine r_aload_1 C dX0_isWorse_30 ?_
    refine r_cV0l C (c_X4_most_Y hG hu hN hS.1 hS.2.2.2.2.1) (q0 := 31) rfl rfl q1008 pkX4_most dX0_isWorse_31 (fun z w h => ?_)
    obtain ⟨rfl, rfl⟩ := h
    refine r_aload_1 C dX0_isWorse_34 ?_
    refine gYN_whole C q298 dX0_isWorse_35 ?_
    refine r_aload_0 C dX0_isWorse_38 ?_
    refine gG_bestMost C q355 dX0_isWorse_39 ?_
    refine r_aload_0 C dX0_isWorse_42 ?_
    refine gG_bestWhole C q356 dX0_isWorse_43 ?_
    refine r_cS4i C (c_X0_isMore hG (by omega) (by omega) (by omega) (by omega)) q1013 pkX0_isMore dX0_isWorse_46 (fun z w h => ?_)
    obtain ⟨rfl, rfl⟩ := h
    refine r_zreturnB C E dX0_isWorse_49 ?_
    refine ⟨_, rfl, ?_, rfl⟩
    first
      | (rw [if_pos (show 0 < sc u x_bestStarved x_bestMost x_bestWhole by rw [sc_ne c_8, if_neg (by omega)]; omega)]; done)
      | (rw [if_neg (show ¬ 0 < sc u x_bestStarved x_bestMost x_bestWhole by rw [sc_ne c_8, if_pos (by omega)]; omega)]; done)
      | (have h := sc_pos (ba := x_bestMost) (bb := x_bestWhole) c_8
         by_cases q : 0 < cmpF (wMx u) (wWh u) x_bestMost x_bestWhole
         · rw [if_pos q, if_pos (h.mpr q)]
         · rw [if_neg q, if_neg (fun z => q (h.mp z))])
  · skip
    refine r_aload_1 C dX0_isWorse_11 ?_
    refine r_cV0i C (c_X4_starved_Y hG hu hN hS.1 hX.2.1) (q0 := 31) rfl rfl q1007 pkX4_starved dX0_isWorse_12 (fun z w h => ?_)
    obtain ⟨rfl, rfl⟩ := h
    refine r_aload_0 C dX0_isWorse_15 ?_
    refine gG_bestStarved C q354 dX0_isWorse_16 ?_
    refine r_if_icmple (tgt := 26) C dX0_isWorse_19 (by decide) (fun c_19 => ?_) (fun c_19 => ?_)
    · skip
      refine r_iconst C dX0_isWorse_26 ?_
      refine r_goto (tgt := 49) C dX0_isWorse_27 (by decide) ?_
      refine r_zreturn C E dX0_isWorse_49 (by first | exact Or.inl rfl | exact Or.inr rfl | omega) ?_
      refine ⟨_, rfl, ?_, rfl⟩
      first
        | (rw [if_pos (show 0 < sc u x_bestStarved x_bestMost x_bestWhole by rw [sc_ne c_8, if_neg (by omega)]; omega)]; done)
        | (rw [if_neg (show ¬ 0 < sc u x_bestStarved x_bestMost x_bestWhole by rw [sc_ne c_8, if_pos (by omega)]; omega)]; done)
        | (have h := sc_pos (ba := x_bestMost) (bb := x_bestWhole) c_8
           by_cases q : 0 < cmpF (wMx u) (wWh u) x_bestMost x_bestWhole
           · rw [if_pos q, if_pos (h.mpr q)]
           · rw [if_neg q, if_neg (fun z => q (h.mp z))])
    · skip
      refine r_iconst C dX0_isWorse_22 ?_
      refine r_goto (tgt := 49) C dX0_isWorse_23 (by decide) ?_
      refine r_zreturn C E dX0_isWorse_49 (by first | exact Or.inl rfl | exact Or.inr rfl | omega) ?_
      refine ⟨_, rfl, ?_, rfl⟩
      first
        | (rw [if_pos (show 0 < sc u x_bestStarved x_bestMost x_bestWhole by rw [sc_ne c_8, if_neg (by omega)]; omega)]; done)
        | (rw [if_neg (show ¬ 0 < sc u x_bestStarved x_bestMost x_bestWhole by rw [sc_ne c_8, if_pos (by omega)]; omega)]; done)
        | (have h := sc_pos (ba := x_bestMost) (bb := x_bestWhole) c_8
           by_cases q : 0 < cmpF (wMx u) (wWh u) x_bestMost x_bestWhole
           · rw [if_pos q, if_pos (h.mpr q)]
           · rw [if_neg q, if_neg (fun z => q (h.mp z))])
theorem c_X0_ages (hG : Gok g) {n : Int} {w : Int → Int} (hn : 0 ≤ n ∧ n ≤ 100) (hd : Gd w) (hW : NW w n_width n_from n_to n_load n_group n_budget n_columns n_rows n_limit n_wear n_straps n_pads n_lines) : XMet g yX0_ages cX0_ages 3 (some .int) (7) 0 0 [.ref (σ 0), .int (jI n)] (wX g σ x_tape x_taped x_faultKind x_faultPlace x_bestStarved x_bestMost x_bestWhole x_draws x_left x_mosts x_widened x_drawn x_img n_width n_from n_to n_load n_group n_budget n_columns n_rows n_limit n_wear n_straps n_pads n_lines n_mod n_asz n_el i_width i_load i_pads i_reached i_place i_table i_drop i_size i_whole t_width t_load t_pads t_reached t_place t_table t_drop t_size t_whole ++ ex) (pI (fun z ww => ∃ m : Nat, z = (m : Int) ∧ (m : Int) ≤ n ∧ (∀ j : Nat, j < m → wWe (itN wAge j w) ≠ 0) ∧ ((m : Int) = n ∨ wWe (itN wAge m w) = 0) ∧ ∃ sw sl sp pl tb dr, TS (itN wAge m w) sw sl sp (wR (itN wAge m w)) pl tb dr (wm (itN wAge m w)) (wWh (itN wAge m w)) ∧ ww = (wX g σ x_tape x_taped x_faultKind x_faultPlace x_bestStarved x_bestMost x_bestWhole x_draws x_left x_mosts x_widened x_drawn x_img n_width n_from n_to n_load n_group n_budget n_columns n_rows n_limit n_wear n_straps n_pads n_lines n_mod n_asz n_el i_width i_load i_pads i_reached i_place i_table i_drop i_size i_whole (sw) (sl) (sp) (wR (itN wAge m w)) (pl) (tb) (dr) (wm (itN wAge m w)) (wWh (itN wAge m w)) ++ ex))) := by
  refine XMet.of (L := [some (.ref (σ 0)), some (.int (jI n)), none]) hG (by decide +kernel) (Nat.le_of_ble_eq_true rfl) rfl (fun K C E => ?_)
  have key : ∀ (mm : Nat), ∀ (m : Nat) (sw sl : Int → Int) (sp : Int) (pl tb dr : Int → Int), ((m : Int) ≤ n) → (∀ j : Nat, j < m → wWe (itN wAge j w) ≠ 0) → (TS (itN wAge m w) sw sl sp (wR (itN wAge m w)) pl tb dr (wm (itN wAge m w)) (wWh (itN wAge m w))) → (n - m).toNat = mm → AW g K (wX g σ x_tape x_taped x_faultKind x_faultPlace x_bestStarved x_bestMost x_bestWhole x_draws x_left x_mosts x_widened x_drawn x_img n_width n_from n_to n_load n_group n_budget n_columns n_rows n_limit n_wear n_straps n_pads n_lines n_mod n_asz n_el i_width i_load i_pads i_reached i_place i_table i_drop i_size i_whole (sw) (sl) (sp) (wR (itN wAge m w)) (pl) (tb) (dr) (wm (itN wAge m w)) (wWh (itN wAge m w)) ++ ex) 0 0 17 [some (.ref (σ 0)), some (.int (jI n)), some (.int (jI (m : Int)))] [] := by
    intro mm
    induction mm using Nat.strongRecOn with
    | _ mm ih =>
    intro m sw sl sp pl tb dr hm1 hj hT hm
    have hdm := hd.ages m
    have hNm := (hW.nb hd).of (lo_ages m)
    have hwe := wWe_in hdm
    refine r_iload_2 C dX0_ages_17 ?_
    refine r_iload_1 C dX0_ages_18 ?_
    refine r_if_icmpge (tgt := 46) C dX0_ages_19 (by decide) (fun c_19 => ?_) (fun c_19 => ?_)
    · skip
      refine r_iload_2 C dX0_ages_46 ?_
      refine r_ireturn C E dX0_ages_47 ?_
      refine ⟨_, rfl, m, rfl, hm1, hj, ?_, _, _, _, _, _, _, hT, rfl⟩
      first
        | (left; omega)
        | (right; exact c_29)
    · skip
      refine r_aload_0 C dX0_ages_22 ?_
      refine gG_tried C q353 dX0_ages_23 ?_
      refine r_cV0i C (c_X4_wearing_Y hG hdm hNm hT.1.1 rfl rfl hT.2.2.2.2.2.1) (q0 := 31) rfl rfl q895 pkX4_wearing dX0_ages_26 (fun z w h => ?_)
      obtain ⟨rfl, rfl⟩ := h
      refine r_ifeq (tgt := 46) C dX0_ages_29 (by decide) (fun c_29 => ?_) (fun c_29 => ?_)
      · skip
        refine r_iload_2 C dX0_ages_46 ?_
        refine r_ireturn C E dX0_ages_47 ?_
        refine ⟨_, rfl, m, rfl, hm1, hj, ?_, _, _, _, _, _, _, hT, rfl⟩
        first
          | (left; omega)
          | (right; exact c_29)
      · skip
        refine r_aload_0 C dX0_ages_32 ?_
        refine gG_tried C q353 dX0_ages_33 ?_
        refine r_cV0i C (c_X4_ages_Y hG hdm hNm hT.1 hT.2) (q0 := 31) rfl rfl q967 pkX4_ages dX0_ages_36 (fun z w h => ?_)
        obtain ⟨rfl, wd, pl, tb, dr, hX2, hS2, rfl⟩ := h
        refine r_pop C dX0_ages_39 ?_
        refine r_iinc_2 C dX0_ages_40 ?_
        refine r_goto (tgt := 17) C dX0_ages_43 (by decide) ?_
        refine ih _ (show (n - ((m + 1 : Nat) : Int)).toNat < mm by omega) (m + 1) _ _ _ _ _ _ (by omega) (fun j a => ?_) ⟨hX2, hS2⟩ rfl
        by_cases ej : j = m
        · rw [ej]; exact c_29
        · exact hj j (by omega)
  refine r_aload_0 C dX0_ages_0 ?_
  refine gG_tried C q353 dX0_ages_1 ?_
  refine r_cU0v C (c_X3_takes_Y hG) (q0 := 31) rfl rfl q704 pkU_X3_takes dX0_ages_4 (fun w h => ?_)
  subst h
  refine r_aload_0 C dX0_ages_7 ?_
  refine gG_tried C q353 dX0_ages_8 ?_
  refine r_cV0a C (c_X4_solves_Y hG hd (hW.nb hd) hW.sx) (q0 := 31) rfl rfl q713 pkX4_solves dX0_ages_11 (fun z w h => ?_)
  obtain ⟨rfl, pl, tb, dr, hS, rfl⟩ := h
  refine r_pop C dX0_ages_14 ?_
  refine r_iconst C dX0_ages_15 ?_
  refine r_istore_2 C dX0_ages_16 ?_
  exact key _ 0 _ _ _ _ _ _ (by omega) (fun j a => by omega) ⟨hW.sx, hS⟩ rfl
theorem c_X0_aged (hG : Gok g) {n k : Int} {w : Int → Int} (hn : inR n) (hk : inR k) (hW : NW w n_width n_from n_to n_load n_group n_budget n_columns n_rows n_limit n_wear n_straps n_pads n_lines) : XMet g yX0_aged cX0_aged 3 (some .int) (8) 0 0 [.ref (σ 0), .int (jI n), .int (jI k)] (wX g σ x_tape x_taped x_faultKind x_faultPlace x_bestStarved x_bestMost x_bestWhole x_draws x_left x_mosts x_widened x_drawn x_img n_width n_from n_to n_load n_group n_budget n_columns n_rows n_limit n_wear n_straps n_pads n_lines n_mod n_asz n_el i_width i_load i_pads i_reached i_place i_table i_drop i_size i_whole t_width t_load t_pads t_reached t_place t_table t_drop t_size t_whole ++ ex) (pI (fun z ww => z = spAged w n k ∧ PubX g σ ex x_tape x_taped x_faultKind x_faultPlace x_img n_width n_from n_to n_load n_group n_budget n_columns n_rows n_limit n_wear n_straps n_pads n_lines n_mod n_asz n_el ww)) := by
  refine XMet.of (L := [some (.ref (σ 0)), some (.int (jI n)), some (.int (jI k))]) hG (by decide +kernel) (Nat.le_of_ble_eq_true rfl) rfl (fun K C E => ?_)
  refine r_aload_0 C dX0_aged_0 ?_
  refine r_iload_2 C dX0_aged_1 ?_
  refine r_cV1i C (c_X0_isStrap hG hk hW.st hW.wf) (q0 := 0) rfl rfl q756 pkX0_isStrap dX0_aged_2 (fun z w h => ?_)
  obtain ⟨rfl, rfl⟩ := h
  refine r_ifeqB (tgt := 20) C dX0_aged_5 (by decide) (fun c_5 => ?_) (fun c_5 => ?_)
  · skip
    refine r_bipush C dX0_aged_20 ?_
    refine r_ireturn C E dX0_aged_22 ?_
    refine ⟨_, rfl, ?_, PubX.mk⟩
    unfold spAged
    first
      | rw [if_neg (by intro h; exact c_5 h.2)]
      | rw [if_neg (by intro h; exact c_17 h.1)]
  · skip
    refine r_iload_1 C dX0_aged_8 ?_
    refine r_i2l C dX0_aged_9 ?_
    refine r_lconst0 C dX0_aged_10 ?_
    refine r_ldc2 C 100 q962 dX0_aged_11 ?_
    refine r_cS3i C (c_X0_in hG (inR_L hn) (by unfold inL; omega) (by unfold inL; omega)) q403 pkX0_in dX0_aged_14 (fun z w h => ?_)
    obtain ⟨rfl, rfl⟩ := h
    refine r_ifneB (tgt := 23) C dX0_aged_17 (by decide) (fun c_17 => ?_) (fun c_17 => ?_)
    · skip
      have hd := hW.wf.gdk c_5
      have hkk := isKb_in c_5
      have hs := hd.s
      refine r_aload_0 C dX0_aged_23 ?_
      refine r_iload_1 C dX0_aged_24 ?_
      refine r_cV1i C (c_X0_ages hG c_17 hd hW) (q0 := 0) rfl rfl q963 pkX0_ages dX0_aged_25 (fun z w h => ?_)
      obtain ⟨m, rfl, hm1, hj, he, sw, sl, sp, pl, tb, dr, hT, rfl⟩ := h
      refine r_pop C dX0_aged_28 ?_
      refine r_aload_0 C dX0_aged_29 ?_
      refine gG_tried C q353 dX0_aged_30 ?_
      refine gYI_width C q303 dX0_aged_33 ?_
      refine r_iload_2 C dX0_aged_36 ?_
      refine ld_t_width C dX0_aged_37 ?_
      refine r_ireturn C E dX0_aged_38 ?_
      refine ⟨_, rfl, ?_, PubX.mk⟩
      unfold spAged
      rw [if_pos ⟨c_17, c_5⟩, hT.1.1 k hkk.1 (by omega)]
      rcases he with e | e
      · rw [← e, Int.toNat_natCast]
      · rw [it_stuck e (show m ≤ n.toNat by omega)]
    · skip
      refine r_bipush C dX0_aged_20 ?_
      refine r_ireturn C E dX0_aged_22 ?_
      refine ⟨_, rfl, ?_, PubX.mk⟩
      unfold spAged
      first
        | rw [if_neg (by intro h; exact c_5 h.2)]
        | rw [if_neg (by intro h; exact c_17 h.1)]
theorem c_X0_calms (hG : Gok g) {w : Int → Int} (hW : NW w n_width n_from n_to n_load n_group n_budget n_columns n_rows n_limit n_wear n_straps n_pads n_lines) : XMet g yX0_calms cX0_calms 1 (some .int) (8) 0 0 [.ref (σ 0)] (wX g σ x_tape x_taped x_faultKind x_faultPlace x_bestStarved x_bestMost x_bestWhole x_draws x_left x_mosts x_widened x_drawn x_img n_width n_from n_to n_load n_group n_budget n_columns n_rows n_limit n_wear n_straps n_pads n_lines n_mod n_asz n_el i_width i_load i_pads i_reached i_place i_table i_drop i_size i_whole t_width t_load t_pads t_reached t_place t_table t_drop t_size t_whole ++ ex) (pI (fun z ww => z = spCalms w ∧ PubX g σ ex x_tape x_taped x_faultKind x_faultPlace x_img n_width n_from n_to n_load n_group n_budget n_columns n_rows n_limit n_wear n_straps n_pads n_lines n_mod n_asz n_el ww)) := by
  refine XMet.of (L := [some (.ref (σ 0))]) hG (by decide +kernel) (Nat.le_of_ble_eq_true rfl) rfl (fun K C E => ?_)
  refine r_aload_0 C dX0_calms_0 ?_
  refine gG_now C q346 dX0_calms_1 ?_
  refine r_cV0i C (c_X1_is hG hW.inR4) (q0 := 7) rfl rfl q696 pkX1_is dX0_calms_4 (fun z w h => ?_)
  obtain ⟨rfl, rfl⟩ := h
  refine r_ifeqB (tgt := 19) C dX0_calms_7 (by decide) (fun c_7 => ?_) (fun c_7 => ?_)
  · skip
    refine r_bipush C dX0_calms_19 ?_
    refine r_ireturn C E dX0_calms_21 ?_
    refine ⟨_, rfl, ?_, PubX.mk⟩
    first
      | (rw [hW.ln] at c_7; unfold spCalms; rw [if_neg c_7]; done)
      | (unfold spCalms
         rw [if_pos c_7, cal_end (by omega) hj (by rcases he with e | e; omega; exact Or.inr e)])
  · skip
    rw [hW.ln] at c_7
    have hd := hW.wf.gd4 c_7
    refine r_aload_0 C dX0_calms_10 ?_
    refine r_bipush C dX0_calms_11 ?_
    refine r_cV1i C (c_X0_ages hG (by omega) hd hW) (q0 := 0) rfl rfl q963 pkX0_ages dX0_calms_13 (fun z w h => ?_)
    obtain ⟨m, rfl, hm1, hj, he, sw, sl, sp, pl, tb, dr, hT, rfl⟩ := h
    have hsu := wSu_in hd
    have hsm := wSu_in (hd.ages m)
    have hr := wSu_run hd m hj
    refine r_goto (tgt := 21) C dX0_calms_16 (by decide) ?_
    refine r_ireturn C E dX0_calms_21 ?_
    refine ⟨_, rfl, ?_, PubX.mk⟩
    first
      | (rw [hW.ln] at c_7; unfold spCalms; rw [if_neg c_7]; done)
      | (unfold spCalms
         rw [if_pos c_7, cal_end (by omega) hj (by rcases he with e | e; omega; exact Or.inr e)])
theorem c_X0_lasts (hG : Gok g) {w : Int → Int} (hW : NW w n_width n_from n_to n_load n_group n_budget n_columns n_rows n_limit n_wear n_straps n_pads n_lines) : XMet g yX0_lasts cX0_lasts 2 (some .int) (7) 0 0 [.ref (σ 0)] (wX g σ x_tape x_taped x_faultKind x_faultPlace x_bestStarved x_bestMost x_bestWhole x_draws x_left x_mosts x_widened x_drawn x_img n_width n_from n_to n_load n_group n_budget n_columns n_rows n_limit n_wear n_straps n_pads n_lines n_mod n_asz n_el i_width i_load i_pads i_reached i_place i_table i_drop i_size i_whole t_width t_load t_pads t_reached t_place t_table t_drop t_size t_whole ++ ex) (pI (fun z ww => z = spLasts w ∧ PubX g σ ex x_tape x_taped x_faultKind x_faultPlace x_img n_width n_from n_to n_load n_group n_budget n_columns n_rows n_limit n_wear n_straps n_pads n_lines n_mod n_asz n_el ww)) := by
  refine XMet.of (L := [some (.ref (σ 0)), none]) hG (by decide +kernel) (Nat.le_of_ble_eq_true rfl) rfl (fun K C E => ?_)
  refine r_aload_0 C dX0_lasts_0 ?_
  refine gG_now C q346 dX0_lasts_1 ?_
  refine r_cV0i C (c_X1_is hG hW.inR4) (q0 := 7) rfl rfl q696 pkX1_is dX0_lasts_4 (fun z w h => ?_)
  obtain ⟨rfl, rfl⟩ := h
  refine r_ifneB (tgt := 13) C dX0_lasts_7 (by decide) (fun c_7 => ?_) (fun c_7 => ?_)
  · skip
    rw [hW.ln] at c_7
    have hd := hW.wf.gd4 c_7
    have hsu := wSu_in hd
    have key : ∀ (f : Nat) (n : Int) (u sw sl : Int → Int) (sp : Int) (pl tb dr : Int → Int), Gd u → NB u n_columns n_rows n_limit n_wear n_straps n_from n_to → TS u sw sl sp (wR u) pl tb dr (wm u) (wWh u) → wSu u < f → 0 ≤ n → n + f ≤ 100 → las f u n = las 49 w 0 → AW g K (wX g σ x_tape x_taped x_faultKind x_faultPlace x_bestStarved x_bestMost x_bestWhole x_draws x_left x_mosts x_widened x_drawn x_img n_width n_from n_to n_load n_group n_budget n_columns n_rows n_limit n_wear n_straps n_pads n_lines n_mod n_asz n_el i_width i_load i_pads i_reached i_place i_table i_drop i_size i_whole (sw) (sl) (sp) (wR (u)) (pl) (tb) (dr) (wm (u)) (wWh (u)) ++ ex) 0 0 30 [some (.ref (σ 0)), some (.int (jI n))] [] := by
      intro f
      induction f with
      | zero =>
        intro n u sw sl sp pl tb dr hu hN hT hf
        have := wSu_in hu
        omega
      | succ f ih =>
        intro n u sw sl sp pl tb dr hu hN hT hf hn0 hnf hl
        rw [las] at hl
        have hwe := wWe_in hu
        have hpc := pc12_0 hu
        have hpb := pc12_in (s := wWe u)
        refine r_aload_0 C dX0_lasts_30 ?_
        refine gG_tried C q353 dX0_lasts_31 ?_
        refine r_cV0i C (c_X4_holds_Y hG hu hN rfl hT.1.2.1 rfl hT.2.2.2.2.2.1) (q0 := 31) rfl rfl q863 pkX4_holds dX0_lasts_34 (fun z w h => ?_)
        obtain ⟨rfl, rfl⟩ := h
        refine r_ifeqB (tgt := 58) C dX0_lasts_37 (by decide) (fun c_37 => ?_) (fun c_37 => ?_)
        · skip
          refine r_iload_1 C dX0_lasts_58 ?_
          refine r_ireturn C E dX0_lasts_59 ?_
          refine ⟨_, rfl, ?_, PubX.mk⟩
          unfold spLasts
          rw [if_pos c_7, ← hl]
          first
            | rw [if_pos c_37, if_pos (hpc.mp c_47)]
            | rw [if_neg c_37]
        · skip
          refine r_aload_0 C dX0_lasts_40 ?_
          refine gG_tried C q353 dX0_lasts_41 ?_
          refine r_cV0i C (c_X4_ages_Y hG hu hN hT.1 hT.2) (q0 := 31) rfl rfl q967 pkX4_ages dX0_lasts_44 (fun z w h => ?_)
          obtain ⟨rfl, wd, pl, tb, dr, hX2, hS2, rfl⟩ := h
          refine r_ifne (tgt := 52) C dX0_lasts_47 (by decide) (fun c_47 => ?_) (fun c_47 => ?_)
          · skip
            refine r_iinc_1 C dX0_lasts_52 ?_
            refine r_goto (tgt := 30) C dX0_lasts_55 (by decide) ?_
            have hne : wWe u ≠ 0 := fun z => c_47 (hpc.mpr z)
            rw [if_pos c_37, if_neg hne] at hl
            exact ih (n + 1) (wAge u) _ _ _ _ _ _ hu.age (hN.of lo_age) ⟨hX2, hS2⟩ (by have := wSu_age hu hne; omega) (by omega) (by omega) hl
          · skip
            refine r_iconst C dX0_lasts_50 ?_
            refine r_ireturn C E dX0_lasts_51 ?_
            refine ⟨_, rfl, ?_, PubX.mk⟩
            unfold spLasts
            rw [if_pos c_7, ← hl]
            first
              | rw [if_pos c_37, if_pos (hpc.mp c_47)]
              | rw [if_neg c_37]
    refine r_aload_0 C dX0_lasts_13 ?_
    refine gG_tried C q353 dX0_lasts_14 ?_
    refine r_cU0v C (c_X3_takes_Y hG) (q0 := 31) rfl rfl q704 pkU_X3_takes dX0_lasts_17 (fun w h => ?_)
    subst h
    refine r_aload_0 C dX0_lasts_20 ?_
    refine gG_tried C q353 dX0_lasts_21 ?_
    refine r_cV0a C (c_X4_solves_Y hG hd (hW.nb hd) hW.sx) (q0 := 31) rfl rfl q713 pkX4_solves dX0_lasts_24 (fun z w h => ?_)
    obtain ⟨rfl, pl, tb, dr, hS, rfl⟩ := h
    refine r_pop C dX0_lasts_27 ?_
    refine r_iconst C dX0_lasts_28 ?_
    refine r_istore_1 C dX0_lasts_29 ?_
    exact key 49 0 w _ _ _ _ _ _ hd (hW.nb hd) ⟨hW.sx, hS⟩ (by omega) (by omega) (by omega) rfl
  · skip
    refine r_bipush C dX0_lasts_10 ?_
    refine r_ireturn C E dX0_lasts_12 ?_
    rw [hW.ln] at c_7
    exact ⟨_, rfl, by simp [spLasts, c_7], PubX.mk⟩
theorem c_X0_worn (hG : Gok g) {k : Int} {w : Int → Int} (hk : inR k) (hW : NW w n_width n_from n_to n_load n_group n_budget n_columns n_rows n_limit n_wear n_straps n_pads n_lines) : XMet g yX0_worn cX0_worn 3 (some .int) (7) 0 0 [.ref (σ 0), .int (jI k)] (wX g σ x_tape x_taped x_faultKind x_faultPlace x_bestStarved x_bestMost x_bestWhole x_draws x_left x_mosts x_widened x_drawn x_img n_width n_from n_to n_load n_group n_budget n_columns n_rows n_limit n_wear n_straps n_pads n_lines n_mod n_asz n_el i_width i_load i_pads i_reached i_place i_table i_drop i_size i_whole t_width t_load t_pads t_reached t_place t_table t_drop t_size t_whole ++ ex) (pI (fun z ww => z = spWorn w k ∧ PubX g σ ex x_tape x_taped x_faultKind x_faultPlace x_img n_width n_from n_to n_load n_group n_budget n_columns n_rows n_limit n_wear n_straps n_pads n_lines n_mod n_asz n_el ww)) := by
  refine XMet.of (L := [some (.ref (σ 0)), some (.int (jI k)), none]) hG (by decide +kernel) (Nat.le_of_ble_eq_true rfl) rfl (fun K C E => ?_)
  refine r_aload_0 C dX0_worn_0 ?_
  refine r_iload_1 C dX0_worn_1 ?_
  refine r_cV1i C (c_X0_isStrap hG hk hW.st hW.wf) (q0 := 0) rfl rfl q756 pkX0_isStrap dX0_worn_2 (fun z w h => ?_)
  obtain ⟨rfl, rfl⟩ := h
  refine r_ifneB (tgt := 11) C dX0_worn_5 (by decide) (fun c_5 => ?_) (fun c_5 => ?_)
  · skip
    have hd := hW.wf.gdk c_5
    have hkk := isKb_in c_5
    have hs := hd.s
    have hsu := wSu_in hd
    have key : ∀ (f : Nat) (n : Int) (u sw sl : Int → Int) (sp : Int) (pl tb dr : Int → Int), Gd u → NB u n_columns n_rows n_limit n_wear n_straps n_from n_to → TS u sw sl sp (wR u) pl tb dr (wm u) (wWh u) → wSu u < f → 0 ≤ n → n + f ≤ 100 → wor k f u n = wor k 49 w 0 → AW g K (wX g σ x_tape x_taped x_faultKind x_faultPlace x_bestStarved x_bestMost x_bestWhole x_draws x_left x_mosts x_widened x_drawn x_img n_width n_from n_to n_load n_group n_budget n_columns n_rows n_limit n_wear n_straps n_pads n_lines n_mod n_asz n_el i_width i_load i_pads i_reached i_place i_table i_drop i_size i_whole (sw) (sl) (sp) (wR (u)) (pl) (tb) (dr) (wm (u)) (wWh (u)) ++ ex) 0 0 28 [some (.ref (σ 0)), some (.int (jI k)), some (.int (jI n))] [] := by
      intro f
      induction f with
      | zero =>
        intro n u sw sl sp pl tb dr hu hN hT hf
        have := wSu_in hu
        omega
      | succ f ih =>
        intro n u sw sl sp pl tb dr hu hN hT hf hn0 hnf hl
        rw [wor] at hl
        have hwe := wWe_in hu
        have hpc := pc12_0 hu
        have hpb := pc12_in (s := wWe u)
        have hwk := hu.wd k hkk.1 (by omega)
        unfold wWd at hwk
        refine r_aload_0 C dX0_worn_28 ?_
        refine gG_tried C q353 dX0_worn_29 ?_
        refine gYI_width C q303 dX0_worn_32 ?_
        refine r_iload_1 C dX0_worn_35 ?_
        refine ld_t_width C dX0_worn_36 ?_
        refine r_topi (u (28 + k)) (hT.1.1 k hkk.1 (by omega)) ?_
        refine r_ifle (tgt := 58) C dX0_worn_37 (by decide) (fun c_37 => ?_) (fun c_37 => ?_)
        · skip
          refine r_iload_2 C dX0_worn_58 ?_
          refine r_ireturn C E dX0_worn_59 ?_
          refine ⟨_, rfl, ?_, PubX.mk⟩
          unfold spWorn
          rw [if_pos c_5, ← hl]
          first
            | rw [if_pos c_37, if_pos (hpc.mp c_47)]
            | rw [if_neg (by omega)]
        · skip
          refine r_aload_0 C dX0_worn_40 ?_
          refine gG_tried C q353 dX0_worn_41 ?_
          refine r_cV0i C (c_X4_ages_Y hG hu hN hT.1 hT.2) (q0 := 31) rfl rfl q967 pkX4_ages dX0_worn_44 (fun z w h => ?_)
          obtain ⟨rfl, wd, pl, tb, dr, hX2, hS2, rfl⟩ := h
          refine r_ifne (tgt := 52) C dX0_worn_47 (by decide) (fun c_47 => ?_) (fun c_47 => ?_)
          · skip
            refine r_iinc_2 C dX0_worn_52 ?_
            refine r_goto (tgt := 28) C dX0_worn_55 (by decide) ?_
            have hne : wWe u ≠ 0 := fun z => c_47 (hpc.mpr z)
            rw [if_pos c_37, if_neg hne] at hl
            exact ih (n + 1) (wAge u) _ _ _ _ _ _ hu.age (hN.of lo_age) ⟨hX2, hS2⟩ (by have := wSu_age hu hne; omega) (by omega) (by omega) hl
          · skip
            refine r_iconst C dX0_worn_50 ?_
            refine r_ireturn C E dX0_worn_51 ?_
            refine ⟨_, rfl, ?_, PubX.mk⟩
            unfold spWorn
            rw [if_pos c_5, ← hl]
            first
              | rw [if_pos c_37, if_pos (hpc.mp c_47)]
              | rw [if_neg (by omega)]
    refine r_aload_0 C dX0_worn_11 ?_
    refine gG_tried C q353 dX0_worn_12 ?_
    refine r_cU0v C (c_X3_takes_Y hG) (q0 := 31) rfl rfl q704 pkU_X3_takes dX0_worn_15 (fun w h => ?_)
    subst h
    refine r_aload_0 C dX0_worn_18 ?_
    refine gG_tried C q353 dX0_worn_19 ?_
    refine r_cV0a C (c_X4_solves_Y hG hd (hW.nb hd) hW.sx) (q0 := 31) rfl rfl q713 pkX4_solves dX0_worn_22 (fun z w h => ?_)
    obtain ⟨rfl, pl, tb, dr, hS, rfl⟩ := h
    refine r_pop C dX0_worn_25 ?_
    refine r_iconst C dX0_worn_26 ?_
    refine r_istore_2 C dX0_worn_27 ?_
    exact key 49 0 w _ _ _ _ _ _ hd (hW.nb hd) ⟨hW.sx, hS⟩ (by omega) (by omega) (by omega) rfl
  · skip
    refine r_bipush C dX0_worn_8 ?_
    refine r_ireturn C E dX0_worn_10 ?_
    exact ⟨_, rfl, by simp [spWorn, c_5], PubX.mk⟩
theorem c_X0_withPads (hG : Gok g) {q : Int} {w : Int → Int} (hd : Gd w) (hW : NW w n_width n_from n_to n_load n_group n_budget n_columns n_rows n_limit n_wear n_straps n_pads n_lines) (hq : NSet (w 0) (w 1) q) : XMet g yX0_withPads cX0_withPads 2 (some (.object "SupplyGrid$Solved")) (4) 0 0 [.ref (σ 0), .int (jI q)] (wX g σ x_tape x_taped x_faultKind x_faultPlace x_bestStarved x_bestMost x_bestWhole x_draws x_left x_mosts x_widened x_drawn x_img n_width n_from n_to n_load n_group n_budget n_columns n_rows n_limit n_wear n_straps n_pads n_lines n_mod n_asz n_el i_width i_load i_pads i_reached i_place i_table i_drop i_size i_whole t_width t_load t_pads t_reached t_place t_table t_drop t_size t_whole ++ ex) (pA (fun a ww => a = σ 31 ∧ ∃ sw sl sp pl tb dr, TS (aset w 5 (bsO (w 5) q)) sw sl sp (wR (aset w 5 (bsO (w 5) q))) pl tb dr (wm (aset w 5 (bsO (w 5) q))) (wWh (aset w 5 (bsO (w 5) q))) ∧ ww = (wX g σ x_tape x_taped x_faultKind x_faultPlace x_bestStarved x_bestMost x_bestWhole x_draws x_left x_mosts x_widened x_drawn x_img n_width n_from n_to n_load n_group n_budget n_columns n_rows n_limit n_wear n_straps n_pads n_lines n_mod n_asz n_el i_width i_load i_pads i_reached i_place i_table i_drop i_size i_whole (sw) (sl) (sp) (wR (aset w 5 (bsO (w 5) q))) (pl) (tb) (dr) (wm (aset w 5 (bsO (w 5) q))) (wWh (aset w 5 (bsO (w 5) q))) ++ ex))) := by
  refine XMet.of (L := [some (.ref (σ 0)), some (.int (jI q))]) hG (by decide +kernel) (Nat.le_of_ble_eq_true rfl) rfl (fun K C E => ?_)
  have hp5 := hd.p5
  have hpd := hW.pd
  have hq0 := hq.1
  have hdq := hd.pad (hd.pads.O hq)
  have hX : SX (aset w 5 (bsO (w 5) q)) (fun j => if 0 ≤ j ∧ j < 12 then n_width j else t_width j) (fun j => if 0 ≤ j ∧ j < 9 then n_load j else t_load j) (bsO n_pads q) := by rw [hpd]; exact hW.sx.pad
  refine r_aload_0 C dX0_withPads_0 ?_
  refine gG_tried C q353 dX0_withPads_1 ?_
  refine r_cU0v C (c_X3_takes_Y hG) (q0 := 31) rfl rfl q704 pkU_X3_takes dX0_withPads_4 (fun w h => ?_)
  subst h
  refine r_aload_0 C dX0_withPads_7 ?_
  refine gG_tried C q353 dX0_withPads_8 ?_
  refine r_dup C dX0_withPads_11 ?_
  refine gYI_pads C q311 dX0_withPads_12 ?_
  refine r_iload_1 C dX0_withPads_15 ?_
  refine r_ior C (_) dX0_withPads_16 (jI_or (by omega) (by omega)) ?_
  refine pYI_pads C q311 dX0_withPads_17 ?_
  refine r_aload_0 C dX0_withPads_20 ?_
  refine gG_tried C q353 dX0_withPads_21 ?_
  refine r_cV0a C (c_X4_solves_Y hG hdq ((hW.nb hd).of (lo_aset (by omega))) hX) (q0 := 31) rfl rfl q713 pkX4_solves dX0_withPads_24 (fun z w h => ?_)
  obtain ⟨rfl, pl, tb, dr, hS, rfl⟩ := h
  refine r_areturn C E (Or.inl ⟨_, rfl⟩) dX0_withPads_27 ?_
  exact ⟨_, rfl, rfl, _, _, _, pl, tb, dr, ⟨hX, hS⟩, rfl⟩
theorem c_X0_bestPad (hG : Gok g) {q : Int} {w : Int → Int} (hd : Gd w) (hW : NW w n_width n_from n_to n_load n_group n_budget n_columns n_rows n_limit n_wear n_straps n_pads n_lines) (hq : NSet (w 0) (w 1) q) : XMet g yX0_bestPad cX0_bestPad 5 (some .int) (72) 0 0 [.ref (σ 0), .int (jI q)] (wX g σ x_tape x_taped x_faultKind x_faultPlace x_bestStarved x_bestMost x_bestWhole x_draws x_left x_mosts x_widened x_drawn x_img n_width n_from n_to n_load n_group n_budget n_columns n_rows n_limit n_wear n_straps n_pads n_lines n_mod n_asz n_el i_width i_load i_pads i_reached i_place i_table i_drop i_size i_whole t_width t_load t_pads t_reached t_place t_table t_drop t_size t_whole ++ ex) (pI (fun z ww => z = (wNp (aset w 5 (bsO (w 5) q))).1 ∧ ∃ (bs bm bw : Int) (yw yl : Int → Int) (yp yr : Int) (yc yt yd : Int → Int) (yz yo : Int), ww = (wX g σ x_tape x_taped x_faultKind x_faultPlace (bs) (bm) (bw) x_draws x_left x_mosts x_widened x_drawn x_img n_width n_from n_to n_load n_group n_budget n_columns n_rows n_limit n_wear n_straps n_pads n_lines n_mod n_asz n_el i_width i_load i_pads i_reached i_place i_table i_drop i_size i_whole (yw) (yl) (yp) (yr) (yc) (yt) (yd) (yz) (yo) ++ ex))) := by
  refine XMet.of (L := [some (.ref (σ 0)), some (.int (jI q)), none, none, none]) hG (by decide +kernel) (Nat.le_of_ble_eq_true rfl) rfl (fun K C E => ?_)
  have hp5 := hd.p5
  have hpd := hW.pd
  have hq0 := hq.1
  have hq5 := hq.s512 hd.g
  have hn := hd.n
  have hO := hd.pads.O hq
  have hO5 := hO.s512 hd.g
  have hO0 := hO.1
  have hPq : bsO n_pads q = bsO (w 5) q := by rw [hpd]
  have key : ∀ (mm : Nat), ∀ (v : Int) (s : Bst) (bs bm bw : Int) (yw yl : Int → Int) (yp yr : Int) (yc yt yd : Int → Int) (yz yo : Int) (l4 : Option Value), (0 ≤ v) → (v ≤ wN w) → (BsOk s) → (s = bs0 ∨ ((0 ≤ s.1 ∧ s.1 < wN w) ∧ bs = s.2.1 ∧ bm = s.2.2.1 ∧ bw = s.2.2.2)) → (s = bst (fun v => !bsB (bsO (w 5) q) v) (fun v => aset w 5 (bsO (bsO (w 5) q) (bsP v))) bs0 v) → (wN w - v).toNat = mm → AW g K (wX g σ x_tape x_taped x_faultKind x_faultPlace (bs) (bm) (bw) x_draws x_left x_mosts x_widened x_drawn x_img n_width n_from n_to n_load n_group n_budget n_columns n_rows n_limit n_wear n_straps n_pads n_lines n_mod n_asz n_el i_width i_load i_pads i_reached i_place i_table i_drop i_size i_whole (yw) (yl) (yp) (yr) (yc) (yt) (yd) (yz) (yo) ++ ex) 0 0 4 [some (.ref (σ 0)), some (.int (jI q)), some (.int (jI s.1)), some (.int (jI v)), l4] [] := by
    intro mm
    induction mm using Nat.strongRecOn with
    | _ mm ih =>
    intro v s bs bm bw yw yl yp yr yc yt yd yz yo l4 hv0 hv hs hs1 es hm
    have hs2 : -1 ≤ s.1 ∧ s.1 < wN w := by
      rcases hs1 with h | h
      · rw [h]; simp; omega
      · omega
    refine r_iload_3 C dX0_bestPad_4 ?_
    refine r_aload_0 C dX0_bestPad_5 ?_
    refine gG_now C q346 dX0_bestPad_6 ?_
    refine r_cV0i C (c_X1_many hG) (q0 := 7) rfl rfl q768 pkX1_many dX0_bestPad_9 (fun z w h => ?_)
    obtain ⟨rfl, rfl⟩ := h
    refine r_topi (wN w) (by rw [hW.c, hW.r]; rfl) ?_
    refine r_if_icmpge (tgt := 76) C dX0_bestPad_12 (by decide) (fun c_12 => ?_) (fun c_12 => ?_)
    · skip
      refine r_iload_2 C dX0_bestPad_76 ?_
      refine r_ireturn C E dX0_bestPad_77 ?_
      have e : v = wN w := by omega
      subst e
      exact ⟨_, rfl, by rw [wNp_P, es], _, _, _, _, _, _, _, _, _, _, _, _, rfl⟩
    · skip
      have hP := bsP_9 hv0 (show v < 9 by omega)
      have hP0 := bsP_0 (k := v)
      have hNq : NSet (w 0) (w 1) (bsO q (bsP v)) := hq.O (NSet.P hv0 c_12)
      have hdv : Gd (aset w 5 (bsO (bsO (w 5) q) (bsP v))) := by rw [bsO_assoc]; exact hd.pad (hd.pads.O hNq)
      have hNv := (hW.nb hd).of (u := aset w 5 (bsO (bsO (w 5) q) (bsP v))) (lo_aset (by omega))
      refine r_aload_0 C dX0_bestPad_15 ?_
      refine gG_now C q346 dX0_bestPad_16 ?_
      refine gTN_pads C q244 dX0_bestPad_19 ?_
      refine r_iload_1 C dX0_bestPad_22 ?_
      refine r_ior C (_) dX0_bestPad_23 (jI_or (by omega) (by omega)) ?_
      rw [hPq]
      refine r_iload_3 C dX0_bestPad_24 ?_
      refine r_cS2i C (c_X0_isOn hG (by omega) (by omega)) q778 pkX0_isOn dX0_bestPad_25 (fun z w h => ?_)
      obtain ⟨rfl, rfl⟩ := h
      refine r_ifeqB (tgt := 34) C dX0_bestPad_28 (by decide) (fun c_28 => ?_) (fun c_28 => ?_)
      · skip
        refine r_aload_0 C dX0_bestPad_34 ?_
        refine r_iload_1 C dX0_bestPad_35 ?_
        refine r_iconst C dX0_bestPad_36 ?_
        refine r_iload_3 C dX0_bestPad_37 ?_
        refine r_ishl C (_) dX0_bestPad_38 (jI_shl (by omega) (by omega)) ?_
        refine r_ior C (_) dX0_bestPad_39 (jI_or (by omega) (by omega)) ?_
        refine r_cV1a C (c_X0_withPads hG hd hW hNq) (q0 := 0) rfl rfl q999 pkX0_withPads dX0_bestPad_40 (fun z w h => ?_)
        rw [← bsO_assoc] at h
        obtain ⟨rfl, sw, sl, sp, pl, tb, dr, hT, rfl⟩ := h
        refine r_astore_4 C dX0_bestPad_43 ?_
        refine r_iload_2 C dX0_bestPad_45 ?_
        refine r_iconst C dX0_bestPad_46 ?_
        refine r_if_icmpeq (tgt := 62) C dX0_bestPad_47 (by decide) (fun c_47 => ?_) (fun c_47 => ?_)
        · skip
          refine r_iload_3 C dX0_bestPad_62 ?_
          refine r_istore_2 C dX0_bestPad_63 ?_
          refine r_aload_0 C dX0_bestPad_64 ?_
          refine r_aload_4 C dX0_bestPad_65 ?_
          refine r_cV1v C (c_X0_keepsScore hG hdv hNv hT) (q0 := 0) rfl rfl q1016 pkX0_keepsScore dX0_bestPad_67 (fun w h => ?_)
          subst h
          refine r_iinc_3 C dX0_bestPad_70 ?_
          refine r_goto (tgt := 4) C dX0_bestPad_73 (by decide) ?_
          first
            | (have h : bsB (bsO (w 5) q) v = true := c_28
               refine ih _ (show (wN w - (v + 1)).toNat < mm by omega) (v + 1) s _ _ _ _ _ _ _ _ _ _ _ _ _ (by omega) (by omega) hs hs1 ?_ rfl
               rw [bst_s hv0, ← es, bsf_no1 (by simp [h])])
            | (have h : ¬ sc (aset w 5 (bsO (bsO (w 5) q) (bsP v))) s.2.1 s.2.2.1 s.2.2.2 < 0 := c_56
               refine ih _ (show (wN w - (v + 1)).toNat < mm by omega) (v + 1) s _ _ _ _ _ _ _ _ _ _ _ _ _ (by omega) (by omega) hs (Or.inr ⟨h10, rfl, rfl, rfl⟩) ?_ rfl
               rw [bst_s hv0, ← es, bsf_no2 (G := fun v => aset w 5 (bsO (bsO (w 5) q) (bsP v))) (by omega)])
            | (refine ih _ (show (wN w - (v + 1)).toNat < mm by omega) (v + 1) (v, wDl (aset w 5 (bsO (bsO (w 5) q) (bsP v))), wMx (aset w 5 (bsO (bsO (w 5) q) (bsP v))), wWh (aset w 5 (bsO (bsO (w 5) q) (bsP v)))) _ _ _ _ _ _ _ _ _ _ _ _ _ (by omega) (by omega) (bs_of hdv v) (Or.inr ⟨⟨hv0, c_12⟩, rfl, rfl, rfl⟩) ?_ rfl
               rw [bst_s hv0, ← es, bsf_yes (P := fun v => !bsB (bsO (w 5) q) v) (G := fun v => aset w 5 (bsO (bsO (w 5) q) (bsP v))) (by simpa using c_28)]
               first
                 | exact c_56
                 | (rcases hs1 with h | h
                    · rw [h]; exact sc_10 hdv
                    · exact absurd c_47 (by omega)))
        · skip
          obtain ⟨h10, rfl, rfl, rfl⟩ : (0 ≤ s.1 ∧ s.1 < wN w) ∧ bs = s.2.1 ∧ bm = s.2.2.1 ∧ bw = s.2.2.2 := by
            rcases hs1 with h | h
            · rw [h] at c_47; exact absurd rfl c_47
            · exact h
          refine r_aload_0 C dX0_bestPad_50 ?_
          refine r_aload_4 C dX0_bestPad_51 ?_
          refine r_cV1i C (c_X0_isBetter hG hdv hNv hT hs) (q0 := 0) rfl rfl q1003 pkX0_isBetter dX0_bestPad_53 (fun z w h => ?_)
          obtain ⟨rfl, rfl⟩ := h
          refine r_ifneB (tgt := 62) C dX0_bestPad_56 (by decide) (fun c_56 => ?_) (fun c_56 => ?_)
          · skip
            refine r_iload_3 C dX0_bestPad_62 ?_
            refine r_istore_2 C dX0_bestPad_63 ?_
            refine r_aload_0 C dX0_bestPad_64 ?_
            refine r_aload_4 C dX0_bestPad_65 ?_
            refine r_cV1v C (c_X0_keepsScore hG hdv hNv hT) (q0 := 0) rfl rfl q1016 pkX0_keepsScore dX0_bestPad_67 (fun w h => ?_)
            subst h
            refine r_iinc_3 C dX0_bestPad_70 ?_
            refine r_goto (tgt := 4) C dX0_bestPad_73 (by decide) ?_
            first
              | (have h : bsB (bsO (w 5) q) v = true := c_28
                 refine ih _ (show (wN w - (v + 1)).toNat < mm by omega) (v + 1) s _ _ _ _ _ _ _ _ _ _ _ _ _ (by omega) (by omega) hs hs1 ?_ rfl
                 rw [bst_s hv0, ← es, bsf_no1 (by simp [h])])
              | (have h : ¬ sc (aset w 5 (bsO (bsO (w 5) q) (bsP v))) s.2.1 s.2.2.1 s.2.2.2 < 0 := c_56
                 refine ih _ (show (wN w - (v + 1)).toNat < mm by omega) (v + 1) s _ _ _ _ _ _ _ _ _ _ _ _ _ (by omega) (by omega) hs (Or.inr ⟨h10, rfl, rfl, rfl⟩) ?_ rfl
                 rw [bst_s hv0, ← es, bsf_no2 (G := fun v => aset w 5 (bsO (bsO (w 5) q) (bsP v))) (by omega)])
              | (refine ih _ (show (wN w - (v + 1)).toNat < mm by omega) (v + 1) (v, wDl (aset w 5 (bsO (bsO (w 5) q) (bsP v))), wMx (aset w 5 (bsO (bsO (w 5) q) (bsP v))), wWh (aset w 5 (bsO (bsO (w 5) q) (bsP v)))) _ _ _ _ _ _ _ _ _ _ _ _ _ (by omega) (by omega) (bs_of hdv v) (Or.inr ⟨⟨hv0, c_12⟩, rfl, rfl, rfl⟩) ?_ rfl
                 rw [bst_s hv0, ← es, bsf_yes (P := fun v => !bsB (bsO (w 5) q) v) (G := fun v => aset w 5 (bsO (bsO (w 5) q) (bsP v))) (by simpa using c_28)]
                 first
                   | exact c_56
                   | (rcases hs1 with h | h
                      · rw [h]; exact sc_10 hdv
                      · exact absurd c_47 (by omega)))
          · skip
            refine r_goto (tgt := 70) C dX0_bestPad_59 (by decide) ?_
            refine r_iinc_3 C dX0_bestPad_70 ?_
            refine r_goto (tgt := 4) C dX0_bestPad_73 (by decide) ?_
            first
              | (have h : bsB (bsO (w 5) q) v = true := c_28
                 refine ih _ (show (wN w - (v + 1)).toNat < mm by omega) (v + 1) s _ _ _ _ _ _ _ _ _ _ _ _ _ (by omega) (by omega) hs hs1 ?_ rfl
                 rw [bst_s hv0, ← es, bsf_no1 (by simp [h])])
              | (have h : ¬ sc (aset w 5 (bsO (bsO (w 5) q) (bsP v))) s.2.1 s.2.2.1 s.2.2.2 < 0 := c_56
                 refine ih _ (show (wN w - (v + 1)).toNat < mm by omega) (v + 1) s _ _ _ _ _ _ _ _ _ _ _ _ _ (by omega) (by omega) hs (Or.inr ⟨h10, rfl, rfl, rfl⟩) ?_ rfl
                 rw [bst_s hv0, ← es, bsf_no2 (G := fun v => aset w 5 (bsO (bsO (w 5) q) (bsP v))) (by omega)])
              | (refine ih _ (show (wN w - (v + 1)).toNat < mm by omega) (v + 1) (v, wDl (aset w 5 (bsO (bsO (w 5) q) (bsP v))), wMx (aset w 5 (bsO (bsO (w 5) q) (bsP v))), wWh (aset w 5 (bsO (bsO (w 5) q) (bsP v)))) _ _ _ _ _ _ _ _ _ _ _ _ _ (by omega) (by omega) (bs_of hdv v) (Or.inr ⟨⟨hv0, c_12⟩, rfl, rfl, rfl⟩) ?_ rfl
                 rw [bst_s hv0, ← es, bsf_yes (P := fun v => !bsB (bsO (w 5) q) v) (G := fun v => aset w 5 (bsO (bsO (w 5) q) (bsP v))) (by simpa using c_28)]
                 first
                   | exact c_56
                   | (rcases hs1 with h | h
                      · rw [h]; exact sc_10 hdv
                      · exact absurd c_47 (by omega)))
      · skip
        refine r_goto (tgt := 70) C dX0_bestPad_31 (by decide) ?_
        refine r_iinc_3 C dX0_bestPad_70 ?_
        refine r_goto (tgt := 4) C dX0_bestPad_73 (by decide) ?_
        first
          | (have h : bsB (bsO (w 5) q) v = true := c_28
             refine ih _ (show (wN w - (v + 1)).toNat < mm by omega) (v + 1) s _ _ _ _ _ _ _ _ _ _ _ _ _ (by omega) (by omega) hs hs1 ?_ rfl
             rw [bst_s hv0, ← es, bsf_no1 (by simp [h])])
          | (have h : ¬ sc (aset w 5 (bsO (bsO (w 5) q) (bsP v))) s.2.1 s.2.2.1 s.2.2.2 < 0 := c_56
             refine ih _ (show (wN w - (v + 1)).toNat < mm by omega) (v + 1) s _ _ _ _ _ _ _ _ _ _ _ _ _ (by omega) (by omega) hs (Or.inr ⟨h10, rfl, rfl, rfl⟩) ?_ rfl
             rw [bst_s hv0, ← es, bsf_no2 (G := fun v => aset w 5 (bsO (bsO (w 5) q) (bsP v))) (by omega)])
          | (refine ih _ (show (wN w - (v + 1)).toNat < mm by omega) (v + 1) (v, wDl (aset w 5 (bsO (bsO (w 5) q) (bsP v))), wMx (aset w 5 (bsO (bsO (w 5) q) (bsP v))), wWh (aset w 5 (bsO (bsO (w 5) q) (bsP v)))) _ _ _ _ _ _ _ _ _ _ _ _ _ (by omega) (by omega) (bs_of hdv v) (Or.inr ⟨⟨hv0, c_12⟩, rfl, rfl, rfl⟩) ?_ rfl
             rw [bst_s hv0, ← es, bsf_yes (P := fun v => !bsB (bsO (w 5) q) v) (G := fun v => aset w 5 (bsO (bsO (w 5) q) (bsP v))) (by simpa using c_28)]
             first
               | exact c_56
               | (rcases hs1 with h | h
                  · rw [h]; exact sc_10 hdv
                  · exact absurd c_47 (by omega)))
  refine r_iconst C dX0_bestPad_0 ?_
  refine r_istore_2 C dX0_bestPad_1 ?_
  refine r_iconst C dX0_bestPad_2 ?_
  refine r_istore_3 C dX0_bestPad_3 ?_
  exact key _ 0 bs0 _ _ _ _ _ _ _ _ _ _ _ _ _ (by omega) (by omega) bs0_ok (Or.inl rfl) rfl rfl
end X7

