section X12
variable {g : GX} {σ : Nat → Nat} {ex : va_W}
variable {x_tape : Int → Int} {x_taped : Int} {x_faultKind : Int} {x_faultPlace : Int} {x_bestStarved : Int} {x_bestMost : Int} {x_bestWhole : Int} {x_draws : Int → Int} {x_left : Int → Int} {x_mosts : Int → Int} {x_widened : Int → Int} {x_drawn : Int} {x_img : Nat → Option Nat} {n_width : Int → Int} {n_from : Int → Int} {n_to : Int → Int} {n_load : Int → Int} {n_group : Int → Int} {n_budget : Int → Int} {n_columns : Int} {n_rows : Int} {n_limit : Int} {n_wear : Int} {n_straps : Int} {n_pads : Int} {n_lines : Int} {n_mod : Int} {n_asz : Int} {n_el : Nat → Option Nat} {i_width : Int → Int} {i_load : Int → Int} {i_pads : Int} {i_reached : Int} {i_place : Int → Int} {i_table : Int → Int} {i_drop : Int → Int} {i_size : Int} {i_whole : Int} {t_width : Int → Int} {t_load : Int → Int} {t_pads : Int} {t_reached : Int} {t_place : Int → Int} {t_table : Int → Int} {t_drop : Int → Int} {t_size : Int} {t_whole : Int}
theorem c_X0_end (hG : Gok g) {n : Int} (hn : inR n) (ht : 0 ≤ x_taped ∧ x_taped ≤ 700) : XMet g yX0_end cX0_end 2 (some .int) (1) 0 0 [.ref (σ 0), .int (jI n)] (wX g σ x_tape x_taped x_faultKind x_faultPlace x_bestStarved x_bestMost x_bestWhole x_draws x_left x_mosts x_widened x_drawn x_img n_width n_from n_to n_load n_group n_budget n_columns n_rows n_limit n_wear n_straps n_pads n_lines n_mod n_asz n_el i_width i_load i_pads i_reached i_place i_table i_drop i_size i_whole t_width t_load t_pads t_reached t_place t_table t_drop t_size t_whole ++ ex) (pI (fun z w => if 0 ≤ n ∧ n ≤ x_taped then z = n ∧ PubX g σ ex x_tape (n) x_faultKind x_faultPlace x_img n_width n_from n_to n_load n_group n_budget n_columns n_rows n_limit n_wear n_straps n_pads n_lines n_mod n_asz n_el w else z = -1 ∧ PubX g σ ex x_tape x_taped x_faultKind x_faultPlace x_img n_width n_from n_to n_load n_group n_budget n_columns n_rows n_limit n_wear n_straps n_pads n_lines n_mod n_asz n_el w)) := by
  refine XMet.of (L := [some (.ref (σ 0)), some (.int (jI n))]) hG (by decide +kernel) (Nat.le_of_ble_eq_true rfl) rfl (fun K C E => ?_)
  refine r_iload_1 C dX0_end_0 ?_
  refine r_i2l C dX0_end_1 ?_
  refine r_lconst0 C dX0_end_2 ?_
  refine r_aload_0 C dX0_end_3 ?_
  refine gG_taped C q349 dX0_end_4 ?_
  refine r_i2l C dX0_end_7 ?_
  refine r_cS3i C (c_X0_in hG (inR_L hn) (by unfold inL; omega) (by unfold inL; omega)) q403 pkX0_in dX0_end_8 (fun z w h => ?_)
  obtain ⟨rfl, rfl⟩ := h
  refine r_ifneB (tgt := 16) C dX0_end_11 (by decide) (fun c_11 => ?_) (fun c_11 => ?_)
  · skip
    refine r_aload_0 C dX0_end_16 ?_
    refine r_iload_1 C dX0_end_17 ?_
    refine pG_taped C q349 dX0_end_18 ?_
    refine r_iload_1 C dX0_end_21 ?_
    refine r_ireturn C E dX0_end_22 ?_
    refine ⟨_, rfl, ?_⟩
    show @ite _ _ _ _ _
    rw [if_pos c_11]
    exact ⟨rfl, PubX.mk⟩
  · skip
    refine r_iconst C dX0_end_14 ?_
    refine r_ireturn C E dX0_end_15 ?_
    refine ⟨_, rfl, ?_⟩
    show @ite _ _ _ _ _
    rw [if_neg c_11]
    exact ⟨rfl, PubX.mk⟩
theorem c_X0_fault (hG : Gok g) {q : Int} (hq : inR q) : XMet g yX0_fault cX0_fault 2 (some .int) (0) 0 0 [.ref (σ 0), .int (jI q)] (wX g σ x_tape x_taped x_faultKind x_faultPlace x_bestStarved x_bestMost x_bestWhole x_draws x_left x_mosts x_widened x_drawn x_img n_width n_from n_to n_load n_group n_budget n_columns n_rows n_limit n_wear n_straps n_pads n_lines n_mod n_asz n_el i_width i_load i_pads i_reached i_place i_table i_drop i_size i_whole t_width t_load t_pads t_reached t_place t_table t_drop t_size t_whole ++ ex) (pI (fun z w => z = (if q = 0 then x_faultKind else if q = 1 then x_faultPlace else -1) ∧ PubX g σ ex x_tape x_taped x_faultKind x_faultPlace x_img n_width n_from n_to n_load n_group n_budget n_columns n_rows n_limit n_wear n_straps n_pads n_lines n_mod n_asz n_el w)) := by
  refine XMet.of (L := [some (.ref (σ 0)), some (.int (jI q))]) hG (by decide +kernel) (Nat.le_of_ble_eq_true rfl) rfl (fun K C E => ?_)
  refine r_iload_1 C dX0_fault_0 ?_
  refine r_ifne (tgt := 11) C dX0_fault_1 (by decide) (fun c_1 => ?_) (fun c_1 => ?_)
  · skip
    refine r_iload_1 C dX0_fault_11 ?_
    refine r_iconst C dX0_fault_12 ?_
    refine r_if_icmpne (tgt := 23) C dX0_fault_13 (by decide) (fun c_13 => ?_) (fun c_13 => ?_)
    · skip
      refine r_iconst C dX0_fault_23 ?_
      refine r_ireturn C E dX0_fault_24 ?_
      refine ⟨_, rfl, ?_, PubX.mk⟩
      first
        | rw [if_pos c_1]
        | rw [if_neg c_1, if_pos c_13]
        | rw [if_neg c_1, if_neg c_13]
    · skip
      refine r_aload_0 C dX0_fault_16 ?_
      refine gG_faultPlace C q351 dX0_fault_17 ?_
      refine r_goto (tgt := 24) C dX0_fault_20 (by decide) ?_
      refine r_ireturn C E dX0_fault_24 ?_
      refine ⟨_, rfl, ?_, PubX.mk⟩
      first
        | rw [if_pos c_1]
        | rw [if_neg c_1, if_pos c_13]
        | rw [if_neg c_1, if_neg c_13]
  · skip
    refine r_aload_0 C dX0_fault_4 ?_
    refine gG_faultKind C q350 dX0_fault_5 ?_
    refine r_goto (tgt := 24) C dX0_fault_8 (by decide) ?_
    refine r_ireturn C E dX0_fault_24 ?_
    refine ⟨_, rfl, ?_, PubX.mk⟩
    first
      | rw [if_pos c_1]
      | rw [if_neg c_1, if_pos c_13]
      | rw [if_neg c_1, if_neg c_13]
theorem c_X0_isFull (hG : Gok g) (ha : 0 ≤ n_asz ∧ n_asz ≤ 20) : XMet g yX0_isFull cX0_isFull 1 (some .boolean) (1) 0 0 [.ref (σ 0)] (wX g σ x_tape x_taped x_faultKind x_faultPlace x_bestStarved x_bestMost x_bestWhole x_draws x_left x_mosts x_widened x_drawn x_img n_width n_from n_to n_load n_group n_budget n_columns n_rows n_limit n_wear n_straps n_pads n_lines n_mod n_asz n_el i_width i_load i_pads i_reached i_place i_table i_drop i_size i_whole t_width t_load t_pads t_reached t_place t_table t_drop t_size t_whole ++ ex) (pI (fun z w => z = (if n_asz = 20 then 1 else 0) ∧ w = (wX g σ x_tape x_taped x_faultKind x_faultPlace x_bestStarved x_bestMost x_bestWhole x_draws x_left x_mosts x_widened x_drawn x_img n_width n_from n_to n_load n_group n_budget n_columns n_rows n_limit n_wear n_straps n_pads n_lines n_mod n_asz n_el i_width i_load i_pads i_reached i_place i_table i_drop i_size i_whole t_width t_load t_pads t_reached t_place t_table t_drop t_size t_whole ++ ex))) := by
  refine XMet.of (L := [some (.ref (σ 0))]) hG (by decide +kernel) (Nat.le_of_ble_eq_true rfl) rfl (fun K C E => ?_)
  refine r_aload_0 C dX0_isFull_0 ?_
  refine gG_now C q346 dX0_isFull_1 ?_
  refine gTN_acts C q217 dX0_isFull_4 ?_
  refine r_cV0i C (c_J2_size hG) (q0 := 14) rfl rfl q692 pkJ2_size dX0_isFull_7 (fun z w h => ?_)
  obtain ⟨rfl, rfl⟩ := h
  refine r_bipush C dX0_isFull_10 ?_
  refine r_if_icmpne (tgt := 19) C dX0_isFull_12 (by decide) (fun c_12 => ?_) (fun c_12 => ?_)
  · skip
    refine r_iconst C dX0_isFull_19 ?_
    refine r_zreturn C E dX0_isFull_20 (by first | exact Or.inl rfl | exact Or.inr rfl | omega) ?_
    exact ⟨_, rfl, by simp [*], rfl⟩
  · skip
    refine r_iconst C dX0_isFull_15 ?_
    refine r_goto (tgt := 20) C dX0_isFull_16 (by decide) ?_
    refine r_zreturn C E dX0_isFull_20 (by first | exact Or.inl rfl | exact Or.inr rfl | omega) ?_
    exact ⟨_, rfl, by simp [*], rfl⟩
theorem c_X0_lay (hG : Gok g) {k n : Int} {w : Int → Int} (hk : inR k) (hn : inR n) (hW : NW w n_width n_from n_to n_load n_group n_budget n_columns n_rows n_limit n_wear n_straps n_pads n_lines) (ha : 0 ≤ n_asz ∧ n_asz ≤ 20) : XMet g yX0_lay cX0_lay 4 (some .int) (3) 1 2 [.ref (σ 0), .int (jI k), .int (jI n)] (wX g σ x_tape x_taped x_faultKind x_faultPlace x_bestStarved x_bestMost x_bestWhole x_draws x_left x_mosts x_widened x_drawn x_img n_width n_from n_to n_load n_group n_budget n_columns n_rows n_limit n_wear n_straps n_pads n_lines n_mod n_asz n_el i_width i_load i_pads i_reached i_place i_table i_drop i_size i_whole t_width t_load t_pads t_reached t_place t_table t_drop t_size t_whole ++ ex) (pI (fun z ww => if isKb w k = true ∧ 0 ≤ n ∧ n ≤ 4 then (if w (28 + k) = n ∨ n_asz = 20 then z = -5 ∧ PubX g σ ex x_tape x_taped x_faultKind x_faultPlace x_img n_width n_from n_to n_load n_group n_budget n_columns n_rows n_limit n_wear n_straps n_pads n_lines n_mod n_asz n_el ww else z = w (28 + k) ∧ ∃ c : Nat, PubX g σ ((c, .inr (6, [.int (jI k), .int (jI (w (28 + k)))])) :: ex) x_tape x_taped x_faultKind x_faultPlace x_img (aset n_width k n) n_from n_to n_load n_group n_budget n_columns n_rows n_limit n_wear n_straps n_pads n_lines (n_mod + 1) (n_asz + 1) (va_up n_el n_asz.toNat (some c)) ww) else z = -2 ∧ PubX g σ ex x_tape x_taped x_faultKind x_faultPlace x_img n_width n_from n_to n_load n_group n_budget n_columns n_rows n_limit n_wear n_straps n_pads n_lines n_mod n_asz n_el ww)) := by
  refine XMet.of (L := [some (.ref (σ 0)), some (.int (jI k)), some (.int (jI n)), none]) hG (by decide +kernel) (Nat.le_of_ble_eq_true rfl) rfl (fun K C E => ?_)
  refine r_aload_0 C dX0_lay_0 ?_
  refine r_iload_1 C dX0_lay_1 ?_
  refine r_cV1i C (c_X0_isStrap hG hk hW.st hW.wf) (q0 := 0) rfl rfl q756 pkX0_isStrap dX0_lay_2 (fun z w h => ?_)
  obtain ⟨rfl, rfl⟩ := h
  refine r_ifeqB (tgt := 20) C dX0_lay_5 (by decide) (fun c_5 => ?_) (fun c_5 => ?_)
  · skip
    refine r_bipush C dX0_lay_20 ?_
    refine r_ireturn C E dX0_lay_22 ?_
    refine ⟨_, rfl, ?_⟩
    show @ite _ _ _ _ _
    rw [if_neg (by first | (intro h; exact c_5 h.1) | (intro h; exact c_17 h.2))]
    exact ⟨rfl, PubX.mk⟩
  · skip
    refine r_iload_2 C dX0_lay_8 ?_
    refine r_i2l C dX0_lay_9 ?_
    refine r_lconst0 C dX0_lay_10 ?_
    refine r_ldc2 C 4 q1155 dX0_lay_11 ?_
    refine r_cS3i C (c_X0_in hG (inR_L hn) (by unfold inL; omega) (by unfold inL; omega)) q403 pkX0_in dX0_lay_14 (fun z w h => ?_)
    obtain ⟨rfl, rfl⟩ := h
    refine r_ifneB (tgt := 23) C dX0_lay_17 (by decide) (fun c_17 => ?_) (fun c_17 => ?_)
    · skip
      have hd := hW.wf.gdk c_5
      have hkk := isKb_in c_5
      have hs := hd.s
      have hwk := hd.wd k hkk.1 (by omega)
      unfold wWd at hwk
      refine r_aload_0 C dX0_lay_23 ?_
      refine gG_now C q346 dX0_lay_24 ?_
      refine gTN_width C q196 dX0_lay_27 ?_
      refine r_iload_1 C dX0_lay_30 ?_
      refine ld_n_width C dX0_lay_31 ?_
      refine r_topi (w (28 + k)) (hW.wd k hkk.1 (by omega)) ?_
      refine r_istore_3 C dX0_lay_32 ?_
      refine r_iload_3 C dX0_lay_33 ?_
      refine r_iload_2 C dX0_lay_34 ?_
      refine r_if_icmpeq (tgt := 45) C dX0_lay_35 (by decide) (fun c_35 => ?_) (fun c_35 => ?_)
      · skip
        refine r_bipush C dX0_lay_45 ?_
        refine r_ireturn C E dX0_lay_47 ?_
        refine ⟨_, rfl, ?_⟩
        show @ite _ _ _ _ _
        rw [if_pos ⟨c_5, c_17⟩, if_pos (by first | exact Or.inl c_35 | exact Or.inr c_42)]
        exact ⟨rfl, PubX.mk⟩
      · skip
        refine r_aload_0 C dX0_lay_38 ?_
        refine r_cV0i C (c_X0_isFull hG ha) (q0 := 0) rfl rfl q1156 pkX0_isFull dX0_lay_39 (fun z w h => ?_)
        obtain ⟨rfl, rfl⟩ := h
        refine r_ifeqB (tgt := 48) C dX0_lay_42 (by decide) (fun c_42 => ?_) (fun c_42 => ?_)
        · skip
          refine r_aload_0 C dX0_lay_48 ?_
          refine gG_now C q346 dX0_lay_49 ?_
          refine gTN_width C q196 dX0_lay_52 ?_
          refine r_iload_1 C dX0_lay_55 ?_
          refine r_iload_2 C dX0_lay_56 ?_
          refine st_n_width C dX0_lay_57 ?_
          refine r_aload_0 C dX0_lay_58 ?_
          refine gG_now C q346 dX0_lay_59 ?_
          refine gTN_acts C q217 dX0_lay_62 ?_
          refine r_new C in_X8 tyX8_ok q1160 q1161 q141 (ci := 6) (fs := [.int 0, .int 0]) rfl (fun j hj => by rcases (show j = 0 ∨ j = 1 by omega) with rfl | rfl <;> rfl) dX0_lay_65 (fun c => ?_)
          refine r_dup C dX0_lay_68 ?_
          refine r_iload_1 C dX0_lay_69 ?_
          refine r_iload_3 C dX0_lay_70 ?_
          refine AW.perm List.perm_middle ?_
          refine r_callI C (c_X8_init hG) q1162 pkX8_init (by decide) (Nat.zero_le _) (Nat.zero_le _) rfl (Nat.le_of_ble_eq_true rfl) dX0_lay_71 (fun r ww h => ?_)
          obtain ⟨rfl, rfl⟩ := h
          refine AW.perm List.perm_middle.symm ?_
          refine r_cV1i C (c_A_add (qk := 0) hG ha.1 (by omega) (nw_in q2109 rfl) rfl rfl) (q0 := 14) rfl rfl q1174 pkJ2_add dX0_lay_74 (fun z ww h => ?_)
          obtain ⟨rfl, rfl⟩ := h
          refine r_pop C dX0_lay_77 ?_
          refine r_iload_3 C dX0_lay_78 ?_
          refine r_ireturn C E dX0_lay_79 ?_
          refine ⟨_, rfl, ?_⟩
          show @ite _ _ _ _ _
          rw [if_pos ⟨c_5, c_17⟩, if_neg (fun q => q.elim c_35 c_42)]
          exact ⟨rfl, c, PubX.mk⟩
        · skip
          refine r_bipush C dX0_lay_45 ?_
          refine r_ireturn C E dX0_lay_47 ?_
          refine ⟨_, rfl, ?_⟩
          show @ite _ _ _ _ _
          rw [if_pos ⟨c_5, c_17⟩, if_pos (by first | exact Or.inl c_35 | exact Or.inr c_42)]
          exact ⟨rfl, PubX.mk⟩
    · skip
      refine r_bipush C dX0_lay_20 ?_
      refine r_ireturn C E dX0_lay_22 ?_
      refine ⟨_, rfl, ?_⟩
      show @ite _ _ _ _ _
      rw [if_neg (by first | (intro h; exact c_5 h.1) | (intro h; exact c_17 h.2))]
      exact ⟨rfl, PubX.mk⟩
theorem c_X0_feeds (hG : Gok g) {v : Int} {w : Int → Int} (hv : inR v) (hW : NW w n_width n_from n_to n_load n_group n_budget n_columns n_rows n_limit n_wear n_straps n_pads n_lines) (ha : 0 ≤ n_asz ∧ n_asz ≤ 20) : XMet g yX0_feeds cX0_feeds 2 (some .int) (3) 1 1 [.ref (σ 0), .int (jI v)] (wX g σ x_tape x_taped x_faultKind x_faultPlace x_bestStarved x_bestMost x_bestWhole x_draws x_left x_mosts x_widened x_drawn x_img n_width n_from n_to n_load n_group n_budget n_columns n_rows n_limit n_wear n_straps n_pads n_lines n_mod n_asz n_el i_width i_load i_pads i_reached i_place i_table i_drop i_size i_whole t_width t_load t_pads t_reached t_place t_table t_drop t_size t_whole ++ ex) (pI (fun z ww => if isNb w v = true then (if n_asz = 20 then z = -5 ∧ PubX g σ ex x_tape x_taped x_faultKind x_faultPlace x_img n_width n_from n_to n_load n_group n_budget n_columns n_rows n_limit n_wear n_straps n_pads n_lines n_mod n_asz n_el ww else z = bitc (bsX (w 5) (bsP v)) ∧ ∃ c : Nat, PubX g σ ((c, .inr (7, [.int (jI v)])) :: ex) x_tape x_taped x_faultKind x_faultPlace x_img n_width n_from n_to n_load n_group n_budget n_columns n_rows n_limit n_wear n_straps (bsX (w 5) (bsP v)) n_lines (n_mod + 1) (n_asz + 1) (va_up n_el n_asz.toNat (some c)) ww) else z = -2 ∧ PubX g σ ex x_tape x_taped x_faultKind x_faultPlace x_img n_width n_from n_to n_load n_group n_budget n_columns n_rows n_limit n_wear n_straps n_pads n_lines n_mod n_asz n_el ww)) := by
  refine XMet.of (L := [some (.ref (σ 0)), some (.int (jI v))]) hG (by decide +kernel) (Nat.le_of_ble_eq_true rfl) rfl (fun K C E => ?_)
  have hn := hW.wf.n
  refine r_aload_0 C dX0_feeds_0 ?_
  refine r_iload_1 C dX0_feeds_1 ?_
  refine r_cV1i C (c_X0_isNode hG (by assumption) hW.c hW.r hn) (q0 := 0) rfl rfl q764 pkX0_isNode dX0_feeds_2 (fun z w h => ?_)
  obtain ⟨rfl, rfl⟩ := h
  refine r_ifneB (tgt := 11) C dX0_feeds_5 (by decide) (fun c_5 => ?_) (fun c_5 => ?_)
  · skip
    have hd := hW.wf.gdb c_5
    have hvv := isNb_in c_5
    have hp5 := hd.p5
    have hP := bsP_9 hvv.1 (show v < 9 by omega)
    have hP0 := bsP_0 (k := v)
    have hX : 0 ≤ bsX (w 5) (bsP v) := bsX_0
    have hX2 : bsX (w 5) (bsP v) < 512 := by
      have := bsX_lt (a := w 5) (b := bsP v) (n := 9) (by simpa using hp5.2) (by simpa using hP)
      simpa using this
    refine r_aload_0 C dX0_feeds_11 ?_
    refine r_cV0i C (c_X0_isFull hG ha) (q0 := 0) rfl rfl q1156 pkX0_isFull dX0_feeds_12 (fun z w h => ?_)
    obtain ⟨rfl, rfl⟩ := h
    refine r_ifeqB (tgt := 21) C dX0_feeds_15 (by decide) (fun c_15 => ?_) (fun c_15 => ?_)
    · skip
      refine r_aload_0 C dX0_feeds_21 ?_
      refine gG_now C q346 dX0_feeds_22 ?_
      refine r_dup C dX0_feeds_25 ?_
      refine gTN_pads C q244 dX0_feeds_26 ?_
      refine r_topi (w 5) hW.pd ?_
      refine r_iconst C dX0_feeds_29 ?_
      refine r_iload_1 C dX0_feeds_30 ?_
      refine r_ishl C (_) dX0_feeds_31 (jI_shl (by omega) (by omega)) ?_
      refine r_ixor C (_) dX0_feeds_32 (jI_xor (by omega) (by omega)) ?_
      refine pTN_pads C q244 dX0_feeds_33 ?_
      refine r_aload_0 C dX0_feeds_36 ?_
      refine gG_now C q346 dX0_feeds_37 ?_
      refine gTN_acts C q217 dX0_feeds_40 ?_
      refine r_new C in_X9 tyX9_ok q1232 q1233 q144 (ci := 7) (fs := [.int 0]) rfl (fun j hj => by rcases (show j = 0 by omega) with rfl; rfl) dX0_feeds_43 (fun c => ?_)
      refine r_dup C dX0_feeds_46 ?_
      refine r_iload_1 C dX0_feeds_47 ?_
      refine AW.perm List.perm_middle ?_
      refine r_callI C (c_X9_init hG) q1234 pkX9_init (by decide) (Nat.zero_le _) (Nat.zero_le _) rfl (Nat.le_of_ble_eq_true rfl) dX0_feeds_48 (fun r ww h => ?_)
      obtain ⟨rfl, rfl⟩ := h
      refine AW.perm List.perm_middle.symm ?_
      refine r_cV1i C (c_A_add (qk := 0) hG ha.1 (by omega) (nw_in q2110 rfl) rfl rfl) (q0 := 14) rfl rfl q1174 pkJ2_add dX0_feeds_51 (fun z ww h => ?_)
      obtain ⟨rfl, rfl⟩ := h
      refine r_pop C dX0_feeds_54 ?_
      refine r_aload_0 C dX0_feeds_55 ?_
      refine gG_now C q346 dX0_feeds_56 ?_
      refine gTN_pads C q244 dX0_feeds_59 ?_
      refine r_cS1i C (c_J10_bitCount hG hX (by omega)) q1029 pkJ10_bitCount dX0_feeds_62 (fun z w h => ?_)
      obtain ⟨rfl, rfl⟩ := h
      refine r_ireturn C E dX0_feeds_65 ?_
      refine ⟨_, rfl, ?_⟩
      show @ite _ _ _ _ _
      rw [if_pos c_5, if_neg c_15, pc12_9 hX2]
      exact ⟨rfl, c, PubX.mk⟩
    · skip
      refine r_bipush C dX0_feeds_18 ?_
      refine r_ireturn C E dX0_feeds_20 ?_
      refine ⟨_, rfl, ?_⟩
      show @ite _ _ _ _ _
      rw [if_pos c_5, if_pos c_15]
      exact ⟨rfl, PubX.mk⟩
  · skip
    refine r_bipush C dX0_feeds_8 ?_
    refine r_ireturn C E dX0_feeds_10 ?_
    refine ⟨_, rfl, ?_⟩
    show @ite _ _ _ _ _
    rw [if_neg c_5]
    exact ⟨rfl, PubX.mk⟩
theorem c_X0_draw_2 (hG : Gok g) {v n : Int} {w : Int → Int} (hv : inR v) (hn : inR n) (hW : NW w n_width n_from n_to n_load n_group n_budget n_columns n_rows n_limit n_wear n_straps n_pads n_lines) (ha : 0 ≤ n_asz ∧ n_asz ≤ 20) : XMet g yX0_draw_2 cX0_draw_2 4 (some .int) (3) 1 2 [.ref (σ 0), .int (jI v), .int (jI n)] (wX g σ x_tape x_taped x_faultKind x_faultPlace x_bestStarved x_bestMost x_bestWhole x_draws x_left x_mosts x_widened x_drawn x_img n_width n_from n_to n_load n_group n_budget n_columns n_rows n_limit n_wear n_straps n_pads n_lines n_mod n_asz n_el i_width i_load i_pads i_reached i_place i_table i_drop i_size i_whole t_width t_load t_pads t_reached t_place t_table t_drop t_size t_whole ++ ex) (pI (fun z ww => if isNb w v = true ∧ 0 ≤ n ∧ n ≤ 99 then (if w (6 + v) = n ∨ n_asz = 20 then z = -5 ∧ PubX g σ ex x_tape x_taped x_faultKind x_faultPlace x_img n_width n_from n_to n_load n_group n_budget n_columns n_rows n_limit n_wear n_straps n_pads n_lines n_mod n_asz n_el ww else z = w (6 + v) ∧ ∃ c : Nat, PubX g σ ((c, .inr (8, [.int (jI v), .int (jI (w (6 + v)))])) :: ex) x_tape x_taped x_faultKind x_faultPlace x_img n_width n_from n_to (aset n_load v n) n_group n_budget n_columns n_rows n_limit n_wear n_straps n_pads n_lines (n_mod + 1) (n_asz + 1) (va_up n_el n_asz.toNat (some c)) ww) else z = -2 ∧ PubX g σ ex x_tape x_taped x_faultKind x_faultPlace x_img n_width n_from n_to n_load n_group n_budget n_columns n_rows n_limit n_wear n_straps n_pads n_lines n_mod n_asz n_el ww)) := by
  refine XMet.of (L := [some (.ref (σ 0)), some (.int (jI v)), some (.int (jI n)), none]) hG (by decide +kernel) (Nat.le_of_ble_eq_true rfl) rfl (fun K C E => ?_)
  have hnn := hW.wf.n
  refine r_aload_0 C dX0_draw_2_0 ?_
  refine r_iload_1 C dX0_draw_2_1 ?_
  refine r_cV1i C (c_X0_isNode hG (by assumption) hW.c hW.r hnn) (q0 := 0) rfl rfl q764 pkX0_isNode dX0_draw_2_2 (fun z w h => ?_)
  obtain ⟨rfl, rfl⟩ := h
  refine r_ifeqB (tgt := 20) C dX0_draw_2_5 (by decide) (fun c_5 => ?_) (fun c_5 => ?_)
  · skip
    refine r_bipush C dX0_draw_2_20 ?_
    refine r_ireturn C E dX0_draw_2_22 ?_
    refine ⟨_, rfl, ?_⟩
    show @ite _ _ _ _ _
    rw [if_neg (by first | (intro h; exact c_5 h.1) | (intro h; exact c_17 h.2))]
    exact ⟨rfl, PubX.mk⟩
  · skip
    refine r_iload_2 C dX0_draw_2_8 ?_
    refine r_i2l C dX0_draw_2_9 ?_
    refine r_lconst0 C dX0_draw_2_10 ?_
    refine r_ldc2 C 99 q1246 dX0_draw_2_11 ?_
    refine r_cS3i C (c_X0_in hG (inR_L hn) (by unfold inL; omega) (by unfold inL; omega)) q403 pkX0_in dX0_draw_2_14 (fun z w h => ?_)
    obtain ⟨rfl, rfl⟩ := h
    refine r_ifneB (tgt := 23) C dX0_draw_2_17 (by decide) (fun c_17 => ?_) (fun c_17 => ?_)
    · skip
      have hd := hW.wf.gdb c_5
      have hvv := isNb_in c_5
      have hld := hd.ld v hvv.1 (by omega)
      refine r_aload_0 C dX0_draw_2_23 ?_
      refine gG_now C q346 dX0_draw_2_24 ?_
      refine gTN_load C q209 dX0_draw_2_27 ?_
      refine r_iload_1 C dX0_draw_2_30 ?_
      refine ld_n_load C dX0_draw_2_31 ?_
      refine r_topi (w (6 + v)) (hW.ld v hvv.1 (by omega)) ?_
      refine r_istore_3 C dX0_draw_2_32 ?_
      refine r_iload_3 C dX0_draw_2_33 ?_
      refine r_iload_2 C dX0_draw_2_34 ?_
      refine r_if_icmpeq (tgt := 45) C dX0_draw_2_35 (by decide) (fun c_35 => ?_) (fun c_35 => ?_)
      · skip
        refine r_bipush C dX0_draw_2_45 ?_
        refine r_ireturn C E dX0_draw_2_47 ?_
        refine ⟨_, rfl, ?_⟩
        show @ite _ _ _ _ _
        rw [if_pos ⟨c_5, c_17⟩, if_pos (by first | exact Or.inl c_35 | exact Or.inr c_42)]
        exact ⟨rfl, PubX.mk⟩
      · skip
        refine r_aload_0 C dX0_draw_2_38 ?_
        refine r_cV0i C (c_X0_isFull hG ha) (q0 := 0) rfl rfl q1156 pkX0_isFull dX0_draw_2_39 (fun z w h => ?_)
        obtain ⟨rfl, rfl⟩ := h
        refine r_ifeqB (tgt := 48) C dX0_draw_2_42 (by decide) (fun c_42 => ?_) (fun c_42 => ?_)
        · skip
          refine r_aload_0 C dX0_draw_2_48 ?_
          refine gG_now C q346 dX0_draw_2_49 ?_
          refine gTN_load C q209 dX0_draw_2_52 ?_
          refine r_iload_1 C dX0_draw_2_55 ?_
          refine r_iload_2 C dX0_draw_2_56 ?_
          refine st_n_load C dX0_draw_2_57 ?_
          refine r_aload_0 C dX0_draw_2_58 ?_
          refine gG_now C q346 dX0_draw_2_59 ?_
          refine gTN_acts C q217 dX0_draw_2_62 ?_
          refine r_new C in_X10 tyX10_ok q1247 q1248 q145 (ci := 8) (fs := [.int 0, .int 0]) rfl (fun j hj => by rcases (show j = 0 ∨ j = 1 by omega) with rfl | rfl <;> rfl) dX0_draw_2_65 (fun c => ?_)
          refine r_dup C dX0_draw_2_68 ?_
          refine r_iload_1 C dX0_draw_2_69 ?_
          refine r_iload_3 C dX0_draw_2_70 ?_
          refine AW.perm List.perm_middle ?_
          refine r_callI C (c_X10_init hG) q1249 pkX10_init (by decide) (Nat.zero_le _) (Nat.zero_le _) rfl (Nat.le_of_ble_eq_true rfl) dX0_draw_2_71 (fun r ww h => ?_)
          obtain ⟨rfl, rfl⟩ := h
          refine AW.perm List.perm_middle.symm ?_
          refine r_cV1i C (c_A_add (qk := 0) hG ha.1 (by omega) (nw_in q2111 rfl) rfl rfl) (q0 := 14) rfl rfl q1174 pkJ2_add dX0_draw_2_74 (fun z ww h => ?_)
          obtain ⟨rfl, rfl⟩ := h
          refine r_pop C dX0_draw_2_77 ?_
          refine r_iload_3 C dX0_draw_2_78 ?_
          refine r_ireturn C E dX0_draw_2_79 ?_
          refine ⟨_, rfl, ?_⟩
          show @ite _ _ _ _ _
          rw [if_pos ⟨c_5, c_17⟩, if_neg (fun q => q.elim c_35 c_42)]
          exact ⟨rfl, c, PubX.mk⟩
        · skip
          refine r_bipush C dX0_draw_2_45 ?_
          refine r_ireturn C E dX0_draw_2_47 ?_
          refine ⟨_, rfl, ?_⟩
          show @ite _ _ _ _ _
          rw [if_pos ⟨c_5, c_17⟩, if_pos (by first | exact Or.inl c_35 | exact Or.inr c_42)]
          exact ⟨rfl, PubX.mk⟩
    · skip
      refine r_bipush C dX0_draw_2_20 ?_
      refine r_ireturn C E dX0_draw_2_22 ?_
      refine ⟨_, rfl, ?_⟩
      show @ite _ _ _ _ _
      rw [if_neg (by first | (intro h; exact c_5 h.1) | (intro h; exact c_17 h.2))]
      exact ⟨rfl, PubX.mk⟩
theorem c_X0_year (hG : Gok g) {w : Int → Int} (hW : NW w n_width n_from n_to n_load n_group n_budget n_columns n_rows n_limit n_wear n_straps n_pads n_lines) (ha : 0 ≤ n_asz ∧ n_asz ≤ 20) : XMet g yX0_year cX0_year 3 (some .int) (8) 1 1 [.ref (σ 0)] (wX g σ x_tape x_taped x_faultKind x_faultPlace x_bestStarved x_bestMost x_bestWhole x_draws x_left x_mosts x_widened x_drawn x_img n_width n_from n_to n_load n_group n_budget n_columns n_rows n_limit n_wear n_straps n_pads n_lines n_mod n_asz n_el i_width i_load i_pads i_reached i_place i_table i_drop i_size i_whole t_width t_load t_pads t_reached t_place t_table t_drop t_size t_whole ++ ex) (pI (fun z ww => if 0 < w 4 then (if n_asz = 20 then z = -5 ∧ PubX g σ ex x_tape x_taped x_faultKind x_faultPlace x_img n_width n_from n_to n_load n_group n_budget n_columns n_rows n_limit n_wear n_straps n_pads n_lines n_mod n_asz n_el ww else z = wYr w ∧ ∃ (c : Nat) (nw : Int → Int), (∀ k, 0 ≤ k → k < 12 → nw k = wAge w (28 + k)) ∧ PubX g σ ((c, .inr (9, [.int (jI (wWe w))])) :: ex) x_tape x_taped x_faultKind x_faultPlace x_img (nw) n_from n_to n_load n_group n_budget n_columns n_rows n_limit n_wear n_straps n_pads n_lines (n_mod + 1) (n_asz + 1) (va_up n_el n_asz.toNat (some c)) ww) else z = -2 ∧ PubX g σ ex x_tape x_taped x_faultKind x_faultPlace x_img n_width n_from n_to n_load n_group n_budget n_columns n_rows n_limit n_wear n_straps n_pads n_lines n_mod n_asz n_el ww)) := by
  refine XMet.of (L := [some (.ref (σ 0)), none, none]) hG (by decide +kernel) (Nat.le_of_ble_eq_true rfl) rfl (fun K C E => ?_)
  refine r_aload_0 C dX0_year_0 ?_
  refine gG_now C q346 dX0_year_1 ?_
  refine r_cV0i C (c_X1_is hG hW.inR4) (q0 := 7) rfl rfl q696 pkX1_is dX0_year_4 (fun z w h => ?_)
  obtain ⟨rfl, rfl⟩ := h
  refine r_ifneB (tgt := 13) C dX0_year_7 (by decide) (fun c_7 => ?_) (fun c_7 => ?_)
  · skip
    refine r_aload_0 C dX0_year_13 ?_
    refine r_cV0i C (c_X0_isFull hG ha) (q0 := 0) rfl rfl q1156 pkX0_isFull dX0_year_14 (fun z w h => ?_)
    obtain ⟨rfl, rfl⟩ := h
    refine r_ifeqB (tgt := 23) C dX0_year_17 (by decide) (fun c_17 => ?_) (fun c_17 => ?_)
    · skip
      rw [hW.ln] at c_7
      have hd := hW.wf.gd4 c_7
      have hs := hd.s
      have hwe := wWe_in hd
      refine r_aload_0 C dX0_year_23 ?_
      refine r_cV0a C (c_X0_solved hG hd hW) (q0 := 0) rfl rfl q700 pkX0_solved dX0_year_24 (fun z w h => ?_)
      obtain ⟨rfl, sw, sl, pl, tb, dr, hX, hS, rfl⟩ := h
      refine r_cV0i C (c_X4_wearing_I hG hd (hW.nb hd) hX.1 rfl rfl hS.2.2.2.2.1) (q0 := 16) rfl rfl q895 pkX4_wearing dX0_year_27 (fun z w h => ?_)
      obtain ⟨rfl, rfl⟩ := h
      refine r_istore_1 C dX0_year_30 ?_
      skip
      have key : ∀ (mm : Nat), ∀ (k : Int) (nw : Int → Int), (0 ≤ k) → (k ≤ wS w) → (∀ j, 0 ≤ j → j < k → nw j = wAge w (28 + j)) → (∀ j, k ≤ j → j < 12 → nw j = w (28 + j)) → (wS w - k).toNat = mm → AW g K (wX g σ x_tape x_taped x_faultKind x_faultPlace x_bestStarved x_bestMost x_bestWhole x_draws x_left x_mosts x_widened x_drawn x_img (nw) n_from n_to n_load n_group n_budget n_columns n_rows n_limit n_wear n_straps n_pads n_lines n_mod n_asz n_el (sw) (sl) (n_pads) (wR w) (pl) (tb) (dr) (wm w) (wWh w) t_width t_load t_pads t_reached t_place t_table t_drop t_size t_whole ++ ex) 1 1 33 [some (.ref (σ 0)), some (.int (jI (wWe w))), some (.int (jI k))] [] := by
        intro mm
        induction mm using Nat.strongRecOn with
        | _ mm ih =>
        intro k nw hk0 hk h1 h2 hm
        refine r_iload_2 C dX0_year_33 ?_
        refine r_aload_0 C dX0_year_34 ?_
        refine gG_now C q346 dX0_year_35 ?_
        refine gTN_straps C q239 dX0_year_38 ?_
        refine r_topi (wS w) (hW.s hd) ?_
        refine r_if_icmpge (tgt := 75) C dX0_year_41 (by decide) (fun c_41 => ?_) (fun c_41 => ?_)
        · skip
          refine r_aload_0 C dX0_year_75 ?_
          refine gG_now C q346 dX0_year_76 ?_
          refine gTN_acts C q217 dX0_year_79 ?_
          have ek : k = wS w := by omega
          subst ek
          have hall : ∀ j, 0 ≤ j → j < 12 → nw j = wAge w (28 + j) := fun j a b => by
            by_cases e : j < wS w
            · exact h1 j a e
            · rw [wAge_hi (by omega)]; exact h2 j (by omega) b
          refine r_new C in_X11 tyX11_ok q1265 q1266 q146 (ci := 9) (fs := [.int 0]) rfl (fun j hj => by rcases (show j = 0 by omega) with rfl; rfl) dX0_year_82 (fun c => ?_)
          refine r_dup C dX0_year_85 ?_
          refine r_iload_1 C dX0_year_86 ?_
          refine AW.perm List.perm_middle ?_
          refine r_callI C (c_X11_init hG) q1267 pkX11_init (by decide) (Nat.zero_le _) (Nat.zero_le _) rfl (Nat.le_of_ble_eq_true rfl) dX0_year_87 (fun r ww h => ?_)
          obtain ⟨rfl, rfl⟩ := h
          refine AW.perm List.perm_middle.symm ?_
          refine r_cV1i C (c_A_add (qk := 0) hG ha.1 (by omega) (nw_in q2112 rfl) rfl rfl) (q0 := 14) rfl rfl q1174 pkJ2_add dX0_year_90 (fun z ww h => ?_)
          obtain ⟨rfl, rfl⟩ := h
          refine r_pop C dX0_year_93 ?_
          refine r_iload_1 C dX0_year_94 ?_
          refine r_cS1i C (c_J10_bitCount hG hwe.1 hwe.2) q1029 pkJ10_bitCount dX0_year_95 (fun z w h => ?_)
          obtain ⟨rfl, rfl⟩ := h
          refine r_ireturn C E dX0_year_98 ?_
          refine ⟨_, rfl, ?_⟩
          show @ite _ _ _ _ _
          rw [if_pos c_7, if_neg c_17, pc12_yr hd]
          exact ⟨rfl, c, nw, hall, PubX.mk⟩
        · skip
          have hwk := hd.wd k hk0 (by omega)
          unfold wWd at hwk
          have hnk := h2 k (Int.le_refl _) (by omega)
          have hag := wAge_at hd hk0 c_41
          refine r_aload_0 C dX0_year_44 ?_
          refine gG_now C q346 dX0_year_45 ?_
          refine gTN_width C q196 dX0_year_48 ?_
          refine r_iload_2 C dX0_year_51 ?_
          refine r_dup2 C dX0_year_52 ?_
          refine ld_n_width C dX0_year_53 ?_
          refine r_topi (w (28 + k)) hnk ?_
          refine r_iload_1 C dX0_year_54 ?_
          refine r_iload_2 C dX0_year_55 ?_
          refine r_cS2i C (c_X0_isOn hG (by omega) (by omega)) q778 pkX0_isOn dX0_year_56 (fun z w h => ?_)
          obtain ⟨rfl, rfl⟩ := h
          refine r_ifeqB (tgt := 66) C dX0_year_59 (by decide) (fun c_59 => ?_) (fun c_59 => ?_)
          · skip
            refine r_iconst C dX0_year_66 ?_
            refine r_isub C dX0_year_67 ?_
            refine st_n_width C dX0_year_68 ?_
            refine r_iinc_2 C dX0_year_69 ?_
            refine r_goto (tgt := 33) C dX0_year_72 (by decide) ?_
            refine ih _ (show (wS w - (k + 1)).toNat < mm by omega) (k + 1) _ (by omega) (by omega) (fun j a b => ?_) (fun j a b => ?_) rfl
            · by_cases ej : j = k
              · rw [ej, aset_at, hag]
                first
                  | rw [if_pos c_59]
                  | (rw [if_neg c_59]; omega)
              · rw [aset_ne ej]; exact h1 j a (by omega)
            · rw [aset_ne (by omega)]; exact h2 j (by omega) b
          · skip
            refine r_iconst C dX0_year_62 ?_
            refine r_goto (tgt := 67) C dX0_year_63 (by decide) ?_
            refine r_isub C dX0_year_67 ?_
            refine st_n_width C dX0_year_68 ?_
            refine r_iinc_2 C dX0_year_69 ?_
            refine r_goto (tgt := 33) C dX0_year_72 (by decide) ?_
            refine ih _ (show (wS w - (k + 1)).toNat < mm by omega) (k + 1) _ (by omega) (by omega) (fun j a b => ?_) (fun j a b => ?_) rfl
            · by_cases ej : j = k
              · rw [ej, aset_at, hag]
                first
                  | rw [if_pos c_59]
                  | (rw [if_neg c_59]; omega)
              · rw [aset_ne ej]; exact h1 j a (by omega)
            · rw [aset_ne (by omega)]; exact h2 j (by omega) b
      refine r_iconst C dX0_year_31 ?_
      refine r_istore_2 C dX0_year_32 ?_
      exact key _ 0 _ (by omega) (by omega) (fun j _ _ => by omega) (fun j a b => hW.wd j a b) rfl
    · skip
      refine r_bipush C dX0_year_20 ?_
      refine r_ireturn C E dX0_year_22 ?_
      rw [hW.ln] at c_7
      refine ⟨_, rfl, ?_⟩
      show @ite _ _ _ _ _
      rw [if_pos c_7, if_pos c_17]
      exact ⟨rfl, PubX.mk⟩
  · skip
    refine r_bipush C dX0_year_10 ?_
    refine r_ireturn C E dX0_year_12 ?_
    rw [hW.ln] at c_7
    refine ⟨_, rfl, ?_⟩
    show @ite _ _ _ _ _
    rw [if_neg c_7]
    exact ⟨rfl, PubX.mk⟩
end X12

