section X5
variable {g : GX} {σ : Nat → Nat} {ex : va_W}
variable {x_tape : Int → Int} {x_taped : Int} {x_faultKind : Int} {x_faultPlace : Int} {x_bestStarved : Int} {x_bestMost : Int} {x_bestWhole : Int} {x_draws : Int → Int} {x_left : Int → Int} {x_mosts : Int → Int} {x_widened : Int → Int} {x_drawn : Int} {x_img : Nat → Option Nat} {n_width : Int → Int} {n_from : Int → Int} {n_to : Int → Int} {n_load : Int → Int} {n_group : Int → Int} {n_budget : Int → Int} {n_columns : Int} {n_rows : Int} {n_limit : Int} {n_wear : Int} {n_straps : Int} {n_pads : Int} {n_lines : Int} {n_mod : Int} {n_asz : Int} {n_el : Nat → Option Nat} {i_width : Int → Int} {i_load : Int → Int} {i_pads : Int} {i_reached : Int} {i_place : Int → Int} {i_table : Int → Int} {i_drop : Int → Int} {i_size : Int} {i_whole : Int} {t_width : Int → Int} {t_load : Int → Int} {t_pads : Int} {t_reached : Int} {t_place : Int → Int} {t_table : Int → Int} {t_drop : Int → Int} {t_size : Int} {t_whole : Int}
theorem c_J2_size (hG : Gok g)  : XMet g yJ2_size cJ2_size 1 (some .int) (0) 0 0 [.ref (σ 14)] (wX g σ x_tape x_taped x_faultKind x_faultPlace x_bestStarved x_bestMost x_bestWhole x_draws x_left x_mosts x_widened x_drawn x_img n_width n_from n_to n_load n_group n_budget n_columns n_rows n_limit n_wear n_straps n_pads n_lines n_mod n_asz n_el i_width i_load i_pads i_reached i_place i_table i_drop i_size i_whole t_width t_load t_pads t_reached t_place t_table t_drop t_size t_whole ++ ex) (pI (fun z w => z = n_asz ∧ w = (wX g σ x_tape x_taped x_faultKind x_faultPlace x_bestStarved x_bestMost x_bestWhole x_draws x_left x_mosts x_widened x_drawn x_img n_width n_from n_to n_load n_group n_budget n_columns n_rows n_limit n_wear n_straps n_pads n_lines n_mod n_asz n_el i_width i_load i_pads i_reached i_place i_table i_drop i_size i_whole t_width t_load t_pads t_reached t_place t_table t_drop t_size t_whole ++ ex))) := by
  refine XMet.of (L := [some (.ref (σ 14))]) hG (by decide +kernel) (Nat.le_of_ble_eq_true rfl) rfl (fun K C E => ?_)
  refine r_aload_0 C dJ2_size_0 ?_
  refine gA_size C q179 dJ2_size_1 ?_
  refine r_ireturn C E dJ2_size_4 ?_
  exact ⟨_, rfl, rfl, rfl⟩
theorem c_X0_solved (hG : Gok g) {w : Int → Int} (hd : Gd w) (hW : NW w n_width n_from n_to n_load n_group n_budget n_columns n_rows n_limit n_wear n_straps n_pads n_lines) : XMet g yX0_solved cX0_solved 1 (some (.object "SupplyGrid$Solved")) (4) 0 0 [.ref (σ 0)] (wX g σ x_tape x_taped x_faultKind x_faultPlace x_bestStarved x_bestMost x_bestWhole x_draws x_left x_mosts x_widened x_drawn x_img n_width n_from n_to n_load n_group n_budget n_columns n_rows n_limit n_wear n_straps n_pads n_lines n_mod n_asz n_el i_width i_load i_pads i_reached i_place i_table i_drop i_size i_whole t_width t_load t_pads t_reached t_place t_table t_drop t_size t_whole ++ ex) (pA (fun a ww => a = σ 16 ∧ ∃ sw sl pl tb dr, SX w sw sl n_pads ∧ SS w (wR w) pl tb dr (wm w) (wWh w) ∧ ww = (wX g σ x_tape x_taped x_faultKind x_faultPlace x_bestStarved x_bestMost x_bestWhole x_draws x_left x_mosts x_widened x_drawn x_img n_width n_from n_to n_load n_group n_budget n_columns n_rows n_limit n_wear n_straps n_pads n_lines n_mod n_asz n_el (sw) (sl) (n_pads) (wR w) (pl) (tb) (dr) (wm w) (wWh w) t_width t_load t_pads t_reached t_place t_table t_drop t_size t_whole ++ ex))) := by
  refine XMet.of (L := [some (.ref (σ 0))]) hG (by decide +kernel) (Nat.le_of_ble_eq_true rfl) rfl (fun K C E => ?_)
  refine r_aload_0 C dX0_solved_0 ?_
  refine gG_is C q352 dX0_solved_1 ?_
  refine r_cU0v C (c_X3_takes_I hG) (q0 := 16) rfl rfl q704 pkU_X3_takes dX0_solved_4 (fun w h => ?_)
  subst h
  refine r_aload_0 C dX0_solved_7 ?_
  refine gG_is C q352 dX0_solved_8 ?_
  refine r_cV0a C (c_X4_solves_I hG hd (hW.nb hd) hW.sx) (q0 := 16) rfl rfl q713 pkX4_solves dX0_solved_11 (fun z w h => ?_)
  obtain ⟨rfl, pl, tb, dr, hS, rfl⟩ := h
  refine r_areturn C E (Or.inl ⟨_, rfl⟩) dX0_solved_14 ?_
  exact ⟨_, rfl, rfl, _, _, pl, tb, dr, hW.sx, hS, rfl⟩
theorem c_X0_count (hG : Gok g) {q : Int} {w : Int → Int} (hq : inR q) (hW : NW w n_width n_from n_to n_load n_group n_budget n_columns n_rows n_limit n_wear n_straps n_pads n_lines) : XMet g yX0_count cX0_count 2 (some .int) (5) 0 0 [.ref (σ 0), .int (jI q)] (wX g σ x_tape x_taped x_faultKind x_faultPlace x_bestStarved x_bestMost x_bestWhole x_draws x_left x_mosts x_widened x_drawn x_img n_width n_from n_to n_load n_group n_budget n_columns n_rows n_limit n_wear n_straps n_pads n_lines n_mod n_asz n_el i_width i_load i_pads i_reached i_place i_table i_drop i_size i_whole t_width t_load t_pads t_reached t_place t_table t_drop t_size t_whole ++ ex) (pI (fun z ww => z = spCount w n_asz x_taped q ∧ PubX g σ ex x_tape x_taped x_faultKind x_faultPlace x_img n_width n_from n_to n_load n_group n_budget n_columns n_rows n_limit n_wear n_straps n_pads n_lines n_mod n_asz n_el ww)) := by
  refine XMet.of (L := [some (.ref (σ 0)), some (.int (jI q))]) hG (by decide +kernel) (Nat.le_of_ble_eq_true rfl) rfl (fun K C E => ?_)
  refine r_iload_1 C dX0_count_0 ?_
  refine r_tsC 0 0 (tgt := 56) C dX0_count_1 rfl (by decide) rfl (by decide) (fun e_1 => ?_) (fun n_1_0 => ?_)
  · skip
    refine r_aload_0 C dX0_count_56 ?_
    refine gG_now C q346 dX0_count_57 ?_
    refine gTN_columns C q222 dX0_count_60 ?_
    refine r_ireturn C E dX0_count_63 ?_
    exact ⟨_, rfl, by subst e_1; simp [spCount, hW.c], PubX.mk⟩
  refine r_tsC 1 1 (tgt := 64) C dX0_count_1 rfl (by decide) rfl (by decide) (fun e_1 => ?_) (fun n_1_1 => ?_)
  · skip
    refine r_aload_0 C dX0_count_64 ?_
    refine gG_now C q346 dX0_count_65 ?_
    refine gTN_rows C q226 dX0_count_68 ?_
    refine r_ireturn C E dX0_count_71 ?_
    exact ⟨_, rfl, by subst e_1; simp [spCount, hW.r], PubX.mk⟩
  refine r_tsC 2 2 (tgt := 72) C dX0_count_1 rfl (by decide) rfl (by decide) (fun e_1 => ?_) (fun n_1_2 => ?_)
  · skip
    refine r_aload_0 C dX0_count_72 ?_
    refine gG_now C q346 dX0_count_73 ?_
    refine gTN_limit C q230 dX0_count_76 ?_
    refine r_ireturn C E dX0_count_79 ?_
    exact ⟨_, rfl, by subst e_1; simp [spCount, hW.lim], PubX.mk⟩
  refine r_tsC 3 3 (tgt := 80) C dX0_count_1 rfl (by decide) rfl (by decide) (fun e_1 => ?_) (fun n_1_3 => ?_)
  · skip
    refine r_aload_0 C dX0_count_80 ?_
    refine gG_now C q346 dX0_count_81 ?_
    refine gTN_wear C q234 dX0_count_84 ?_
    refine r_ireturn C E dX0_count_87 ?_
    exact ⟨_, rfl, by subst e_1; simp [spCount, hW.we], PubX.mk⟩
  refine r_tsC 4 4 (tgt := 88) C dX0_count_1 rfl (by decide) rfl (by decide) (fun e_1 => ?_) (fun n_1_4 => ?_)
  · skip
    refine r_aload_0 C dX0_count_88 ?_
    refine gG_now C q346 dX0_count_89 ?_
    refine gTN_straps C q239 dX0_count_92 ?_
    refine r_ireturn C E dX0_count_95 ?_
    exact ⟨_, rfl, by subst e_1; simp [spCount, hW.st], PubX.mk⟩
  refine r_tsC 5 5 (tgt := 96) C dX0_count_1 rfl (by decide) rfl (by decide) (fun e_1 => ?_) (fun n_1_5 => ?_)
  · skip
    refine r_aload_0 C dX0_count_96 ?_
    refine gG_now C q346 dX0_count_97 ?_
    refine gTN_acts C q217 dX0_count_100 ?_
    refine r_cV0i C (c_J2_size hG) (q0 := 14) rfl rfl q692 pkJ2_size dX0_count_103 (fun z w h => ?_)
    obtain ⟨rfl, rfl⟩ := h
    refine r_ireturn C E dX0_count_106 ?_
    exact ⟨_, rfl, by subst e_1; simp [spCount], PubX.mk⟩
  refine r_tsC 6 6 (tgt := 107) C dX0_count_1 rfl (by decide) rfl (by decide) (fun e_1 => ?_) (fun n_1_6 => ?_)
  · skip
    refine r_aload_0 C dX0_count_107 ?_
    refine gG_now C q346 dX0_count_108 ?_
    refine gTN_lines C q246 dX0_count_111 ?_
    refine r_ireturn C E dX0_count_114 ?_
    exact ⟨_, rfl, by subst e_1; simp [spCount, hW.ln], PubX.mk⟩
  refine r_tsC 7 7 (tgt := 115) C dX0_count_1 rfl (by decide) rfl (by decide) (fun e_1 => ?_) (fun n_1_7 => ?_)
  · skip
    refine r_aload_0 C dX0_count_115 ?_
    refine gG_taped C q349 dX0_count_116 ?_
    refine r_ireturn C E dX0_count_119 ?_
    exact ⟨_, rfl, by subst e_1; simp [spCount], PubX.mk⟩
  refine r_tsC 8 8 (tgt := 120) C dX0_count_1 rfl (by decide) rfl (by decide) (fun e_1 => ?_) (fun n_1_8 => ?_)
  · skip
    refine r_aload_0 C dX0_count_120 ?_
    refine gG_now C q346 dX0_count_121 ?_
    refine gTN_pads C q244 dX0_count_124 ?_
    refine r_ireturn C E dX0_count_127 ?_
    exact ⟨_, rfl, by subst e_1; simp [spCount, hW.pd], PubX.mk⟩
  refine r_tsC 9 9 (tgt := 128) C dX0_count_1 rfl (by decide) rfl (by decide) (fun e_1 => ?_) (fun n_1_9 => ?_)
  · skip
    refine r_aload_0 C dX0_count_128 ?_
    refine gG_now C q346 dX0_count_129 ?_
    refine r_cV0i C (c_X1_is hG hW.inR4) (q0 := 7) rfl rfl q696 pkX1_is dX0_count_132 (fun z w h => ?_)
    obtain ⟨rfl, rfl⟩ := h
    refine r_ifeqB (tgt := 148) C dX0_count_135 (by decide) (fun c_135 => ?_) (fun c_135 => ?_)
    · skip
      refine r_iconst C dX0_count_148 ?_
      refine r_ireturn C E dX0_count_149 ?_
      refine ⟨_, rfl, ?_, PubX.mk⟩
      subst e_1
      first
        | (simp [spCount, c_135]; done)
        | (rw [hW.ln] at c_135; simp [spCount, c_135]; done)
    · skip
      rw [hW.ln] at c_135
      have hd := hW.wf.gd4 c_135
      refine r_aload_0 C dX0_count_138 ?_
      refine r_cV0a C (c_X0_solved hG hd hW) (q0 := 0) rfl rfl q700 pkX0_solved dX0_count_139 (fun z w h => ?_)
      obtain ⟨rfl, sw, sl, pl, tb, dr, hX, hS, rfl⟩ := h
      refine r_cV0i C (c_X4_dead_I hG hd (hW.nb hd) rfl) (q0 := 16) rfl rfl q748 pkX4_dead dX0_count_142 (fun z w h => ?_)
      obtain ⟨rfl, rfl⟩ := h
      refine r_goto (tgt := 149) C dX0_count_145 (by decide) ?_
      refine r_ireturn C E dX0_count_149 ?_
      refine ⟨_, rfl, ?_, PubX.mk⟩
      subst e_1
      first
        | (simp [spCount, c_135]; done)
        | (rw [hW.ln] at c_135; simp [spCount, c_135]; done)
  refine r_tsO (tgt := 150) C dX0_count_1 (by omega) (by decide) ?_
  refine r_iconst C dX0_count_150 ?_
  refine r_ireturn C E dX0_count_151 ?_
  exact ⟨_, rfl, by simp [spCount, *], PubX.mk⟩
theorem c_X0_strap (hG : Gok g) {k q : Int} {w : Int → Int} (hk : inR k) (hq : inR q) (hW : NW w n_width n_from n_to n_load n_group n_budget n_columns n_rows n_limit n_wear n_straps n_pads n_lines) : XMet g yX0_strap cX0_strap 3 (some .int) (3) 0 0 [.ref (σ 0), .int (jI k), .int (jI q)] (wX g σ x_tape x_taped x_faultKind x_faultPlace x_bestStarved x_bestMost x_bestWhole x_draws x_left x_mosts x_widened x_drawn x_img n_width n_from n_to n_load n_group n_budget n_columns n_rows n_limit n_wear n_straps n_pads n_lines n_mod n_asz n_el i_width i_load i_pads i_reached i_place i_table i_drop i_size i_whole t_width t_load t_pads t_reached t_place t_table t_drop t_size t_whole ++ ex) (pI (fun z ww => z = spStrap w k q ∧ PubX g σ ex x_tape x_taped x_faultKind x_faultPlace x_img n_width n_from n_to n_load n_group n_budget n_columns n_rows n_limit n_wear n_straps n_pads n_lines n_mod n_asz n_el ww)) := by
  refine XMet.of (L := [some (.ref (σ 0)), some (.int (jI k)), some (.int (jI q))]) hG (by decide +kernel) (Nat.le_of_ble_eq_true rfl) rfl (fun K C E => ?_)
  refine r_aload_0 C dX0_strap_0 ?_
  refine r_iload_1 C dX0_strap_1 ?_
  refine r_cV1i C (c_X0_isStrap hG hk hW.st hW.wf) (q0 := 0) rfl rfl q756 pkX0_isStrap dX0_strap_2 (fun z w h => ?_)
  obtain ⟨rfl, rfl⟩ := h
  refine r_ifneB (tgt := 10) C dX0_strap_5 (by decide) (fun c_5 => ?_) (fun c_5 => ?_)
  · skip
    have hd := hW.wf.gdk c_5
    have hkk := isKb_in c_5
    have hs := hd.s
    have hek := hW.en hd.l.1 k hkk.1 hkk.2
    have hwk := hW.wd k hkk.1 (by omega)
    refine r_iload_2 C dX0_strap_10 ?_
    refine r_ifne (tgt := 26) C dX0_strap_11 (by decide) (fun c_11 => ?_) (fun c_11 => ?_)
    · skip
      refine r_iload_2 C dX0_strap_26 ?_
      refine r_iconst C dX0_strap_27 ?_
      refine r_if_icmpne (tgt := 43) C dX0_strap_28 (by decide) (fun c_28 => ?_) (fun c_28 => ?_)
      · skip
        refine r_iload_2 C dX0_strap_43 ?_
        refine r_iconst C dX0_strap_44 ?_
        refine r_if_icmpne (tgt := 60) C dX0_strap_45 (by decide) (fun c_45 => ?_) (fun c_45 => ?_)
        · skip
          refine r_iconst C dX0_strap_60 ?_
          refine r_ireturn C E dX0_strap_61 ?_
          refine ⟨_, rfl, ?_, PubX.mk⟩
          unfold spStrap
          rw [if_pos c_5]
          first
            | rw [if_pos c_11, hek.1]
            | rw [if_neg c_11, if_pos c_28, hek.2]
            | rw [if_neg c_11, if_neg c_28, if_pos c_45, hwk]
            | rw [if_neg c_11, if_neg c_28, if_neg c_45]
        · skip
          refine r_aload_0 C dX0_strap_48 ?_
          refine gG_now C q346 dX0_strap_49 ?_
          refine gTN_width C q196 dX0_strap_52 ?_
          refine r_iload_1 C dX0_strap_55 ?_
          refine ld_n_width C dX0_strap_56 ?_
          refine r_goto (tgt := 61) C dX0_strap_57 (by decide) ?_
          refine r_ireturn C E dX0_strap_61 ?_
          refine ⟨_, rfl, ?_, PubX.mk⟩
          unfold spStrap
          rw [if_pos c_5]
          first
            | rw [if_pos c_11, hek.1]
            | rw [if_neg c_11, if_pos c_28, hek.2]
            | rw [if_neg c_11, if_neg c_28, if_pos c_45, hwk]
            | rw [if_neg c_11, if_neg c_28, if_neg c_45]
      · skip
        refine r_aload_0 C dX0_strap_31 ?_
        refine gG_now C q346 dX0_strap_32 ?_
        refine gTN_to C q204 dX0_strap_35 ?_
        refine r_iload_1 C dX0_strap_38 ?_
        refine ld_n_to C dX0_strap_39 ?_
        refine r_goto (tgt := 61) C dX0_strap_40 (by decide) ?_
        refine r_ireturn C E dX0_strap_61 ?_
        refine ⟨_, rfl, ?_, PubX.mk⟩
        unfold spStrap
        rw [if_pos c_5]
        first
          | rw [if_pos c_11, hek.1]
          | rw [if_neg c_11, if_pos c_28, hek.2]
          | rw [if_neg c_11, if_neg c_28, if_pos c_45, hwk]
          | rw [if_neg c_11, if_neg c_28, if_neg c_45]
    · skip
      refine r_aload_0 C dX0_strap_14 ?_
      refine gG_now C q346 dX0_strap_15 ?_
      refine gTN_from C q200 dX0_strap_18 ?_
      refine r_iload_1 C dX0_strap_21 ?_
      refine ld_n_from C dX0_strap_22 ?_
      refine r_goto (tgt := 61) C dX0_strap_23 (by decide) ?_
      refine r_ireturn C E dX0_strap_61 ?_
      refine ⟨_, rfl, ?_, PubX.mk⟩
      unfold spStrap
      rw [if_pos c_5]
      first
        | rw [if_pos c_11, hek.1]
        | rw [if_neg c_11, if_pos c_28, hek.2]
        | rw [if_neg c_11, if_neg c_28, if_pos c_45, hwk]
        | rw [if_neg c_11, if_neg c_28, if_neg c_45]
  · skip
    refine r_iconst C dX0_strap_8 ?_
    refine r_ireturn C E dX0_strap_9 ?_
    exact ⟨_, rfl, by simp [spStrap, c_5], PubX.mk⟩
theorem c_X0_between (hG : Gok g) {a b : Int} {w : Int → Int} (ha : inR a) (hb : inR b) (hW : NW w n_width n_from n_to n_load n_group n_budget n_columns n_rows n_limit n_wear n_straps n_pads n_lines) : XMet g yX0_between cX0_between 3 (some .int) (3) 0 0 [.ref (σ 0), .int (jI a), .int (jI b)] (wX g σ x_tape x_taped x_faultKind x_faultPlace x_bestStarved x_bestMost x_bestWhole x_draws x_left x_mosts x_widened x_drawn x_img n_width n_from n_to n_load n_group n_budget n_columns n_rows n_limit n_wear n_straps n_pads n_lines n_mod n_asz n_el i_width i_load i_pads i_reached i_place i_table i_drop i_size i_whole t_width t_load t_pads t_reached t_place t_table t_drop t_size t_whole ++ ex) (pI (fun z ww => z = spBetween w a b ∧ PubX g σ ex x_tape x_taped x_faultKind x_faultPlace x_img n_width n_from n_to n_load n_group n_budget n_columns n_rows n_limit n_wear n_straps n_pads n_lines n_mod n_asz n_el ww)) := by
  refine XMet.of (L := [some (.ref (σ 0)), some (.int (jI a)), some (.int (jI b))]) hG (by decide +kernel) (Nat.le_of_ble_eq_true rfl) rfl (fun K C E => ?_)
  have hn := hW.wf.n
  refine r_aload_0 C dX0_between_0 ?_
  refine r_iload_1 C dX0_between_1 ?_
  refine r_cV1i C (c_X0_isNode hG (by assumption) hW.c hW.r hn) (q0 := 0) rfl rfl q764 pkX0_isNode dX0_between_2 (fun z w h => ?_)
  obtain ⟨rfl, rfl⟩ := h
  refine r_ifeqB (tgt := 36) C dX0_between_5 (by decide) (fun c_5 => ?_) (fun c_5 => ?_)
  · skip
    refine r_bipush C dX0_between_36 ?_
    refine r_ireturn C E dX0_between_38 ?_
    refine ⟨_, rfl, ?_, PubX.mk⟩
    unfold spBetween
    first
      | (rw [c_5, c_13]; rfl)
      | (simp [c_5]; done)
      | (simp [c_13]; done)
  · skip
    refine r_aload_0 C dX0_between_8 ?_
    refine r_iload_2 C dX0_between_9 ?_
    refine r_cV1i C (c_X0_isNode hG (by assumption) hW.c hW.r hn) (q0 := 0) rfl rfl q764 pkX0_isNode dX0_between_10 (fun z w h => ?_)
    obtain ⟨rfl, rfl⟩ := h
    refine r_ifeqB (tgt := 36) C dX0_between_13 (by decide) (fun c_13 => ?_) (fun c_13 => ?_)
    · skip
      refine r_bipush C dX0_between_36 ?_
      refine r_ireturn C E dX0_between_38 ?_
      refine ⟨_, rfl, ?_, PubX.mk⟩
      unfold spBetween
      first
        | (rw [c_5, c_13]; rfl)
        | (simp [c_5]; done)
        | (simp [c_13]; done)
    · skip
      have hd := hW.wf.gdb c_5
      have ha2 := isNb_in c_5
      have hb2 := isNb_in c_13
      refine r_aload_0 C dX0_between_16 ?_
      refine gG_now C q346 dX0_between_17 ?_
      refine r_iload_1 C dX0_between_20 ?_
      refine r_iload_2 C dX0_between_21 ?_
      refine r_mmin C q769 dX0_between_22 ?_
      refine r_iload_1 C dX0_between_25 ?_
      refine r_iload_2 C dX0_between_26 ?_
      refine r_mmax C q770 dX0_between_27 ?_
      refine r_cV2i C (c_X1_strapOf hG (by unfold inR; split <;> omega) (by unfold inR; split <;> omega) hd.g (hW.s hd) (hW.en hd.l.1)) (q0 := 7) rfl rfl q773 pkX1_strapOf dX0_between_30 (fun z w h => ?_)
      obtain ⟨rfl, rfl⟩ := h
      refine r_goto (tgt := 38) C dX0_between_33 (by decide) ?_
      refine r_ireturn C E dX0_between_38 ?_
      refine ⟨_, rfl, ?_, PubX.mk⟩
      unfold spBetween
      first
        | (rw [c_5, c_13]; rfl)
        | (simp [c_5]; done)
        | (simp [c_13]; done)
theorem c_X0_node (hG : Gok g) {v q : Int} {w : Int → Int} (hv : inR v) (hq : inR q) (hW : NW w n_width n_from n_to n_load n_group n_budget n_columns n_rows n_limit n_wear n_straps n_pads n_lines) : XMet g yX0_node cX0_node 3 (some .int) (5) 0 0 [.ref (σ 0), .int (jI v), .int (jI q)] (wX g σ x_tape x_taped x_faultKind x_faultPlace x_bestStarved x_bestMost x_bestWhole x_draws x_left x_mosts x_widened x_drawn x_img n_width n_from n_to n_load n_group n_budget n_columns n_rows n_limit n_wear n_straps n_pads n_lines n_mod n_asz n_el i_width i_load i_pads i_reached i_place i_table i_drop i_size i_whole t_width t_load t_pads t_reached t_place t_table t_drop t_size t_whole ++ ex) (pI (fun z ww => z = spNode w v q ∧ PubX g σ ex x_tape x_taped x_faultKind x_faultPlace x_img n_width n_from n_to n_load n_group n_budget n_columns n_rows n_limit n_wear n_straps n_pads n_lines n_mod n_asz n_el ww)) := by
  refine XMet.of (L := [some (.ref (σ 0)), some (.int (jI v)), some (.int (jI q))]) hG (by decide +kernel) (Nat.le_of_ble_eq_true rfl) rfl (fun K C E => ?_)
  have hn := hW.wf.n
  refine r_aload_0 C dX0_node_0 ?_
  refine r_iload_1 C dX0_node_1 ?_
  refine r_cV1i C (c_X0_isNode hG (by assumption) hW.c hW.r hn) (q0 := 0) rfl rfl q764 pkX0_isNode dX0_node_2 (fun z w h => ?_)
  obtain ⟨rfl, rfl⟩ := h
  refine r_ifneB (tgt := 10) C dX0_node_5 (by decide) (fun c_5 => ?_) (fun c_5 => ?_)
  · skip
    have hd := hW.wf.gdb c_5
    have hvv := isNb_in c_5
    have hp := hd.p5
    have hr5 := hd.r
    have hl := hW.ld v hvv.1 (by omega)
    have hgr := hW.gr v hvv.1 (by omega)
    refine r_iload_2 C dX0_node_10 ?_
    refine r_tsC 0 0 (tgt := 40) C dX0_node_11 rfl (by decide) rfl (by decide) (fun e_11 => ?_) (fun n_11_0 => ?_)
    · skip
      refine r_aload_0 C dX0_node_40 ?_
      refine gG_now C q346 dX0_node_41 ?_
      refine gTN_pads C q244 dX0_node_44 ?_
      refine r_topi (w 5) hW.pd ?_
      refine r_iload_1 C dX0_node_47 ?_
      refine r_cS2i C (c_X0_isOn hG (by omega) (by omega)) q778 pkX0_isOn dX0_node_48 (fun z w h => ?_)
      obtain ⟨rfl, rfl⟩ := h
      refine r_ifeqB (tgt := 58) C dX0_node_51 (by decide) (fun c_51 => ?_) (fun c_51 => ?_)
      · skip
        refine r_iconst C dX0_node_58 ?_
        refine r_ireturn C E dX0_node_59 ?_
        exact ⟨_, rfl, by subst e_11; simp [spNode, *], PubX.mk⟩
      · skip
        refine r_iconst C dX0_node_54 ?_
        refine r_goto (tgt := 59) C dX0_node_55 (by decide) ?_
        refine r_ireturn C E dX0_node_59 ?_
        exact ⟨_, rfl, by subst e_11; simp [spNode, *], PubX.mk⟩
    refine r_tsC 1 1 (tgt := 60) C dX0_node_11 rfl (by decide) rfl (by decide) (fun e_11 => ?_) (fun n_11_1 => ?_)
    · skip
      refine r_aload_0 C dX0_node_60 ?_
      refine gG_now C q346 dX0_node_61 ?_
      refine gTN_load C q209 dX0_node_64 ?_
      refine r_iload_1 C dX0_node_67 ?_
      refine ld_n_load C dX0_node_68 ?_
      refine r_ireturn C E dX0_node_69 ?_
      exact ⟨_, rfl, by subst e_11; simp [spNode, *], PubX.mk⟩
    refine r_tsC 2 2 (tgt := 70) C dX0_node_11 rfl (by decide) rfl (by decide) (fun e_11 => ?_) (fun n_11_2 => ?_)
    · skip
      refine r_aload_0 C dX0_node_70 ?_
      refine gG_now C q346 dX0_node_71 ?_
      refine gTN_group C q212 dX0_node_74 ?_
      refine r_iload_1 C dX0_node_77 ?_
      refine ld_n_group C dX0_node_78 ?_
      refine r_ireturn C E dX0_node_79 ?_
      exact ⟨_, rfl, by subst e_11; simp [spNode, *], PubX.mk⟩
    refine r_tsC 3 3 (tgt := 80) C dX0_node_11 rfl (by decide) rfl (by decide) (fun e_11 => ?_) (fun n_11_3 => ?_)
    · skip
      refine r_aload_0 C dX0_node_80 ?_
      refine r_cV0a C (c_X0_solved hG hd hW) (q0 := 0) rfl rfl q700 pkX0_solved dX0_node_81 (fun z w h => ?_)
      obtain ⟨rfl, sw, sl, pl, tb, dr, hX, hS, rfl⟩ := h
      refine r_iload_1 C dX0_node_84 ?_
      refine r_cV1i C (c_X4_isLive_I hG hv hW.c hW.r hn (by omega)) (q0 := 16) rfl rfl q779 pkX4_isLive dX0_node_85 (fun z w h => ?_)
      obtain ⟨rfl, rfl⟩ := h
      refine r_ifeqB (tgt := 95) C dX0_node_88 (by decide) (fun c_88 => ?_) (fun c_88 => ?_)
      · skip
        refine r_iconst C dX0_node_95 ?_
        refine r_ireturn C E dX0_node_96 ?_
        refine ⟨_, rfl, ?_, PubX.mk⟩
        subst e_11
        rw [c_5, Bool.true_and] at c_88
        simp [spNode, *]
      · skip
        refine r_iconst C dX0_node_91 ?_
        refine r_goto (tgt := 96) C dX0_node_92 (by decide) ?_
        refine r_ireturn C E dX0_node_96 ?_
        refine ⟨_, rfl, ?_, PubX.mk⟩
        subst e_11
        rw [c_5, Bool.true_and] at c_88
        simp [spNode, *]
    refine r_tsO (tgt := 97) C dX0_node_11 (by omega) (by decide) ?_
    refine r_iconst C dX0_node_97 ?_
    refine r_ireturn C E dX0_node_98 ?_
    refine ⟨_, rfl, ?_, PubX.mk⟩
    unfold spNode
    rw [if_pos c_5, if_neg (by omega), if_neg (by omega), if_neg (by omega), if_neg (by omega)]
  · skip
    refine r_iconst C dX0_node_8 ?_
    refine r_ireturn C E dX0_node_9 ?_
    exact ⟨_, rfl, by simp [spNode, c_5], PubX.mk⟩
theorem c_X0_budget (hG : Gok g) {q : Int} {w : Int → Int} (hq : inR q) (hW : NW w n_width n_from n_to n_load n_group n_budget n_columns n_rows n_limit n_wear n_straps n_pads n_lines) : XMet g yX0_budget cX0_budget 2 (some .int) (1) 0 0 [.ref (σ 0), .int (jI q)] (wX g σ x_tape x_taped x_faultKind x_faultPlace x_bestStarved x_bestMost x_bestWhole x_draws x_left x_mosts x_widened x_drawn x_img n_width n_from n_to n_load n_group n_budget n_columns n_rows n_limit n_wear n_straps n_pads n_lines n_mod n_asz n_el i_width i_load i_pads i_reached i_place i_table i_drop i_size i_whole t_width t_load t_pads t_reached t_place t_table t_drop t_size t_whole ++ ex) (pI (fun z ww => z = spBudget w q ∧ PubX g σ ex x_tape x_taped x_faultKind x_faultPlace x_img n_width n_from n_to n_load n_group n_budget n_columns n_rows n_limit n_wear n_straps n_pads n_lines n_mod n_asz n_el ww)) := by
  refine XMet.of (L := [some (.ref (σ 0)), some (.int (jI q))]) hG (by decide +kernel) (Nat.le_of_ble_eq_true rfl) rfl (fun K C E => ?_)
  refine r_aload_0 C dX0_budget_0 ?_
  refine gG_now C q346 dX0_budget_1 ?_
  refine r_cV0i C (c_X1_is hG hW.inR4) (q0 := 7) rfl rfl q696 pkX1_is dX0_budget_4 (fun z w h => ?_)
  obtain ⟨rfl, rfl⟩ := h
  refine r_ifeqB (tgt := 34) C dX0_budget_7 (by decide) (fun c_7 => ?_) (fun c_7 => ?_)
  · skip
    refine r_iconst C dX0_budget_34 ?_
    refine r_ireturn C E dX0_budget_35 ?_
    refine ⟨_, rfl, ?_, PubX.mk⟩
    rw [hW.ln] at c_7
    unfold spBudget
    first
      | rw [if_pos (And.intro c_7 c_19), hW.bu c_7 q c_19.1 (by omega)]
      | rw [if_neg (fun z => c_7 z.1)]
      | rw [if_neg (fun z => c_19 z.2)]
  · skip
    refine r_iload_1 C dX0_budget_10 ?_
    refine r_i2l C dX0_budget_11 ?_
    refine r_lconst0 C dX0_budget_12 ?_
    refine r_ldc2 C 3 q794 dX0_budget_13 ?_
    refine r_cS3i C (c_X0_in hG (inR_L hq) (by unfold inL; omega) (by unfold inL; omega)) q403 pkX0_in dX0_budget_16 (fun z w h => ?_)
    obtain ⟨rfl, rfl⟩ := h
    refine r_ifeqB (tgt := 34) C dX0_budget_19 (by decide) (fun c_19 => ?_) (fun c_19 => ?_)
    · skip
      refine r_iconst C dX0_budget_34 ?_
      refine r_ireturn C E dX0_budget_35 ?_
      refine ⟨_, rfl, ?_, PubX.mk⟩
      rw [hW.ln] at c_7
      unfold spBudget
      first
        | rw [if_pos (And.intro c_7 c_19), hW.bu c_7 q c_19.1 (by omega)]
        | rw [if_neg (fun z => c_7 z.1)]
        | rw [if_neg (fun z => c_19 z.2)]
    · skip
      refine r_aload_0 C dX0_budget_22 ?_
      refine gG_now C q346 dX0_budget_23 ?_
      refine gTN_budget C q215 dX0_budget_26 ?_
      refine r_iload_1 C dX0_budget_29 ?_
      refine ld_n_budget C dX0_budget_30 ?_
      refine r_goto (tgt := 35) C dX0_budget_31 (by decide) ?_
      refine r_ireturn C E dX0_budget_35 ?_
      refine ⟨_, rfl, ?_, PubX.mk⟩
      rw [hW.ln] at c_7
      unfold spBudget
      first
        | rw [if_pos (And.intro c_7 c_19), hW.bu c_7 q c_19.1 (by omega)]
        | rw [if_neg (fun z => c_7 z.1)]
        | rw [if_neg (fun z => c_19 z.2)]
theorem c_X0_drop (hG : Gok g) {v p : Int} {w : Int → Int} (hv : inR v) (hp : inR p) (hW : NW w n_width n_from n_to n_load n_group n_budget n_columns n_rows n_limit n_wear n_straps n_pads n_lines) : XMet g yX0_drop cX0_drop 3 (some .long) (5) 0 0 [.ref (σ 0), .int (jI v), .int (jI p)] (wX g σ x_tape x_taped x_faultKind x_faultPlace x_bestStarved x_bestMost x_bestWhole x_draws x_left x_mosts x_widened x_drawn x_img n_width n_from n_to n_load n_group n_budget n_columns n_rows n_limit n_wear n_straps n_pads n_lines n_mod n_asz n_el i_width i_load i_pads i_reached i_place i_table i_drop i_size i_whole t_width t_load t_pads t_reached t_place t_table t_drop t_size t_whole ++ ex) (pL (fun z ww => z = spDrop w v p ∧ PubX g σ ex x_tape x_taped x_faultKind x_faultPlace x_img n_width n_from n_to n_load n_group n_budget n_columns n_rows n_limit n_wear n_straps n_pads n_lines n_mod n_asz n_el ww)) := by
  refine XMet.of (L := [some (.ref (σ 0)), some (.int (jI v)), some (.int (jI p))]) hG (by decide +kernel) (Nat.le_of_ble_eq_true rfl) rfl (fun K C E => ?_)
  have hn := hW.wf.n
  refine r_aload_0 C dX0_drop_0 ?_
  refine r_iload_1 C dX0_drop_1 ?_
  refine r_cV1i C (c_X0_isNode hG (by assumption) hW.c hW.r hn) (q0 := 0) rfl rfl q764 pkX0_isNode dX0_drop_2 (fun z w h => ?_)
  obtain ⟨rfl, rfl⟩ := h
  refine r_ifeqB (tgt := 15) C dX0_drop_5 (by decide) (fun c_5 => ?_) (fun c_5 => ?_)
  · skip
    refine r_ldc2 C (-2) q802 dX0_drop_15 ?_
    refine r_lreturn C E dX0_drop_18 ?_
    exact ⟨_, rfl, by simp [spDrop, *], PubX.mk⟩
  · skip
    refine r_iload_2 C dX0_drop_8 ?_
    refine r_cS1i C (c_X0_isPart hG hp) q799 pkX0_isPart dX0_drop_9 (fun z w h => ?_)
    obtain ⟨rfl, rfl⟩ := h
    refine r_ifneB (tgt := 19) C dX0_drop_12 (by decide) (fun c_12 => ?_) (fun c_12 => ?_)
    · skip
      have hd := hW.wf.gdb c_5
      have hvv := isNb_in c_5
      have hr5 := hd.r
      have hp5 := hd.p5
      have hdv := hd.dr hvv.1 hvv.2
      have hw := hd.who
      refine r_aload_0 C dX0_drop_19 ?_
      refine r_cV0a C (c_X0_solved hG hd hW) (q0 := 0) rfl rfl q700 pkX0_solved dX0_drop_20 (fun z w h => ?_)
      obtain ⟨rfl, sw, sl, pl, tb, dr, hX, hS, rfl⟩ := h
      refine r_iload_1 C dX0_drop_23 ?_
      refine r_cV1i C (c_X4_isLive_I hG hv hW.c hW.r hn (by omega)) (q0 := 16) rfl rfl q779 pkX4_isLive dX0_drop_24 (fun z w h => ?_)
      obtain ⟨rfl, rfl⟩ := h
      refine r_ifeqB (tgt := 53) C dX0_drop_27 (by decide) (fun c_27 => ?_) (fun c_27 => ?_)
      · skip
        refine r_ldc2 C (-1) q812 dX0_drop_53 ?_
        refine r_lreturn C E dX0_drop_56 ?_
        refine ⟨_, rfl, ?_, PubX.mk⟩
        rw [c_5, Bool.true_and] at c_27
        simp [spDrop, *]
      · skip
        refine r_aload_0 C dX0_drop_30 ?_
        refine gG_is C q352 dX0_drop_31 ?_
        refine gIN_drop C q295 dX0_drop_34 ?_
        refine r_iload_1 C dX0_drop_37 ?_
        refine ld_i_drop C dX0_drop_38 ?_
        refine r_topl (wDr w v) (hS.2.2.2.2.1 v hvv.1 hvv.2) ?_
        refine r_aload_0 C dX0_drop_39 ?_
        refine gG_is C q352 dX0_drop_40 ?_
        refine gIN_whole C q298 dX0_drop_43 ?_
        refine r_iload_2 C dX0_drop_46 ?_
        refine r_cS3l C (c_X0_part hG (by omega) (by omega) hp (by omega)) q803 pkX0_part dX0_drop_47 (fun z w h => ?_)
        obtain ⟨rfl, rfl⟩ := h
        refine r_goto (tgt := 56) C dX0_drop_50 (by decide) ?_
        refine r_lreturn C E dX0_drop_56 ?_
        refine ⟨_, rfl, ?_, PubX.mk⟩
        rw [c_5, Bool.true_and] at c_27
        simp [spDrop, *]
    · skip
      refine r_ldc2 C (-2) q802 dX0_drop_15 ?_
      refine r_lreturn C E dX0_drop_18 ?_
      exact ⟨_, rfl, by simp [spDrop, *], PubX.mk⟩
theorem c_X0_through (hG : Gok g) {k p : Int} {w : Int → Int} (hk : inR k) (hp : inR p) (hW : NW w n_width n_from n_to n_load n_group n_budget n_columns n_rows n_limit n_wear n_straps n_pads n_lines) : XMet g yX0_through cX0_through 5 (some .long) (5) 0 0 [.ref (σ 0), .int (jI k), .int (jI p)] (wX g σ x_tape x_taped x_faultKind x_faultPlace x_bestStarved x_bestMost x_bestWhole x_draws x_left x_mosts x_widened x_drawn x_img n_width n_from n_to n_load n_group n_budget n_columns n_rows n_limit n_wear n_straps n_pads n_lines n_mod n_asz n_el i_width i_load i_pads i_reached i_place i_table i_drop i_size i_whole t_width t_load t_pads t_reached t_place t_table t_drop t_size t_whole ++ ex) (pL (fun z ww => z = spThrough w k p ∧ PubX g σ ex x_tape x_taped x_faultKind x_faultPlace x_img n_width n_from n_to n_load n_group n_budget n_columns n_rows n_limit n_wear n_straps n_pads n_lines n_mod n_asz n_el ww)) := by
  refine XMet.of (L := [some (.ref (σ 0)), some (.int (jI k)), some (.int (jI p)), none, none]) hG (by decide +kernel) (Nat.le_of_ble_eq_true rfl) rfl (fun K C E => ?_)
  refine r_aload_0 C dX0_through_0 ?_
  refine r_iload_1 C dX0_through_1 ?_
  refine r_cV1i C (c_X0_isStrap hG hk hW.st hW.wf) (q0 := 0) rfl rfl q756 pkX0_isStrap dX0_through_2 (fun z w h => ?_)
  obtain ⟨rfl, rfl⟩ := h
  refine r_ifeqB (tgt := 15) C dX0_through_5 (by decide) (fun c_5 => ?_) (fun c_5 => ?_)
  · skip
    refine r_ldc2 C (-9223372036854775808) q817 dX0_through_15 ?_
    refine r_lreturn C E dX0_through_18 ?_
    exact ⟨_, rfl, by simp [spThrough, *], PubX.mk⟩
  · skip
    refine r_iload_2 C dX0_through_8 ?_
    refine r_cS1i C (c_X0_isPart hG hp) q799 pkX0_isPart dX0_through_9 (fun z w h => ?_)
    obtain ⟨rfl, rfl⟩ := h
    refine r_ifneB (tgt := 19) C dX0_through_12 (by decide) (fun c_12 => ?_) (fun c_12 => ?_)
    · skip
      have hd := hW.wf.gdk c_5
      have hkk := isKb_in c_5
      have hs := hd.s
      have hth := hd.th hkk.1 hkk.2
      rw [wTh_sl] at hth
      have hwk := hd.wd k hkk.1 (by omega)
      unfold wWd at hwk
      have hw := hd.who
      refine r_aload_0 C dX0_through_19 ?_
      refine r_cV0a C (c_X0_solved hG hd hW) (q0 := 0) rfl rfl q700 pkX0_solved dX0_through_20 (fun z w h => ?_)
      obtain ⟨rfl, sw, sl, pl, tb, dr, hX, hS, rfl⟩ := h
      refine r_iload_1 C dX0_through_23 ?_
      refine r_cV1l C (c_X4_slope_I hG hd (hW.nb hd) hX.1 rfl hS.2.2.2.2.1 hkk) (q0 := 16) rfl rfl q818 pkX4_slope dX0_through_24 (fun z w h => ?_)
      obtain ⟨rfl, rfl⟩ := h
      refine r_aload_0 C dX0_through_27 ?_
      refine gG_now C q346 dX0_through_28 ?_
      refine gTN_width C q196 dX0_through_31 ?_
      refine r_iload_1 C dX0_through_34 ?_
      refine ld_n_width C dX0_through_35 ?_
      refine r_topi (w (28 + k)) (hW.wd k hkk.1 (by omega)) ?_
      refine r_i2l C dX0_through_36 ?_
      refine r_lmul C dX0_through_37 ?_
      refine r_lstore_3 C dX0_through_38 ?_
      refine r_lload_3 C dX0_through_39 ?_
      refine r_aload_0 C dX0_through_40 ?_
      refine gG_is C q352 dX0_through_41 ?_
      refine gIN_whole C q298 dX0_through_44 ?_
      refine r_iload_2 C dX0_through_47 ?_
      refine r_cS3l C (c_X0_part hG (by omega) (by omega) hp (by omega)) q803 pkX0_part dX0_through_48 (fun z w h => ?_)
      obtain ⟨rfl, rfl⟩ := h
      refine r_lreturn C E dX0_through_51 ?_
      exact ⟨_, rfl, by simp [spThrough, wTh_sl, c_5, c_12], PubX.mk⟩
    · skip
      refine r_ldc2 C (-9223372036854775808) q817 dX0_through_15 ?_
      refine r_lreturn C E dX0_through_18 ?_
      exact ⟨_, rfl, by simp [spThrough, *], PubX.mk⟩
theorem c_X0_heat (hG : Gok g) {k p : Int} {w : Int → Int} (hk : inR k) (hp : inR p) (hW : NW w n_width n_from n_to n_load n_group n_budget n_columns n_rows n_limit n_wear n_straps n_pads n_lines) : XMet g yX0_heat cX0_heat 3 (some .long) (5) 0 0 [.ref (σ 0), .int (jI k), .int (jI p)] (wX g σ x_tape x_taped x_faultKind x_faultPlace x_bestStarved x_bestMost x_bestWhole x_draws x_left x_mosts x_widened x_drawn x_img n_width n_from n_to n_load n_group n_budget n_columns n_rows n_limit n_wear n_straps n_pads n_lines n_mod n_asz n_el i_width i_load i_pads i_reached i_place i_table i_drop i_size i_whole t_width t_load t_pads t_reached t_place t_table t_drop t_size t_whole ++ ex) (pL (fun z ww => z = spHeat w k p ∧ PubX g σ ex x_tape x_taped x_faultKind x_faultPlace x_img n_width n_from n_to n_load n_group n_budget n_columns n_rows n_limit n_wear n_straps n_pads n_lines n_mod n_asz n_el ww)) := by
  refine XMet.of (L := [some (.ref (σ 0)), some (.int (jI k)), some (.int (jI p))]) hG (by decide +kernel) (Nat.le_of_ble_eq_true rfl) rfl (fun K C E => ?_)
  refine r_aload_0 C dX0_heat_0 ?_
  refine r_iload_1 C dX0_heat_1 ?_
  refine r_cV1i C (c_X0_isStrap hG hk hW.st hW.wf) (q0 := 0) rfl rfl q756 pkX0_isStrap dX0_heat_2 (fun z w h => ?_)
  obtain ⟨rfl, rfl⟩ := h
  refine r_ifeqB (tgt := 15) C dX0_heat_5 (by decide) (fun c_5 => ?_) (fun c_5 => ?_)
  · skip
    refine r_ldc2 C (-2) q802 dX0_heat_15 ?_
    refine r_lreturn C E dX0_heat_18 ?_
    exact ⟨_, rfl, by simp [spHeat, *], PubX.mk⟩
  · skip
    refine r_iload_2 C dX0_heat_8 ?_
    refine r_cS1i C (c_X0_isPart hG hp) q799 pkX0_isPart dX0_heat_9 (fun z w h => ?_)
    obtain ⟨rfl, rfl⟩ := h
    refine r_ifneB (tgt := 19) C dX0_heat_12 (by decide) (fun c_12 => ?_) (fun c_12 => ?_)
    · skip
      have hd := hW.wf.gdk c_5
      have hkk := isKb_in c_5
      have hsl := wSl_in hd hkk.1 hkk.2
      have hw := hd.who
      refine r_aload_0 C dX0_heat_19 ?_
      refine r_cV0a C (c_X0_solved hG hd hW) (q0 := 0) rfl rfl q700 pkX0_solved dX0_heat_20 (fun z w h => ?_)
      obtain ⟨rfl, sw, sl, pl, tb, dr, hX, hS, rfl⟩ := h
      refine r_iload_1 C dX0_heat_23 ?_
      refine r_cV1l C (c_X4_slope_I hG hd (hW.nb hd) hX.1 rfl hS.2.2.2.2.1 hkk) (q0 := 16) rfl rfl q818 pkX4_slope dX0_heat_24 (fun z w h => ?_)
      obtain ⟨rfl, rfl⟩ := h
      refine r_mabsL C q809 dX0_heat_27 ?_
      refine r_aload_0 C dX0_heat_30 ?_
      refine gG_is C q352 dX0_heat_31 ?_
      refine gIN_whole C q298 dX0_heat_34 ?_
      refine r_iload_2 C dX0_heat_37 ?_
      refine r_cS3l C (c_X0_part hG (by omega) (by omega) hp (by omega)) q803 pkX0_part dX0_heat_38 (fun z w h => ?_)
      obtain ⟨rfl, rfl⟩ := h
      refine r_lreturn C E dX0_heat_41 ?_
      exact ⟨_, rfl, by simp [spHeat, wHt_sl, c_5, c_12], PubX.mk⟩
    · skip
      refine r_ldc2 C (-2) q802 dX0_heat_15 ?_
      refine r_lreturn C E dX0_heat_18 ?_
      exact ⟨_, rfl, by simp [spHeat, *], PubX.mk⟩
theorem c_X0_givenBy (hG : Gok g) {v : Int} {w sw sl pl tb dr : Int → Int} (hd : Gd w) (hW : NW w n_width n_from n_to n_load n_group n_budget n_columns n_rows n_limit n_wear n_straps n_pads n_lines) (hX : SX w i_width i_load i_pads) (hre : i_reached = wR w) (hwo : i_whole = wWh w) (hdr : ∀ v, 0 ≤ v → v < wN w → i_drop v = wDr w v) (hv : 0 ≤ v ∧ v < wN w) : XMet g yX0_givenBy cX0_givenBy 5 (some .long) (5) 0 0 [.ref (σ 0), .int (jI v)] (wX g σ x_tape x_taped x_faultKind x_faultPlace x_bestStarved x_bestMost x_bestWhole x_draws x_left x_mosts x_widened x_drawn x_img n_width n_from n_to n_load n_group n_budget n_columns n_rows n_limit n_wear n_straps n_pads n_lines n_mod n_asz n_el i_width i_load i_pads i_reached i_place i_table i_drop i_size i_whole t_width t_load t_pads t_reached t_place t_table t_drop t_size t_whole ++ ex) (pL (fun z ww => z = wGi w v ∧ ww = (wX g σ x_tape x_taped x_faultKind x_faultPlace x_bestStarved x_bestMost x_bestWhole x_draws x_left x_mosts x_widened x_drawn x_img n_width n_from n_to n_load n_group n_budget n_columns n_rows n_limit n_wear n_straps n_pads n_lines n_mod n_asz n_el i_width i_load i_pads i_reached i_place i_table i_drop i_size i_whole t_width t_load t_pads t_reached t_place t_table t_drop t_size t_whole ++ ex))) := by
  refine XMet.of (L := [some (.ref (σ 0)), some (.int (jI v)), none, none, none]) hG (by decide +kernel) (Nat.le_of_ble_eq_true rfl) rfl (fun K C E => ?_)
  have hn := hd.n
  have hs := hd.s
  have hnn : w 0 * w 1 ≤ 9 := hd.g.2.2
  have hld := hd.ld v hv.1 (by omega)
  have key : ∀ (mm : Nat), ∀ (k s : Int), (0 ≤ k) → (k ≤ wS w) → (s = foI (fun k s => s + (if sF (w 0) (w 1) k = v then wTh w k else 0) - (if sT (w 0) (w 1) k = v then wTh w k else 0)) (w (6 + v) * wWh w) k) → (wS w - k).toNat = mm → AW g K (wX g σ x_tape x_taped x_faultKind x_faultPlace x_bestStarved x_bestMost x_bestWhole x_draws x_left x_mosts x_widened x_drawn x_img n_width n_from n_to n_load n_group n_budget n_columns n_rows n_limit n_wear n_straps n_pads n_lines n_mod n_asz n_el i_width i_load i_pads i_reached i_place i_table i_drop i_size i_whole t_width t_load t_pads t_reached t_place t_table t_drop t_size t_whole ++ ex) 0 0 22 [some (.ref (σ 0)), some (.int (jI v)), some (.long (jL s)), none, some (.int (jI k))] [] := by
    intro mm
    induction mm using Nat.strongRecOn with
    | _ mm ih =>
    intro k s hk0 hk es hm
    refine r_iload_4 C dX0_givenBy_22 ?_
    refine r_aload_0 C dX0_givenBy_24 ?_
    refine gG_now C q346 dX0_givenBy_25 ?_
    refine gTN_straps C q239 dX0_givenBy_28 ?_
    refine r_topi (wS w) (hW.s hd) ?_
    refine r_if_icmpge (tgt := 121) C dX0_givenBy_31 (by decide) (fun c_31 => ?_) (fun c_31 => ?_)
    · skip
      refine r_lload_2 C dX0_givenBy_121 ?_
      refine r_lreturn C E dX0_givenBy_122 ?_
      have e : k = wS w := by omega
      subst e
      exact ⟨_, rfl, es, rfl⟩
    · skip
      have hek := hW.en hd.l.1 k hk0 c_31
      have hin := sl_in hd.g hk0 c_31
      have hwk := hd.wd k hk0 (by omega)
      unfold wWd at hwk
      refine r_lload_2 C dX0_givenBy_34 ?_
      refine r_aload_0 C dX0_givenBy_35 ?_
      refine gG_now C q346 dX0_givenBy_36 ?_
      refine gTN_from C q200 dX0_givenBy_39 ?_
      refine r_iload_4 C dX0_givenBy_42 ?_
      refine ld_n_from C dX0_givenBy_44 ?_
      refine r_topi (sF (w 0) (w 1) k) hek.1 ?_
      refine r_iload_1 C dX0_givenBy_45 ?_
      refine r_if_icmpne (tgt := 73) C dX0_givenBy_46 (by decide) (fun c_46 => ?_) (fun c_46 => ?_)
      · skip
        refine r_aload_0 C dX0_givenBy_73 ?_
        refine gG_now C q346 dX0_givenBy_74 ?_
        refine gTN_to C q204 dX0_givenBy_77 ?_
        refine r_iload_4 C dX0_givenBy_80 ?_
        refine ld_n_to C dX0_givenBy_82 ?_
        refine r_topi (sT (w 0) (w 1) k) hek.2 ?_
        refine r_iload_1 C dX0_givenBy_83 ?_
        refine r_if_icmpne (tgt := 112) C dX0_givenBy_84 (by decide) (fun c_84 => ?_) (fun c_84 => ?_)
        · skip
          refine r_lconst0 C dX0_givenBy_112 ?_
          refine r_ladd C dX0_givenBy_113 ?_
          refine r_lstore_2 C dX0_givenBy_114 ?_
          refine r_iinc_4 C dX0_givenBy_115 ?_
          refine r_goto (tgt := 22) C dX0_givenBy_118 (by decide) ?_
          refine ih _ (show (wS w - (k + 1)).toNat < mm by omega) (k + 1) _ (by omega) (by omega) ?_ rfl
          rw [foI_s _ _ hk0, ← es, wTh_sl]
          first
            | (rw [if_pos c_46, if_neg (show ¬ sT (w 0) (w 1) k = v by omega)]; omega)
            | (rw [if_neg c_46, if_pos c_84, Int.neg_mul]; omega)
            | (rw [if_neg c_46, if_neg c_84]; omega)
        · skip
          refine r_aload_0 C dX0_givenBy_87 ?_
          refine gG_is C q352 dX0_givenBy_88 ?_
          refine r_iload_4 C dX0_givenBy_91 ?_
          refine r_cV1l C (c_X4_slope_I hG hd (hW.nb hd) hX.1 hre hdr ⟨hk0, c_31⟩) (q0 := 16) rfl rfl q818 pkX4_slope dX0_givenBy_93 (fun z w h => ?_)
          obtain ⟨rfl, rfl⟩ := h
          refine r_lneg C dX0_givenBy_96 ?_
          refine r_aload_0 C dX0_givenBy_97 ?_
          refine gG_now C q346 dX0_givenBy_98 ?_
          refine gTN_width C q196 dX0_givenBy_101 ?_
          refine r_iload_4 C dX0_givenBy_104 ?_
          refine ld_n_width C dX0_givenBy_106 ?_
          refine r_topi (w (28 + k)) (hW.wd k hk0 (by omega)) ?_
          refine r_i2l C dX0_givenBy_107 ?_
          refine r_lmul C dX0_givenBy_108 ?_
          refine r_goto (tgt := 113) C dX0_givenBy_109 (by decide) ?_
          refine r_ladd C dX0_givenBy_113 ?_
          refine r_lstore_2 C dX0_givenBy_114 ?_
          refine r_iinc_4 C dX0_givenBy_115 ?_
          refine r_goto (tgt := 22) C dX0_givenBy_118 (by decide) ?_
          refine ih _ (show (wS w - (k + 1)).toNat < mm by omega) (k + 1) _ (by omega) (by omega) ?_ rfl
          rw [foI_s _ _ hk0, ← es, wTh_sl]
          first
            | (rw [if_pos c_46, if_neg (show ¬ sT (w 0) (w 1) k = v by omega)]; omega)
            | (rw [if_neg c_46, if_pos c_84, Int.neg_mul]; omega)
            | (rw [if_neg c_46, if_neg c_84]; omega)
      · skip
        refine r_aload_0 C dX0_givenBy_49 ?_
        refine gG_is C q352 dX0_givenBy_50 ?_
        refine r_iload_4 C dX0_givenBy_53 ?_
        refine r_cV1l C (c_X4_slope_I hG hd (hW.nb hd) hX.1 hre hdr ⟨hk0, c_31⟩) (q0 := 16) rfl rfl q818 pkX4_slope dX0_givenBy_55 (fun z w h => ?_)
        obtain ⟨rfl, rfl⟩ := h
        refine r_aload_0 C dX0_givenBy_58 ?_
        refine gG_now C q346 dX0_givenBy_59 ?_
        refine gTN_width C q196 dX0_givenBy_62 ?_
        refine r_iload_4 C dX0_givenBy_65 ?_
        refine ld_n_width C dX0_givenBy_67 ?_
        refine r_topi (w (28 + k)) (hW.wd k hk0 (by omega)) ?_
        refine r_i2l C dX0_givenBy_68 ?_
        refine r_lmul C dX0_givenBy_69 ?_
        refine r_goto (tgt := 113) C dX0_givenBy_70 (by decide) ?_
        refine r_ladd C dX0_givenBy_113 ?_
        refine r_lstore_2 C dX0_givenBy_114 ?_
        refine r_iinc_4 C dX0_givenBy_115 ?_
        refine r_goto (tgt := 22) C dX0_givenBy_118 (by decide) ?_
        refine ih _ (show (wS w - (k + 1)).toNat < mm by omega) (k + 1) _ (by omega) (by omega) ?_ rfl
        rw [foI_s _ _ hk0, ← es, wTh_sl]
        first
          | (rw [if_pos c_46, if_neg (show ¬ sT (w 0) (w 1) k = v by omega)]; omega)
          | (rw [if_neg c_46, if_pos c_84, Int.neg_mul]; omega)
          | (rw [if_neg c_46, if_neg c_84]; omega)
  refine r_aload_0 C dX0_givenBy_0 ?_
  refine gG_is C q352 dX0_givenBy_1 ?_
  refine gIN_whole C q298 dX0_givenBy_4 ?_
  refine r_topl (wWh w) hwo ?_
  refine r_aload_0 C dX0_givenBy_7 ?_
  refine gG_now C q346 dX0_givenBy_8 ?_
  refine gTN_load C q209 dX0_givenBy_11 ?_
  refine r_iload_1 C dX0_givenBy_14 ?_
  refine ld_n_load C dX0_givenBy_15 ?_
  refine r_topi (w (6 + v)) (hW.ld v hv.1 (by omega)) ?_
  refine r_i2l C dX0_givenBy_16 ?_
  refine r_lmul C dX0_givenBy_17 ?_
  refine r_lstore_2 C dX0_givenBy_18 ?_
  refine r_iconst C dX0_givenBy_19 ?_
  refine r_istore_4 C dX0_givenBy_20 ?_
  exact key _ 0 _ (by omega) (by omega) (Int.mul_comm _ _) rfl
theorem c_X0_gives (hG : Gok g) {v p : Int} {w : Int → Int} (hv : inR v) (hp : inR p) (hW : NW w n_width n_from n_to n_load n_group n_budget n_columns n_rows n_limit n_wear n_straps n_pads n_lines) : XMet g yX0_gives cX0_gives 3 (some .long) (6) 0 0 [.ref (σ 0), .int (jI v), .int (jI p)] (wX g σ x_tape x_taped x_faultKind x_faultPlace x_bestStarved x_bestMost x_bestWhole x_draws x_left x_mosts x_widened x_drawn x_img n_width n_from n_to n_load n_group n_budget n_columns n_rows n_limit n_wear n_straps n_pads n_lines n_mod n_asz n_el i_width i_load i_pads i_reached i_place i_table i_drop i_size i_whole t_width t_load t_pads t_reached t_place t_table t_drop t_size t_whole ++ ex) (pL (fun z ww => z = spGives w v p ∧ PubX g σ ex x_tape x_taped x_faultKind x_faultPlace x_img n_width n_from n_to n_load n_group n_budget n_columns n_rows n_limit n_wear n_straps n_pads n_lines n_mod n_asz n_el ww)) := by
  refine XMet.of (L := [some (.ref (σ 0)), some (.int (jI v)), some (.int (jI p))]) hG (by decide +kernel) (Nat.le_of_ble_eq_true rfl) rfl (fun K C E => ?_)
  have hn := hW.wf.n
  refine r_aload_0 C dX0_gives_0 ?_
  refine r_iload_1 C dX0_gives_1 ?_
  refine r_cV1i C (c_X0_isNode hG (by assumption) hW.c hW.r hn) (q0 := 0) rfl rfl q764 pkX0_isNode dX0_gives_2 (fun z w h => ?_)
  obtain ⟨rfl, rfl⟩ := h
  refine r_ifeqB (tgt := 15) C dX0_gives_5 (by decide) (fun c_5 => ?_) (fun c_5 => ?_)
  · skip
    refine r_ldc2 C (-2) q802 dX0_gives_15 ?_
    refine r_lreturn C E dX0_gives_18 ?_
    exact ⟨_, rfl, by simp [spGives, *], PubX.mk⟩
  · skip
    refine r_iload_2 C dX0_gives_8 ?_
    refine r_cS1i C (c_X0_isPart hG hp) q799 pkX0_isPart dX0_gives_9 (fun z w h => ?_)
    obtain ⟨rfl, rfl⟩ := h
    refine r_ifneB (tgt := 19) C dX0_gives_12 (by decide) (fun c_12 => ?_) (fun c_12 => ?_)
    · skip
      have hd := hW.wf.gdb c_5
      have hvv := isNb_in c_5
      have hp5 := hd.p5
      have hgi := hd.gi hvv.1 hvv.2
      have hw := hd.who
      refine r_aload_0 C dX0_gives_19 ?_
      refine gG_now C q346 dX0_gives_20 ?_
      refine gTN_pads C q244 dX0_gives_23 ?_
      refine r_topi (w 5) hW.pd ?_
      refine r_iload_1 C dX0_gives_26 ?_
      refine r_cS2i C (c_X0_isOn hG (by omega) (by omega)) q778 pkX0_isOn dX0_gives_27 (fun z w h => ?_)
      obtain ⟨rfl, rfl⟩ := h
      refine r_ifneB (tgt := 37) C dX0_gives_30 (by decide) (fun c_30 => ?_) (fun c_30 => ?_)
      · skip
        refine r_aload_0 C dX0_gives_37 ?_
        refine r_cV0a C (c_X0_solved hG hd hW) (q0 := 0) rfl rfl q700 pkX0_solved dX0_gives_38 (fun z w h => ?_)
        obtain ⟨rfl, sw, sl, pl, tb, dr, hX, hS, rfl⟩ := h
        refine r_pop C dX0_gives_41 ?_
        refine r_aload_0 C dX0_gives_42 ?_
        refine r_iload_1 C dX0_gives_43 ?_
        refine r_cV1l C (c_X0_givenBy (sw := sw) (sl := sl) (pl := pl) (tb := tb) (dr := dr) hG hd hW hX rfl rfl hS.2.2.2.2.1 hvv) (q0 := 0) rfl rfl q831 pkX0_givenBy dX0_gives_44 (fun z w h => ?_)
        obtain ⟨rfl, rfl⟩ := h
        refine r_aload_0 C dX0_gives_47 ?_
        refine gG_is C q352 dX0_gives_48 ?_
        refine gIN_whole C q298 dX0_gives_51 ?_
        refine r_iload_2 C dX0_gives_54 ?_
        refine r_cS3l C (c_X0_part hG (by omega) (by omega) hp (by omega)) q803 pkX0_part dX0_gives_55 (fun z w h => ?_)
        obtain ⟨rfl, rfl⟩ := h
        refine r_lreturn C E dX0_gives_58 ?_
        exact ⟨_, rfl, by simp [spGives, *], PubX.mk⟩
      · skip
        refine r_ldc2 C (-1) q812 dX0_gives_33 ?_
        refine r_lreturn C E dX0_gives_36 ?_
        exact ⟨_, rfl, by simp [spGives, *], PubX.mk⟩
    · skip
      refine r_ldc2 C (-2) q802 dX0_gives_15 ?_
      refine r_lreturn C E dX0_gives_18 ?_
      exact ⟨_, rfl, by simp [spGives, *], PubX.mk⟩
theorem c_X0_chief (hG : Gok g) {w : Int → Int} (hW : NW w n_width n_from n_to n_load n_group n_budget n_columns n_rows n_limit n_wear n_straps n_pads n_lines) : XMet g yX0_chief cX0_chief 3 (some .int) (6) 0 0 [.ref (σ 0)] (wX g σ x_tape x_taped x_faultKind x_faultPlace x_bestStarved x_bestMost x_bestWhole x_draws x_left x_mosts x_widened x_drawn x_img n_width n_from n_to n_load n_group n_budget n_columns n_rows n_limit n_wear n_straps n_pads n_lines n_mod n_asz n_el i_width i_load i_pads i_reached i_place i_table i_drop i_size i_whole t_width t_load t_pads t_reached t_place t_table t_drop t_size t_whole ++ ex) (pI (fun z ww => z = spChief w ∧ PubX g σ ex x_tape x_taped x_faultKind x_faultPlace x_img n_width n_from n_to n_load n_group n_budget n_columns n_rows n_limit n_wear n_straps n_pads n_lines n_mod n_asz n_el ww)) := by
  refine XMet.of (L := [some (.ref (σ 0)), none, none]) hG (by decide +kernel) (Nat.le_of_ble_eq_true rfl) rfl (fun K C E => ?_)
  refine r_aload_0 C dX0_chief_0 ?_
  refine gG_now C q346 dX0_chief_1 ?_
  refine r_cV0i C (c_X1_is hG hW.inR4) (q0 := 7) rfl rfl q696 pkX1_is dX0_chief_4 (fun z w h => ?_)
  obtain ⟨rfl, rfl⟩ := h
  refine r_ifneB (tgt := 13) C dX0_chief_7 (by decide) (fun c_7 => ?_) (fun c_7 => ?_)
  · skip
    rw [hW.ln] at c_7
    have hd := hW.wf.gd4 c_7
    have hn := hd.n
    have hp5 := hd.p5
    refine r_aload_0 C dX0_chief_13 ?_
    refine r_cV0a C (c_X0_solved hG hd hW) (q0 := 0) rfl rfl q700 pkX0_solved dX0_chief_14 (fun z w h => ?_)
    obtain ⟨rfl, sw, sl, pl, tb, dr, hX, hS, rfl⟩ := h
    refine r_pop C dX0_chief_17 ?_
    skip
    have key : ∀ (mm : Nat), ∀ (v b : Int), (0 ≤ v) → (v ≤ wN w) → (-1 ≤ b ∧ b < wN w) → (b = foI (fun v b => if bsB (w 5) v = true ∧ (b = -1 ∨ wGi w b < wGi w v) then v else b) (-1) v) → (wN w - v).toNat = mm → AW g K (wX g σ x_tape x_taped x_faultKind x_faultPlace x_bestStarved x_bestMost x_bestWhole x_draws x_left x_mosts x_widened x_drawn x_img n_width n_from n_to n_load n_group n_budget n_columns n_rows n_limit n_wear n_straps n_pads n_lines n_mod n_asz n_el (sw) (sl) (n_pads) (wR w) (pl) (tb) (dr) (wm w) (wWh w) t_width t_load t_pads t_reached t_place t_table t_drop t_size t_whole ++ ex) 0 0 22 [some (.ref (σ 0)), some (.int (jI b)), some (.int (jI v))] [] := by
      intro mm
      induction mm using Nat.strongRecOn with
      | _ mm ih =>
      intro v b hv0 hv hb eb hm
      refine r_iload_2 C dX0_chief_22 ?_
      refine r_aload_0 C dX0_chief_23 ?_
      refine gG_now C q346 dX0_chief_24 ?_
      refine r_cV0i C (c_X1_many hG) (q0 := 7) rfl rfl q768 pkX1_many dX0_chief_27 (fun z w h => ?_)
      obtain ⟨rfl, rfl⟩ := h
      refine r_topi (wN w) (by rw [hW.c, hW.r]; rfl) ?_
      refine r_if_icmpge (tgt := 74) C dX0_chief_30 (by decide) (fun c_30 => ?_) (fun c_30 => ?_)
      · skip
        refine r_iload_1 C dX0_chief_74 ?_
        refine r_ireturn C E dX0_chief_75 ?_
        have e : v = wN w := by omega
        subst e
        exact ⟨_, rfl, by unfold spChief; rw [if_pos c_7, eb], PubX.mk⟩
      · skip
        have hgi := hd.gi hv0 c_30
        refine r_aload_0 C dX0_chief_33 ?_
        refine gG_now C q346 dX0_chief_34 ?_
        refine gTN_pads C q244 dX0_chief_37 ?_
        refine r_topi (w 5) hW.pd ?_
        refine r_iload_2 C dX0_chief_40 ?_
        refine r_cS2i C (c_X0_isOn hG (by omega) (by omega)) q778 pkX0_isOn dX0_chief_41 (fun z w h => ?_)
        obtain ⟨rfl, rfl⟩ := h
        refine r_ifeqB (tgt := 68) C dX0_chief_44 (by decide) (fun c_44 => ?_) (fun c_44 => ?_)
        · skip
          refine r_iinc_2 C dX0_chief_68 ?_
          refine r_goto (tgt := 22) C dX0_chief_71 (by decide) ?_
          refine ih _ (show (wN w - (v + 1)).toNat < mm by omega) (v + 1) _ (by omega) (by omega) (by omega) ?_ rfl
          rw [foI_s _ _ hv0, ← eb]
          first
            | (rw [if_neg (by intro h; exact c_44 h.1)])
            | (rw [if_pos (And.intro c_44 (Or.inl c_49))])
            | (rw [if_pos (And.intro c_44 (Or.inr c_62))])
            | (rw [if_neg (by rintro ⟨-, h⟩; omega)])
        · skip
          refine r_iload_1 C dX0_chief_47 ?_
          refine r_iconst C dX0_chief_48 ?_
          refine r_if_icmpeq (tgt := 66) C dX0_chief_49 (by decide) (fun c_49 => ?_) (fun c_49 => ?_)
          · skip
            refine r_iload_2 C dX0_chief_66 ?_
            refine r_istore_1 C dX0_chief_67 ?_
            refine r_iinc_2 C dX0_chief_68 ?_
            refine r_goto (tgt := 22) C dX0_chief_71 (by decide) ?_
            refine ih _ (show (wN w - (v + 1)).toNat < mm by omega) (v + 1) _ (by omega) (by omega) (by omega) ?_ rfl
            rw [foI_s _ _ hv0, ← eb]
            first
              | (rw [if_neg (by intro h; exact c_44 h.1)])
              | (rw [if_pos (And.intro c_44 (Or.inl c_49))])
              | (rw [if_pos (And.intro c_44 (Or.inr c_62))])
              | (rw [if_neg (by rintro ⟨-, h⟩; omega)])
          · skip
            have hgb := hd.gi (v := b) (by omega) hb.2
            refine r_aload_0 C dX0_chief_52 ?_
            refine r_iload_2 C dX0_chief_53 ?_
            refine r_cV1l C (c_X0_givenBy (sw := sw) (sl := sl) (pl := pl) (tb := tb) (dr := dr) hG hd hW hX rfl rfl hS.2.2.2.2.1 ⟨hv0, c_30⟩) (q0 := 0) rfl rfl q831 pkX0_givenBy dX0_chief_54 (fun z w h => ?_)
            obtain ⟨rfl, rfl⟩ := h
            refine r_aload_0 C dX0_chief_57 ?_
            refine r_iload_1 C dX0_chief_58 ?_
            refine r_cV1l C (c_X0_givenBy (sw := sw) (sl := sl) (pl := pl) (tb := tb) (dr := dr) hG hd hW hX rfl rfl hS.2.2.2.2.1 ⟨by omega, hb.2⟩) (q0 := 0) rfl rfl q831 pkX0_givenBy dX0_chief_59 (fun z w h => ?_)
            obtain ⟨rfl, rfl⟩ := h
            refine r_lcmp_ifle (tgt := 68) C dX0_chief_62 dX0_chief_63 (by decide) (fun c_62 => ?_) (fun c_62 => ?_)
            · skip
              refine r_iinc_2 C dX0_chief_68 ?_
              refine r_goto (tgt := 22) C dX0_chief_71 (by decide) ?_
              refine ih _ (show (wN w - (v + 1)).toNat < mm by omega) (v + 1) _ (by omega) (by omega) (by omega) ?_ rfl
              rw [foI_s _ _ hv0, ← eb]
              first
                | (rw [if_neg (by intro h; exact c_44 h.1)])
                | (rw [if_pos (And.intro c_44 (Or.inl c_49))])
                | (rw [if_pos (And.intro c_44 (Or.inr c_62))])
                | (rw [if_neg (by rintro ⟨-, h⟩; omega)])
            · skip
              refine r_iload_2 C dX0_chief_66 ?_
              refine r_istore_1 C dX0_chief_67 ?_
              refine r_iinc_2 C dX0_chief_68 ?_
              refine r_goto (tgt := 22) C dX0_chief_71 (by decide) ?_
              refine ih _ (show (wN w - (v + 1)).toNat < mm by omega) (v + 1) _ (by omega) (by omega) (by omega) ?_ rfl
              rw [foI_s _ _ hv0, ← eb]
              first
                | (rw [if_neg (by intro h; exact c_44 h.1)])
                | (rw [if_pos (And.intro c_44 (Or.inl c_49))])
                | (rw [if_pos (And.intro c_44 (Or.inr c_62))])
                | (rw [if_neg (by rintro ⟨-, h⟩; omega)])
    refine r_iconst C dX0_chief_18 ?_
    refine r_istore_1 C dX0_chief_19 ?_
    refine r_iconst C dX0_chief_20 ?_
    refine r_istore_2 C dX0_chief_21 ?_
    exact key _ 0 (-1) (by omega) (by omega) (by omega) rfl rfl
  · skip
    refine r_bipush C dX0_chief_10 ?_
    refine r_ireturn C E dX0_chief_12 ?_
    rw [hW.ln] at c_7
    exact ⟨_, rfl, by simp [spChief, c_7], PubX.mk⟩
theorem c_X0_area (hG : Gok g) {w : Int → Int} (hW : NW w n_width n_from n_to n_load n_group n_budget n_columns n_rows n_limit n_wear n_straps n_pads n_lines) : XMet g yX0_area cX0_area 3 (some .int) (1) 0 0 [.ref (σ 0)] (wX g σ x_tape x_taped x_faultKind x_faultPlace x_bestStarved x_bestMost x_bestWhole x_draws x_left x_mosts x_widened x_drawn x_img n_width n_from n_to n_load n_group n_budget n_columns n_rows n_limit n_wear n_straps n_pads n_lines n_mod n_asz n_el i_width i_load i_pads i_reached i_place i_table i_drop i_size i_whole t_width t_load t_pads t_reached t_place t_table t_drop t_size t_whole ++ ex) (pI (fun z ww => z = spArea w ∧ PubX g σ ex x_tape x_taped x_faultKind x_faultPlace x_img n_width n_from n_to n_load n_group n_budget n_columns n_rows n_limit n_wear n_straps n_pads n_lines n_mod n_asz n_el ww)) := by
  refine XMet.of (L := [some (.ref (σ 0)), none, none]) hG (by decide +kernel) (Nat.le_of_ble_eq_true rfl) rfl (fun K C E => ?_)
  refine r_aload_0 C dX0_area_0 ?_
  refine gG_now C q346 dX0_area_1 ?_
  refine r_cV0i C (c_X1_is hG hW.inR4) (q0 := 7) rfl rfl q696 pkX1_is dX0_area_4 (fun z w h => ?_)
  obtain ⟨rfl, rfl⟩ := h
  refine r_ifneB (tgt := 13) C dX0_area_7 (by decide) (fun c_7 => ?_) (fun c_7 => ?_)
  · skip
    rw [hW.ln] at c_7
    have hd := hW.wf.gd4 c_7
    have hs := hd.s
    have key : ∀ (mm : Nat), ∀ (k s : Int), (0 ≤ k) → (k ≤ wS w) → (s = foI (fun k s => s + w (28 + k)) 0 k) → (wS w - k).toNat = mm → AW g K (wX g σ x_tape x_taped x_faultKind x_faultPlace x_bestStarved x_bestMost x_bestWhole x_draws x_left x_mosts x_widened x_drawn x_img n_width n_from n_to n_load n_group n_budget n_columns n_rows n_limit n_wear n_straps n_pads n_lines n_mod n_asz n_el i_width i_load i_pads i_reached i_place i_table i_drop i_size i_whole t_width t_load t_pads t_reached t_place t_table t_drop t_size t_whole ++ ex) 0 0 17 [some (.ref (σ 0)), some (.int (jI s)), some (.int (jI k))] [] := by
      intro mm
      induction mm using Nat.strongRecOn with
      | _ mm ih =>
      intro k s hk0 hk es hm
      refine r_iload_2 C dX0_area_17 ?_
      refine r_aload_0 C dX0_area_18 ?_
      refine gG_now C q346 dX0_area_19 ?_
      refine gTN_straps C q239 dX0_area_22 ?_
      refine r_topi (wS w) (hW.s hd) ?_
      refine r_if_icmpge (tgt := 46) C dX0_area_25 (by decide) (fun c_25 => ?_) (fun c_25 => ?_)
      · skip
        refine r_iload_1 C dX0_area_46 ?_
        refine r_ireturn C E dX0_area_47 ?_
        have e : k = wS w := by omega
        subst e
        refine ⟨_, rfl, ?_, PubX.mk⟩
        unfold spArea
        rw [if_pos c_7, foI_stuck hs.1 hs.2 es.symm (fun j a b => by rw [hd.wz j a b]; omega)]
      · skip
        refine r_iload_1 C dX0_area_28 ?_
        refine r_aload_0 C dX0_area_29 ?_
        refine gG_now C q346 dX0_area_30 ?_
        refine gTN_width C q196 dX0_area_33 ?_
        refine r_iload_2 C dX0_area_36 ?_
        refine ld_n_width C dX0_area_37 ?_
        refine r_topi (w (28 + k)) (hW.wd k hk0 (by omega)) ?_
        refine r_iadd C dX0_area_38 ?_
        refine r_istore_1 C dX0_area_39 ?_
        refine r_iinc_2 C dX0_area_40 ?_
        refine r_goto (tgt := 17) C dX0_area_43 (by decide) ?_
        exact ih _ (show (wS w - (k + 1)).toNat < mm by omega) (k + 1) _ (by omega) (by omega) (by rw [foI_s _ _ hk0, ← es]) rfl
    refine r_iconst C dX0_area_13 ?_
    refine r_istore_1 C dX0_area_14 ?_
    refine r_iconst C dX0_area_15 ?_
    refine r_istore_2 C dX0_area_16 ?_
    exact key _ 0 0 (by omega) (by omega) rfl rfl
  · skip
    refine r_bipush C dX0_area_10 ?_
    refine r_ireturn C E dX0_area_12 ?_
    rw [hW.ln] at c_7
    exact ⟨_, rfl, by simp [spArea, c_7], PubX.mk⟩
theorem c_X0_worst (hG : Gok g) {w : Int → Int} (hW : NW w n_width n_from n_to n_load n_group n_budget n_columns n_rows n_limit n_wear n_straps n_pads n_lines) : XMet g yX0_worst cX0_worst 1 (some .int) (5) 0 0 [.ref (σ 0)] (wX g σ x_tape x_taped x_faultKind x_faultPlace x_bestStarved x_bestMost x_bestWhole x_draws x_left x_mosts x_widened x_drawn x_img n_width n_from n_to n_load n_group n_budget n_columns n_rows n_limit n_wear n_straps n_pads n_lines n_mod n_asz n_el i_width i_load i_pads i_reached i_place i_table i_drop i_size i_whole t_width t_load t_pads t_reached t_place t_table t_drop t_size t_whole ++ ex) (pI (fun z ww => z = spWorst w ∧ PubX g σ ex x_tape x_taped x_faultKind x_faultPlace x_img n_width n_from n_to n_load n_group n_budget n_columns n_rows n_limit n_wear n_straps n_pads n_lines n_mod n_asz n_el ww)) := by
  refine XMet.of (L := [some (.ref (σ 0))]) hG (by decide +kernel) (Nat.le_of_ble_eq_true rfl) rfl (fun K C E => ?_)
  refine r_aload_0 C dX0_worst_0 ?_
  refine gG_now C q346 dX0_worst_1 ?_
  refine r_cV0i C (c_X1_is hG hW.inR4) (q0 := 7) rfl rfl q696 pkX1_is dX0_worst_4 (fun z w h => ?_)
  obtain ⟨rfl, rfl⟩ := h
  refine r_ifeqB (tgt := 20) C dX0_worst_7 (by decide) (fun c_7 => ?_) (fun c_7 => ?_)
  · skip
    refine r_bipush C dX0_worst_20 ?_
    refine r_ireturn C E dX0_worst_22 ?_
    refine ⟨_, rfl, ?_, PubX.mk⟩
    first
      | (simp [spWorst, c_7]; done)
      | (rw [hW.ln] at c_7; simp [spWorst, c_7]; done)
  · skip
    rw [hW.ln] at c_7
    have hd := hW.wf.gd4 c_7
    refine r_aload_0 C dX0_worst_10 ?_
    refine r_cV0a C (c_X0_solved hG hd hW) (q0 := 0) rfl rfl q700 pkX0_solved dX0_worst_11 (fun z w h => ?_)
    obtain ⟨rfl, sw, sl, pl, tb, dr, hX, hS, rfl⟩ := h
    refine r_cV0i C (c_X4_worst_I hG hd (hW.nb hd) rfl hS.2.2.2.2.1) (q0 := 16) rfl rfl q847 pkX4_worst dX0_worst_14 (fun z w h => ?_)
    obtain ⟨rfl, rfl⟩ := h
    refine r_goto (tgt := 22) C dX0_worst_17 (by decide) ?_
    refine r_ireturn C E dX0_worst_22 ?_
    refine ⟨_, rfl, ?_, PubX.mk⟩
    first
      | (simp [spWorst, c_7]; done)
      | (rw [hW.ln] at c_7; simp [spWorst, c_7]; done)
theorem c_X0_over (hG : Gok g) {w : Int → Int} (hW : NW w n_width n_from n_to n_load n_group n_budget n_columns n_rows n_limit n_wear n_straps n_pads n_lines) : XMet g yX0_over cX0_over 1 (some .int) (5) 0 0 [.ref (σ 0)] (wX g σ x_tape x_taped x_faultKind x_faultPlace x_bestStarved x_bestMost x_bestWhole x_draws x_left x_mosts x_widened x_drawn x_img n_width n_from n_to n_load n_group n_budget n_columns n_rows n_limit n_wear n_straps n_pads n_lines n_mod n_asz n_el i_width i_load i_pads i_reached i_place i_table i_drop i_size i_whole t_width t_load t_pads t_reached t_place t_table t_drop t_size t_whole ++ ex) (pI (fun z ww => z = spOver w ∧ PubX g σ ex x_tape x_taped x_faultKind x_faultPlace x_img n_width n_from n_to n_load n_group n_budget n_columns n_rows n_limit n_wear n_straps n_pads n_lines n_mod n_asz n_el ww)) := by
  refine XMet.of (L := [some (.ref (σ 0))]) hG (by decide +kernel) (Nat.le_of_ble_eq_true rfl) rfl (fun K C E => ?_)
  refine r_aload_0 C dX0_over_0 ?_
  refine gG_now C q346 dX0_over_1 ?_
  refine r_cV0i C (c_X1_is hG hW.inR4) (q0 := 7) rfl rfl q696 pkX1_is dX0_over_4 (fun z w h => ?_)
  obtain ⟨rfl, rfl⟩ := h
  refine r_ifeqB (tgt := 27) C dX0_over_7 (by decide) (fun c_7 => ?_) (fun c_7 => ?_)
  · skip
    refine r_bipush C dX0_over_27 ?_
    refine r_ireturn C E dX0_over_29 ?_
    refine ⟨_, rfl, ?_, PubX.mk⟩
    first
      | (unfold spOver; rw [if_pos c_7, wOv_eq hd])
      | (rw [hW.ln] at c_7; simp [spOver, c_7]; done)
  · skip
    rw [hW.ln] at c_7
    have hd := hW.wf.gd4 c_7
    refine r_aload_0 C dX0_over_10 ?_
    refine r_cV0a C (c_X0_solved hG hd hW) (q0 := 0) rfl rfl q700 pkX0_solved dX0_over_11 (fun z w h => ?_)
    obtain ⟨rfl, sw, sl, pl, tb, dr, hX, hS, rfl⟩ := h
    refine r_aload_0 C dX0_over_14 ?_
    refine gG_is C q352 dX0_over_15 ?_
    refine gIN_drop C q295 dX0_over_18 ?_
    refine r_cV1i C (c_X4_over_I hG hd (hW.nb hd) rfl rfl hS.2.2.2.2.1) (q0 := 16) rfl rfl q855 pkX4_over dX0_over_21 (fun z w h => ?_)
    obtain ⟨rfl, rfl⟩ := h
    refine r_goto (tgt := 29) C dX0_over_24 (by decide) ?_
    refine r_ireturn C E dX0_over_29 ?_
    refine ⟨_, rfl, ?_, PubX.mk⟩
    first
      | (unfold spOver; rw [if_pos c_7, wOv_eq hd])
      | (rw [hW.ln] at c_7; simp [spOver, c_7]; done)
theorem c_X0_holds (hG : Gok g) {w : Int → Int} (hW : NW w n_width n_from n_to n_load n_group n_budget n_columns n_rows n_limit n_wear n_straps n_pads n_lines) : XMet g yX0_holds cX0_holds 1 (some .int) (6) 0 0 [.ref (σ 0)] (wX g σ x_tape x_taped x_faultKind x_faultPlace x_bestStarved x_bestMost x_bestWhole x_draws x_left x_mosts x_widened x_drawn x_img n_width n_from n_to n_load n_group n_budget n_columns n_rows n_limit n_wear n_straps n_pads n_lines n_mod n_asz n_el i_width i_load i_pads i_reached i_place i_table i_drop i_size i_whole t_width t_load t_pads t_reached t_place t_table t_drop t_size t_whole ++ ex) (pI (fun z ww => z = spHolds w ∧ PubX g σ ex x_tape x_taped x_faultKind x_faultPlace x_img n_width n_from n_to n_load n_group n_budget n_columns n_rows n_limit n_wear n_straps n_pads n_lines n_mod n_asz n_el ww)) := by
  refine XMet.of (L := [some (.ref (σ 0))]) hG (by decide +kernel) (Nat.le_of_ble_eq_true rfl) rfl (fun K C E => ?_)
  refine r_aload_0 C dX0_holds_0 ?_
  refine gG_now C q346 dX0_holds_1 ?_
  refine r_cV0i C (c_X1_is hG hW.inR4) (q0 := 7) rfl rfl q696 pkX1_is dX0_holds_4 (fun z w h => ?_)
  obtain ⟨rfl, rfl⟩ := h
  refine r_ifneB (tgt := 13) C dX0_holds_7 (by decide) (fun c_7 => ?_) (fun c_7 => ?_)
  · skip
    rw [hW.ln] at c_7
    have hd := hW.wf.gd4 c_7
    refine r_aload_0 C dX0_holds_13 ?_
    refine r_cV0a C (c_X0_solved hG hd hW) (q0 := 0) rfl rfl q700 pkX0_solved dX0_holds_14 (fun z w h => ?_)
    obtain ⟨rfl, sw, sl, pl, tb, dr, hX, hS, rfl⟩ := h
    refine r_cV0i C (c_X4_holds_I hG hd (hW.nb hd) rfl hX.2.1 rfl hS.2.2.2.2.1) (q0 := 16) rfl rfl q863 pkX4_holds dX0_holds_17 (fun z w h => ?_)
    obtain ⟨rfl, rfl⟩ := h
    refine r_ifeqB (tgt := 27) C dX0_holds_20 (by decide) (fun c_20 => ?_) (fun c_20 => ?_)
    · skip
      refine r_iconst C dX0_holds_27 ?_
      refine r_ireturn C E dX0_holds_28 ?_
      exact ⟨_, rfl, by simp [spHolds, c_7, c_20], PubX.mk⟩
    · skip
      refine r_iconst C dX0_holds_23 ?_
      refine r_goto (tgt := 28) C dX0_holds_24 (by decide) ?_
      refine r_ireturn C E dX0_holds_28 ?_
      exact ⟨_, rfl, by simp [spHolds, c_7, c_20], PubX.mk⟩
  · skip
    refine r_bipush C dX0_holds_10 ?_
    refine r_ireturn C E dX0_holds_12 ?_
    rw [hW.ln] at c_7
    exact ⟨_, rfl, by simp [spHolds, c_7], PubX.mk⟩
theorem c_X0_wearing (hG : Gok g) {w : Int → Int} (hW : NW w n_width n_from n_to n_load n_group n_budget n_columns n_rows n_limit n_wear n_straps n_pads n_lines) : XMet g yX0_wearing cX0_wearing 1 (some .int) (6) 0 0 [.ref (σ 0)] (wX g σ x_tape x_taped x_faultKind x_faultPlace x_bestStarved x_bestMost x_bestWhole x_draws x_left x_mosts x_widened x_drawn x_img n_width n_from n_to n_load n_group n_budget n_columns n_rows n_limit n_wear n_straps n_pads n_lines n_mod n_asz n_el i_width i_load i_pads i_reached i_place i_table i_drop i_size i_whole t_width t_load t_pads t_reached t_place t_table t_drop t_size t_whole ++ ex) (pI (fun z ww => z = spWearing w ∧ PubX g σ ex x_tape x_taped x_faultKind x_faultPlace x_img n_width n_from n_to n_load n_group n_budget n_columns n_rows n_limit n_wear n_straps n_pads n_lines n_mod n_asz n_el ww)) := by
  refine XMet.of (L := [some (.ref (σ 0))]) hG (by decide +kernel) (Nat.le_of_ble_eq_true rfl) rfl (fun K C E => ?_)
  refine r_aload_0 C dX0_wearing_0 ?_
  refine gG_now C q346 dX0_wearing_1 ?_
  refine r_cV0i C (c_X1_is hG hW.inR4) (q0 := 7) rfl rfl q696 pkX1_is dX0_wearing_4 (fun z w h => ?_)
  obtain ⟨rfl, rfl⟩ := h
  refine r_ifeqB (tgt := 20) C dX0_wearing_7 (by decide) (fun c_7 => ?_) (fun c_7 => ?_)
  · skip
    refine r_bipush C dX0_wearing_20 ?_
    refine r_ireturn C E dX0_wearing_22 ?_
    refine ⟨_, rfl, ?_, PubX.mk⟩
    first
      | (simp [spWearing, c_7]; done)
      | (rw [hW.ln] at c_7; simp [spWearing, c_7]; done)
  · skip
    rw [hW.ln] at c_7
    have hd := hW.wf.gd4 c_7
    refine r_aload_0 C dX0_wearing_10 ?_
    refine r_cV0a C (c_X0_solved hG hd hW) (q0 := 0) rfl rfl q700 pkX0_solved dX0_wearing_11 (fun z w h => ?_)
    obtain ⟨rfl, sw, sl, pl, tb, dr, hX, hS, rfl⟩ := h
    refine r_cV0i C (c_X4_wearing_I hG hd (hW.nb hd) hX.1 rfl rfl hS.2.2.2.2.1) (q0 := 16) rfl rfl q895 pkX4_wearing dX0_wearing_14 (fun z w h => ?_)
    obtain ⟨rfl, rfl⟩ := h
    refine r_goto (tgt := 22) C dX0_wearing_17 (by decide) ?_
    refine r_ireturn C E dX0_wearing_22 ?_
    refine ⟨_, rfl, ?_, PubX.mk⟩
    first
      | (simp [spWearing, c_7]; done)
      | (rw [hW.ln] at c_7; simp [spWearing, c_7]; done)
end X5

