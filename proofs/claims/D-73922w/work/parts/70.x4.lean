section X4
variable {g : GX} {σ : Nat → Nat} {ex : va_W}
variable {x_tape : Int → Int} {x_taped : Int} {x_faultKind : Int} {x_faultPlace : Int} {x_bestStarved : Int} {x_bestMost : Int} {x_bestWhole : Int} {x_draws : Int → Int} {x_left : Int → Int} {x_mosts : Int → Int} {x_widened : Int → Int} {x_drawn : Int} {x_img : Nat → Option Nat} {n_width : Int → Int} {n_from : Int → Int} {n_to : Int → Int} {n_load : Int → Int} {n_group : Int → Int} {n_budget : Int → Int} {n_columns : Int} {n_rows : Int} {n_limit : Int} {n_wear : Int} {n_straps : Int} {n_pads : Int} {n_lines : Int} {n_mod : Int} {n_asz : Int} {n_el : Nat → Option Nat} {i_width : Int → Int} {i_load : Int → Int} {i_pads : Int} {i_reached : Int} {i_place : Int → Int} {i_table : Int → Int} {i_drop : Int → Int} {i_size : Int} {i_whole : Int} {t_width : Int → Int} {t_load : Int → Int} {t_pads : Int} {t_reached : Int} {t_place : Int → Int} {t_table : Int → Int} {t_drop : Int → Int} {t_size : Int} {t_whole : Int}
theorem c_X4_dead_I (hG : Gok g) {w : Int → Int} (hd : Gd w) (hN : NB w n_columns n_rows n_limit n_wear n_straps n_from n_to) (hre : i_reached = wR w) : XMet g yX4_dead cX4_dead 1 (some .int) (2) 0 0 [.ref (σ 16)] (wX g σ x_tape x_taped x_faultKind x_faultPlace x_bestStarved x_bestMost x_bestWhole x_draws x_left x_mosts x_widened x_drawn x_img n_width n_from n_to n_load n_group n_budget n_columns n_rows n_limit n_wear n_straps n_pads n_lines n_mod n_asz n_el i_width i_load i_pads i_reached i_place i_table i_drop i_size i_whole t_width t_load t_pads t_reached t_place t_table t_drop t_size t_whole ++ ex) (pI (fun z ww => z = wDead w ∧ ww = (wX g σ x_tape x_taped x_faultKind x_faultPlace x_bestStarved x_bestMost x_bestWhole x_draws x_left x_mosts x_widened x_drawn x_img n_width n_from n_to n_load n_group n_budget n_columns n_rows n_limit n_wear n_straps n_pads n_lines n_mod n_asz n_el i_width i_load i_pads i_reached i_place i_table i_drop i_size i_whole t_width t_load t_pads t_reached t_place t_table t_drop t_size t_whole ++ ex))) := by
  refine XMet.of (L := [some (.ref (σ 16))]) hG (by decide +kernel) (Nat.le_of_ble_eq_true rfl) rfl (fun K C E => ?_)
  obtain ⟨hc, hr, -⟩ := hN
  have hn := hd.n
  have h5 := hd.r
  have hp := hd.p5
  have hP := bsP_0 (k := wN w)
  refine r_iconst C dX4_dead_0 ?_
  refine r_aload_0 C dX4_dead_1 ?_
  refine r_cU0i C (c_X2_many_I hG) (q0 := 16) rfl rfl q728 pkU_X2_many dX4_dead_2 (fun z w h => ?_)
  obtain ⟨rfl, rfl⟩ := h
  refine r_topi (wN w) (by rw [hc, hr]; rfl) ?_
  refine r_ishl C (_) dX4_dead_5 (jI_shl (by omega) (by omega)) ?_
  refine r_iconst C dX4_dead_6 ?_
  refine r_isub C dX4_dead_7 ?_
  refine r_aload_0 C dX4_dead_8 ?_
  refine gII_reached C q312 dX4_dead_9 ?_
  refine r_iconst C dX4_dead_12 ?_
  refine r_ixor C (_) dX4_dead_13 (jI_not (by omega)) ?_
  refine r_iand C (_) dX4_dead_14 (jI_andn (by omega) (by omega)) ?_
  refine r_ireturn C E dX4_dead_15 ?_
  exact ⟨_, rfl, by rw [hre]; rfl, rfl⟩
theorem c_X4_worst_I (hG : Gok g) {w : Int → Int} (hd : Gd w) (hN : NB w n_columns n_rows n_limit n_wear n_straps n_from n_to) (hre : i_reached = wR w) (hdr : ∀ v, 0 ≤ v → v < wN w → i_drop v = wDr w v) : XMet g yX4_worst cX4_worst 3 (some .int) (4) 0 0 [.ref (σ 16)] (wX g σ x_tape x_taped x_faultKind x_faultPlace x_bestStarved x_bestMost x_bestWhole x_draws x_left x_mosts x_widened x_drawn x_img n_width n_from n_to n_load n_group n_budget n_columns n_rows n_limit n_wear n_straps n_pads n_lines n_mod n_asz n_el i_width i_load i_pads i_reached i_place i_table i_drop i_size i_whole t_width t_load t_pads t_reached t_place t_table t_drop t_size t_whole ++ ex) (pI (fun z ww => z = wWo w ∧ ww = (wX g σ x_tape x_taped x_faultKind x_faultPlace x_bestStarved x_bestMost x_bestWhole x_draws x_left x_mosts x_widened x_drawn x_img n_width n_from n_to n_load n_group n_budget n_columns n_rows n_limit n_wear n_straps n_pads n_lines n_mod n_asz n_el i_width i_load i_pads i_reached i_place i_table i_drop i_size i_whole t_width t_load t_pads t_reached t_place t_table t_drop t_size t_whole ++ ex))) := by
  refine XMet.of (L := [some (.ref (σ 16)), none, none]) hG (by decide +kernel) (Nat.le_of_ble_eq_true rfl) rfl (fun K C E => ?_)
  obtain ⟨hc, hr, -⟩ := hN
  have hn := hd.n
  have h5 := hd.r
  have hp := hd.p5
  have key : ∀ (mm : Nat), ∀ (v b : Int), (0 ≤ v) → (v ≤ wN w) → (-1 ≤ b ∧ b < wN w) → (b = foI (fun v b => if bsB (wR w) v = true ∧ (b = -1 ∨ wDr w b < wDr w v) then v else b) (-1) v) → (wN w - v).toNat = mm → AW g K (wX g σ x_tape x_taped x_faultKind x_faultPlace x_bestStarved x_bestMost x_bestWhole x_draws x_left x_mosts x_widened x_drawn x_img n_width n_from n_to n_load n_group n_budget n_columns n_rows n_limit n_wear n_straps n_pads n_lines n_mod n_asz n_el i_width i_load i_pads i_reached i_place i_table i_drop i_size i_whole t_width t_load t_pads t_reached t_place t_table t_drop t_size t_whole ++ ex) 0 0 4 [some (.ref (σ 16)), some (.int (jI b)), some (.int (jI v))] [] := by
    intro mm
    induction mm using Nat.strongRecOn with
    | _ mm ih =>
    intro v b hv0 hv hb eb hm
    refine r_iload_2 C dX4_worst_4 ?_
    refine r_aload_0 C dX4_worst_5 ?_
    refine r_cU0i C (c_X2_many_I hG) (q0 := 16) rfl rfl q728 pkU_X2_many dX4_worst_6 (fun z w h => ?_)
    obtain ⟨rfl, rfl⟩ := h
    refine r_topi (wN w) (by rw [hc, hr]; rfl) ?_
    refine r_if_icmpge (tgt := 49) C dX4_worst_9 (by decide) (fun c_9 => ?_) (fun c_9 => ?_)
    · skip
      refine r_iload_1 C dX4_worst_49 ?_
      refine r_ireturn C E dX4_worst_50 ?_
      have e : v = wN w := by omega
      subst e
      exact ⟨_, rfl, eb, rfl⟩
    · skip
      have hnb : isNb w v = true := by unfold isNb; exact decide_eq_true (by omega)
      have h1 := hd.dr hv0 c_9
      refine r_aload_0 C dX4_worst_12 ?_
      refine r_iload_2 C dX4_worst_13 ?_
      refine r_cV1i C (c_X4_isLive_I hG (by unfold inR; omega) hc hr (by omega) (by omega)) (q0 := 16) rfl rfl q822 pkX4_isLive dX4_worst_14 (fun z w h => ?_)
      obtain ⟨rfl, rfl⟩ := h
      refine r_ifeqB (tgt := 43) C dX4_worst_17 (by decide) (fun c_17 => ?_) (fun c_17 => ?_)
      · skip
        refine r_iinc_2 C dX4_worst_43 ?_
        refine r_goto (tgt := 4) C dX4_worst_46 (by decide) ?_
        refine ih _ (show (wN w - (v + 1)).toNat < mm by omega) (v + 1) _ (by omega) (by omega) (by omega) ?_ rfl
        rw [foI_s _ _ hv0, ← eb]
        rw [hnb, hre, Bool.true_and] at c_17
        first
          | rw [if_neg (fun q => c_17 q.1)]
          | rw [if_pos (And.intro c_17 (Or.inl c_22))]
          | rw [if_pos (And.intro c_17 (Or.inr c_37))]
          | rw [if_neg (by rintro ⟨-, q⟩; omega)]
      · skip
        refine r_iload_1 C dX4_worst_20 ?_
        refine r_iconst C dX4_worst_21 ?_
        refine r_if_icmpeq (tgt := 41) C dX4_worst_22 (by decide) (fun c_22 => ?_) (fun c_22 => ?_)
        · skip
          refine r_iload_2 C dX4_worst_41 ?_
          refine r_istore_1 C dX4_worst_42 ?_
          refine r_iinc_2 C dX4_worst_43 ?_
          refine r_goto (tgt := 4) C dX4_worst_46 (by decide) ?_
          refine ih _ (show (wN w - (v + 1)).toNat < mm by omega) (v + 1) _ (by omega) (by omega) (by omega) ?_ rfl
          rw [foI_s _ _ hv0, ← eb]
          rw [hnb, hre, Bool.true_and] at c_17
          first
            | rw [if_neg (fun q => c_17 q.1)]
            | rw [if_pos (And.intro c_17 (Or.inl c_22))]
            | rw [if_pos (And.intro c_17 (Or.inr c_37))]
            | rw [if_neg (by rintro ⟨-, q⟩; omega)]
        · skip
          have h2 := hd.dr (v := b) (by omega) hb.2
          refine r_aload_0 C dX4_worst_25 ?_
          refine gI_drop C q294 dX4_worst_26 ?_
          refine r_iload_2 C dX4_worst_29 ?_
          refine ld_i_drop C dX4_worst_30 ?_
          refine r_topl (wDr w v) (hdr v hv0 c_9) ?_
          refine r_aload_0 C dX4_worst_31 ?_
          refine gI_drop C q294 dX4_worst_32 ?_
          refine r_iload_1 C dX4_worst_35 ?_
          refine ld_i_drop C dX4_worst_36 ?_
          refine r_topl (wDr w b) (hdr b (by omega) hb.2) ?_
          refine r_lcmp_ifle (tgt := 43) C dX4_worst_37 dX4_worst_38 (by decide) (fun c_37 => ?_) (fun c_37 => ?_)
          · skip
            refine r_iinc_2 C dX4_worst_43 ?_
            refine r_goto (tgt := 4) C dX4_worst_46 (by decide) ?_
            refine ih _ (show (wN w - (v + 1)).toNat < mm by omega) (v + 1) _ (by omega) (by omega) (by omega) ?_ rfl
            rw [foI_s _ _ hv0, ← eb]
            rw [hnb, hre, Bool.true_and] at c_17
            first
              | rw [if_neg (fun q => c_17 q.1)]
              | rw [if_pos (And.intro c_17 (Or.inl c_22))]
              | rw [if_pos (And.intro c_17 (Or.inr c_37))]
              | rw [if_neg (by rintro ⟨-, q⟩; omega)]
          · skip
            refine r_iload_2 C dX4_worst_41 ?_
            refine r_istore_1 C dX4_worst_42 ?_
            refine r_iinc_2 C dX4_worst_43 ?_
            refine r_goto (tgt := 4) C dX4_worst_46 (by decide) ?_
            refine ih _ (show (wN w - (v + 1)).toNat < mm by omega) (v + 1) _ (by omega) (by omega) (by omega) ?_ rfl
            rw [foI_s _ _ hv0, ← eb]
            rw [hnb, hre, Bool.true_and] at c_17
            first
              | rw [if_neg (fun q => c_17 q.1)]
              | rw [if_pos (And.intro c_17 (Or.inl c_22))]
              | rw [if_pos (And.intro c_17 (Or.inr c_37))]
              | rw [if_neg (by rintro ⟨-, q⟩; omega)]
  refine r_iconst C dX4_worst_0 ?_
  refine r_istore_1 C dX4_worst_1 ?_
  refine r_iconst C dX4_worst_2 ?_
  refine r_istore_2 C dX4_worst_3 ?_
  exact key _ 0 (-1) (by omega) (by omega) (by omega) rfl rfl
theorem c_X4_most_I (hG : Gok g) {w : Int → Int} (hd : Gd w) (hN : NB w n_columns n_rows n_limit n_wear n_straps n_from n_to) (hre : i_reached = wR w) (hdr : ∀ v, 0 ≤ v → v < wN w → i_drop v = wDr w v) : XMet g yX4_most cX4_most 1 (some .long) (5) 0 0 [.ref (σ 16)] (wX g σ x_tape x_taped x_faultKind x_faultPlace x_bestStarved x_bestMost x_bestWhole x_draws x_left x_mosts x_widened x_drawn x_img n_width n_from n_to n_load n_group n_budget n_columns n_rows n_limit n_wear n_straps n_pads n_lines n_mod n_asz n_el i_width i_load i_pads i_reached i_place i_table i_drop i_size i_whole t_width t_load t_pads t_reached t_place t_table t_drop t_size t_whole ++ ex) (pL (fun z ww => z = wMx w ∧ ww = (wX g σ x_tape x_taped x_faultKind x_faultPlace x_bestStarved x_bestMost x_bestWhole x_draws x_left x_mosts x_widened x_drawn x_img n_width n_from n_to n_load n_group n_budget n_columns n_rows n_limit n_wear n_straps n_pads n_lines n_mod n_asz n_el i_width i_load i_pads i_reached i_place i_table i_drop i_size i_whole t_width t_load t_pads t_reached t_place t_table t_drop t_size t_whole ++ ex))) := by
  refine XMet.of (L := [some (.ref (σ 16))]) hG (by decide +kernel) (Nat.le_of_ble_eq_true rfl) rfl (fun K C E => ?_)
  have hn := hd.n
  have hwo := wWo_most hd
  have hin : wWo w = -1 ∨ (0 ≤ wWo w ∧ wWo w < wN w) := by
    rcases wWo_inv (w := w) (by omega) with h | h
    · exact Or.inl h.1
    · exact Or.inr ⟨h.1, h.2.1⟩
  refine r_aload_0 C dX4_most_0 ?_
  refine r_cV0i C (c_X4_worst_I hG hd hN hre hdr) (q0 := 16) rfl rfl q1012 pkX4_worst dX4_most_1 (fun z w h => ?_)
  obtain ⟨rfl, rfl⟩ := h
  refine r_iconst C dX4_most_4 ?_
  refine r_if_icmpne (tgt := 12) C dX4_most_5 (by decide) (fun c_5 => ?_) (fun c_5 => ?_) (by unfold inR; omega)
  · skip
    refine r_aload_0 C dX4_most_12 ?_
    refine gI_drop C q294 dX4_most_13 ?_
    refine r_aload_0 C dX4_most_16 ?_
    refine r_cV0i C (c_X4_worst_I hG hd hN hre hdr) (q0 := 16) rfl rfl q1012 pkX4_worst dX4_most_17 (fun z w h => ?_)
    obtain ⟨rfl, rfl⟩ := h
    refine ld_i_drop C dX4_most_20 ?_
    refine r_lreturn C E dX4_most_21 ?_
    refine ⟨_, rfl, ?_, rfl⟩
    first
      | (rw [if_pos c_5] at hwo; exact hwo)
      | (rw [if_neg c_5] at hwo; rw [hdr _ (by omega) (by omega)]; exact hwo)
  · skip
    refine r_lconst0 C dX4_most_8 ?_
    refine r_goto (tgt := 21) C dX4_most_9 (by decide) ?_
    refine r_lreturn C E dX4_most_21 ?_
    refine ⟨_, rfl, ?_, rfl⟩
    first
      | (rw [if_pos c_5] at hwo; exact hwo)
      | (rw [if_neg c_5] at hwo; rw [hdr _ (by omega) (by omega)]; exact hwo)
theorem c_X4_starved_I (hG : Gok g) {w : Int → Int} (hd : Gd w) (hN : NB w n_columns n_rows n_limit n_wear n_straps n_from n_to) (hre : i_reached = wR w) (hld : ∀ v, 0 ≤ v → v < 9 → i_load v = w (6 + v)) : XMet g yX4_starved cX4_starved 3 (some .int) (4) 0 0 [.ref (σ 16)] (wX g σ x_tape x_taped x_faultKind x_faultPlace x_bestStarved x_bestMost x_bestWhole x_draws x_left x_mosts x_widened x_drawn x_img n_width n_from n_to n_load n_group n_budget n_columns n_rows n_limit n_wear n_straps n_pads n_lines n_mod n_asz n_el i_width i_load i_pads i_reached i_place i_table i_drop i_size i_whole t_width t_load t_pads t_reached t_place t_table t_drop t_size t_whole ++ ex) (pI (fun z ww => z = wDl w ∧ ww = (wX g σ x_tape x_taped x_faultKind x_faultPlace x_bestStarved x_bestMost x_bestWhole x_draws x_left x_mosts x_widened x_drawn x_img n_width n_from n_to n_load n_group n_budget n_columns n_rows n_limit n_wear n_straps n_pads n_lines n_mod n_asz n_el i_width i_load i_pads i_reached i_place i_table i_drop i_size i_whole t_width t_load t_pads t_reached t_place t_table t_drop t_size t_whole ++ ex))) := by
  refine XMet.of (L := [some (.ref (σ 16)), none, none]) hG (by decide +kernel) (Nat.le_of_ble_eq_true rfl) rfl (fun K C E => ?_)
  obtain ⟨hc, hr, -⟩ := hN
  have hn := hd.n
  have h5 := hd.r
  have hp := hd.p5
  have key : ∀ (mm : Nat), ∀ (v s : Int), (0 ≤ v) → (v ≤ wN w) → (s = foI (fun v s => s + if bsB (wR w) v = false ∧ 0 < w (6 + v) then 1 else 0) 0 v) → (wN w - v).toNat = mm → AW g K (wX g σ x_tape x_taped x_faultKind x_faultPlace x_bestStarved x_bestMost x_bestWhole x_draws x_left x_mosts x_widened x_drawn x_img n_width n_from n_to n_load n_group n_budget n_columns n_rows n_limit n_wear n_straps n_pads n_lines n_mod n_asz n_el i_width i_load i_pads i_reached i_place i_table i_drop i_size i_whole t_width t_load t_pads t_reached t_place t_table t_drop t_size t_whole ++ ex) 0 0 4 [some (.ref (σ 16)), some (.int (jI s)), some (.int (jI v))] [] := by
    intro mm
    induction mm using Nat.strongRecOn with
    | _ mm ih =>
    intro v s hv0 hv es hm
    refine r_iload_2 C dX4_starved_4 ?_
    refine r_aload_0 C dX4_starved_5 ?_
    refine r_cU0i C (c_X2_many_I hG) (q0 := 16) rfl rfl q728 pkU_X2_many dX4_starved_6 (fun z w h => ?_)
    obtain ⟨rfl, rfl⟩ := h
    refine r_topi (wN w) (by rw [hc, hr]; rfl) ?_
    refine r_if_icmpge (tgt := 43) C dX4_starved_9 (by decide) (fun c_9 => ?_) (fun c_9 => ?_)
    · skip
      refine r_iload_1 C dX4_starved_43 ?_
      refine r_ireturn C E dX4_starved_44 ?_
      have e : v = wN w := by omega
      subst e
      exact ⟨_, rfl, es, rfl⟩
    · skip
      have hnb : isNb w v = true := by unfold isNb; exact decide_eq_true (by omega)
      have hl9 := hd.ld v hv0 (by omega)
      refine r_iload_1 C dX4_starved_12 ?_
      refine r_aload_0 C dX4_starved_13 ?_
      refine gII_load C q305 dX4_starved_14 ?_
      refine r_iload_2 C dX4_starved_17 ?_
      refine ld_i_load C dX4_starved_18 ?_
      refine r_topi (w (6 + v)) (hld v hv0 (by omega)) ?_
      refine r_ifle (tgt := 34) C dX4_starved_19 (by decide) (fun c_19 => ?_) (fun c_19 => ?_)
      · skip
        refine r_iconst C dX4_starved_34 ?_
        refine r_iadd C dX4_starved_35 ?_
        refine r_istore_1 C dX4_starved_36 ?_
        refine r_iinc_2 C dX4_starved_37 ?_
        refine r_goto (tgt := 4) C dX4_starved_40 (by decide) ?_
        refine ih _ (show (wN w - (v + 1)).toNat < mm by omega) (v + 1) _ (by omega) (by omega) ?_ rfl
        rw [foI_s _ _ hv0, ← es]
        first
          | rw [if_neg (fun q => by have := q.2; omega)]
          | (rw [hnb, hre, Bool.true_and] at c_27
             first
               | (have h27 : bsB (wR w) v = true := c_27
                  rw [if_neg (fun q => Bool.false_ne_true (q.1.symm.trans h27))])
               | (have h27 : ¬ bsB (wR w) v = true := c_27
                  rw [if_pos (And.intro (Bool.eq_false_iff.mpr h27) c_19)]))
      · skip
        refine r_aload_0 C dX4_starved_22 ?_
        refine r_iload_2 C dX4_starved_23 ?_
        refine r_cV1i C (c_X4_isLive_I hG (by unfold inR; omega) hc hr (by omega) (by omega)) (q0 := 16) rfl rfl q822 pkX4_isLive dX4_starved_24 (fun z w h => ?_)
        obtain ⟨rfl, rfl⟩ := h
        refine r_ifneB (tgt := 34) C dX4_starved_27 (by decide) (fun c_27 => ?_) (fun c_27 => ?_)
        · skip
          refine r_iconst C dX4_starved_34 ?_
          refine r_iadd C dX4_starved_35 ?_
          refine r_istore_1 C dX4_starved_36 ?_
          refine r_iinc_2 C dX4_starved_37 ?_
          refine r_goto (tgt := 4) C dX4_starved_40 (by decide) ?_
          refine ih _ (show (wN w - (v + 1)).toNat < mm by omega) (v + 1) _ (by omega) (by omega) ?_ rfl
          rw [foI_s _ _ hv0, ← es]
          first
            | rw [if_neg (fun q => by have := q.2; omega)]
            | (rw [hnb, hre, Bool.true_and] at c_27
               first
                 | (have h27 : bsB (wR w) v = true := c_27
                    rw [if_neg (fun q => Bool.false_ne_true (q.1.symm.trans h27))])
                 | (have h27 : ¬ bsB (wR w) v = true := c_27
                    rw [if_pos (And.intro (Bool.eq_false_iff.mpr h27) c_19)]))
        · skip
          refine r_iconst C dX4_starved_30 ?_
          refine r_goto (tgt := 35) C dX4_starved_31 (by decide) ?_
          refine r_iadd C dX4_starved_35 ?_
          refine r_istore_1 C dX4_starved_36 ?_
          refine r_iinc_2 C dX4_starved_37 ?_
          refine r_goto (tgt := 4) C dX4_starved_40 (by decide) ?_
          refine ih _ (show (wN w - (v + 1)).toNat < mm by omega) (v + 1) _ (by omega) (by omega) ?_ rfl
          rw [foI_s _ _ hv0, ← es]
          first
            | rw [if_neg (fun q => by have := q.2; omega)]
            | (rw [hnb, hre, Bool.true_and] at c_27
               first
                 | (have h27 : bsB (wR w) v = true := c_27
                    rw [if_neg (fun q => Bool.false_ne_true (q.1.symm.trans h27))])
                 | (have h27 : ¬ bsB (wR w) v = true := c_27
                    rw [if_pos (And.intro (Bool.eq_false_iff.mpr h27) c_19)]))
  refine r_iconst C dX4_starved_0 ?_
  refine r_istore_1 C dX4_starved_1 ?_
  refine r_iconst C dX4_starved_2 ?_
  refine r_istore_2 C dX4_starved_3 ?_
  exact key _ 0 0 (by omega) (by omega) rfl rfl
theorem c_X4_over_I (hG : Gok g) {w : Int → Int} (hd : Gd w) (hN : NB w n_columns n_rows n_limit n_wear n_straps n_from n_to) (hre : i_reached = wR w) (hwo : i_whole = wWh w) (hdr : ∀ v, 0 ≤ v → v < wN w → i_drop v = wDr w v) : XMet g yX4_over cX4_over 4 (some .int) (4) 0 0 [.ref (σ 16), .ref (σ 21)] (wX g σ x_tape x_taped x_faultKind x_faultPlace x_bestStarved x_bestMost x_bestWhole x_draws x_left x_mosts x_widened x_drawn x_img n_width n_from n_to n_load n_group n_budget n_columns n_rows n_limit n_wear n_straps n_pads n_lines n_mod n_asz n_el i_width i_load i_pads i_reached i_place i_table i_drop i_size i_whole t_width t_load t_pads t_reached t_place t_table t_drop t_size t_whole ++ ex) (pI (fun z ww => z = setF (ovB w (wDr w)) (wN w) ∧ ww = (wX g σ x_tape x_taped x_faultKind x_faultPlace x_bestStarved x_bestMost x_bestWhole x_draws x_left x_mosts x_widened x_drawn x_img n_width n_from n_to n_load n_group n_budget n_columns n_rows n_limit n_wear n_straps n_pads n_lines n_mod n_asz n_el i_width i_load i_pads i_reached i_place i_table i_drop i_size i_whole t_width t_load t_pads t_reached t_place t_table t_drop t_size t_whole ++ ex))) := by
  refine XMet.of (L := [some (.ref (σ 16)), some (.ref (σ 21)), none, none]) hG (by decide +kernel) (Nat.le_of_ble_eq_true rfl) rfl (fun K C E => ?_)
  obtain ⟨hc, hr, hlm, -⟩ := hN
  have hn := hd.n
  have h5 := hd.r
  have hp := hd.p5
  have hli := lim_in hd
  have hl2 := hd.lim
  have key : ∀ (mm : Nat), ∀ (v s : Int), (0 ≤ v) → (v ≤ wN w) → (0 ≤ s ∧ s < 512) → (s = setF (ovB w (wDr w)) v) → (wN w - v).toNat = mm → AW g K (wX g σ x_tape x_taped x_faultKind x_faultPlace x_bestStarved x_bestMost x_bestWhole x_draws x_left x_mosts x_widened x_drawn x_img n_width n_from n_to n_load n_group n_budget n_columns n_rows n_limit n_wear n_straps n_pads n_lines n_mod n_asz n_el i_width i_load i_pads i_reached i_place i_table i_drop i_size i_whole t_width t_load t_pads t_reached t_place t_table t_drop t_size t_whole ++ ex) 0 0 4 [some (.ref (σ 16)), some (.ref (σ 21)), some (.int (jI s)), some (.int (jI v))] [] := by
    intro mm
    induction mm using Nat.strongRecOn with
    | _ mm ih =>
    intro v s hv0 hv hs0 es hm
    refine r_iload_3 C dX4_over_4 ?_
    refine r_aload_0 C dX4_over_5 ?_
    refine r_cU0i C (c_X2_many_I hG) (q0 := 16) rfl rfl q728 pkU_X2_many dX4_over_6 (fun z w h => ?_)
    obtain ⟨rfl, rfl⟩ := h
    refine r_topi (wN w) (by rw [hc, hr]; rfl) ?_
    refine r_if_icmpge (tgt := 59) C dX4_over_9 (by decide) (fun c_9 => ?_) (fun c_9 => ?_)
    · skip
      refine r_iload_2 C dX4_over_59 ?_
      refine r_ireturn C E dX4_over_60 ?_
      have e : v = wN w := by omega
      subst e
      exact ⟨_, rfl, es, rfl⟩
    · skip
      have hnb : isNb w v = true := by unfold isNb; exact decide_eq_true (by omega)
      have h1 := hd.dr hv0 c_9
      have hP := bsP_9 hv0 (show v < 9 by omega)
      have hP0 := bsP_0 (k := v)
      refine r_iload_2 C dX4_over_12 ?_
      refine r_aload_0 C dX4_over_13 ?_
      refine r_iload_3 C dX4_over_14 ?_
      refine r_cV1i C (c_X4_isLive_I hG (by unfold inR; omega) hc hr (by omega) (by omega)) (q0 := 16) rfl rfl q822 pkX4_isLive dX4_over_15 (fun z w h => ?_)
      obtain ⟨rfl, rfl⟩ := h
      refine r_ifeqB (tgt := 50) C dX4_over_18 (by decide) (fun c_18 => ?_) (fun c_18 => ?_)
      · skip
        refine r_iconst C dX4_over_50 ?_
        refine r_ior C (_) dX4_over_51 (jI_or (by omega) (by omega)) ?_
        refine r_istore_2 C dX4_over_52 ?_
        refine r_iinc_3 C dX4_over_53 ?_
        refine r_goto (tgt := 4) C dX4_over_56 (by decide) ?_
        refine ih _ (show (wN w - (v + 1)).toNat < mm by omega) (v + 1) _ (by omega) (by omega) ⟨bsO_0, bsO_512 hs0.2 (by omega)⟩ ?_ rfl
        rw [setF_s hv0, ← es]
        rw [hnb, hre, Bool.true_and] at c_18
        first
          | rw [if_pos (show ovB w (wDr w) v = true by unfold ovB; rw [c_18, decide_eq_true c_40]; rfl)]
          | rw [if_neg (show ¬ ovB w (wDr w) v = true by unfold ovB; rw [decide_eq_false (show ¬ w 2 * wWh w < wDr w v by omega)]; simp), bsO_z hs0.1]
          | rw [if_neg (show ¬ ovB w (wDr w) v = true by unfold ovB; simp [c_18]), bsO_z hs0.1]
      · skip
        refine r_aload_1 C dX4_over_21 ?_
        refine r_iload_3 C dX4_over_22 ?_
        refine ld_i_drop C dX4_over_23 ?_
        refine r_topl (wDr w v) (hdr v hv0 c_9) ?_
        refine r_aload_0 C dX4_over_24 ?_
        refine gI_this011 C q299 dX4_over_25 ?_
        refine gGN_now C q345 dX4_over_28 ?_
        refine gTN_limit C q229 dX4_over_31 ?_
        refine r_topi (w 2) hlm ?_
        refine r_i2l C dX4_over_34 ?_
        refine r_aload_0 C dX4_over_35 ?_
        refine gI_whole C q297 dX4_over_36 ?_
        refine r_topl (wWh w) hwo ?_
        refine r_lmul C dX4_over_39 ?_
        refine r_lcmp_ifle (tgt := 50) C dX4_over_40 dX4_over_41 (by decide) (fun c_40 => ?_) (fun c_40 => ?_)
        · skip
          refine r_iconst C dX4_over_50 ?_
          refine r_ior C (_) dX4_over_51 (jI_or (by omega) (by omega)) ?_
          refine r_istore_2 C dX4_over_52 ?_
          refine r_iinc_3 C dX4_over_53 ?_
          refine r_goto (tgt := 4) C dX4_over_56 (by decide) ?_
          refine ih _ (show (wN w - (v + 1)).toNat < mm by omega) (v + 1) _ (by omega) (by omega) ⟨bsO_0, bsO_512 hs0.2 (by omega)⟩ ?_ rfl
          rw [setF_s hv0, ← es]
          rw [hnb, hre, Bool.true_and] at c_18
          first
            | rw [if_pos (show ovB w (wDr w) v = true by unfold ovB; rw [c_18, decide_eq_true c_40]; rfl)]
            | rw [if_neg (show ¬ ovB w (wDr w) v = true by unfold ovB; rw [decide_eq_false (show ¬ w 2 * wWh w < wDr w v by omega)]; simp), bsO_z hs0.1]
            | rw [if_neg (show ¬ ovB w (wDr w) v = true by unfold ovB; simp [c_18]), bsO_z hs0.1]
        · skip
          refine r_iconst C dX4_over_44 ?_
          refine r_iload_3 C dX4_over_45 ?_
          refine r_ishl C (_) dX4_over_46 (jI_shl (by omega) (by omega)) ?_
          refine r_goto (tgt := 51) C dX4_over_47 (by decide) ?_
          refine r_ior C (_) dX4_over_51 (jI_or (by omega) (by omega)) ?_
          refine r_istore_2 C dX4_over_52 ?_
          refine r_iinc_3 C dX4_over_53 ?_
          refine r_goto (tgt := 4) C dX4_over_56 (by decide) ?_
          refine ih _ (show (wN w - (v + 1)).toNat < mm by omega) (v + 1) _ (by omega) (by omega) ⟨bsO_0, bsO_512 hs0.2 (by omega)⟩ ?_ rfl
          rw [setF_s hv0, ← es]
          rw [hnb, hre, Bool.true_and] at c_18
          first
            | rw [if_pos (show ovB w (wDr w) v = true by unfold ovB; rw [c_18, decide_eq_true c_40]; rfl)]
            | rw [if_neg (show ¬ ovB w (wDr w) v = true by unfold ovB; rw [decide_eq_false (show ¬ w 2 * wWh w < wDr w v by omega)]; simp), bsO_z hs0.1]
            | rw [if_neg (show ¬ ovB w (wDr w) v = true by unfold ovB; simp [c_18]), bsO_z hs0.1]
  refine r_iconst C dX4_over_0 ?_
  refine r_istore_2 C dX4_over_1 ?_
  refine r_iconst C dX4_over_2 ?_
  refine r_istore_3 C dX4_over_3 ?_
  exact key _ 0 0 (by omega) (by omega) (by omega) rfl rfl
theorem c_X4_holds_I (hG : Gok g) {w : Int → Int} (hd : Gd w) (hN : NB w n_columns n_rows n_limit n_wear n_straps n_from n_to) (hre : i_reached = wR w) (hld : ∀ v, 0 ≤ v → v < 9 → i_load v = w (6 + v)) (hwo : i_whole = wWh w) (hdr : ∀ v, 0 ≤ v → v < wN w → i_drop v = wDr w v) : XMet g yX4_holds cX4_holds 1 (some .boolean) (5) 0 0 [.ref (σ 16)] (wX g σ x_tape x_taped x_faultKind x_faultPlace x_bestStarved x_bestMost x_bestWhole x_draws x_left x_mosts x_widened x_drawn x_img n_width n_from n_to n_load n_group n_budget n_columns n_rows n_limit n_wear n_straps n_pads n_lines n_mod n_asz n_el i_width i_load i_pads i_reached i_place i_table i_drop i_size i_whole t_width t_load t_pads t_reached t_place t_table t_drop t_size t_whole ++ ex) (pI (fun z ww => z = (if wHo w = true then 1 else 0) ∧ ww = (wX g σ x_tape x_taped x_faultKind x_faultPlace x_bestStarved x_bestMost x_bestWhole x_draws x_left x_mosts x_widened x_drawn x_img n_width n_from n_to n_load n_group n_budget n_columns n_rows n_limit n_wear n_straps n_pads n_lines n_mod n_asz n_el i_width i_load i_pads i_reached i_place i_table i_drop i_size i_whole t_width t_load t_pads t_reached t_place t_table t_drop t_size t_whole ++ ex))) := by
  refine XMet.of (L := [some (.ref (σ 16))]) hG (by decide +kernel) (Nat.le_of_ble_eq_true rfl) rfl (fun K C E => ?_)
  have hn := hd.n
  have hdl := hd.dl
  have hsb := (setF_bit (P := ovB w (wDr w)) (n := wN w) (by omega) (by omega)).1
  have hov := ov_hold hd
  refine r_aload_0 C dX4_holds_0 ?_
  refine r_cV0i C (c_X4_starved_I hG hd hN hre hld) (q0 := 16) rfl rfl q867 pkX4_starved dX4_holds_1 (fun z w h => ?_)
  obtain ⟨rfl, rfl⟩ := h
  refine r_ifne (tgt := 22) C dX4_holds_4 (by decide) (fun c_4 => ?_) (fun c_4 => ?_)
  · skip
    refine r_iconst C dX4_holds_22 ?_
    refine r_zreturn C E dX4_holds_23 (by first | exact Or.inl rfl | exact Or.inr rfl | omega) ?_
    refine ⟨_, rfl, ?_, rfl⟩
    unfold wHo
    first
      | rw [if_pos (decide_eq_true (And.intro c_4 (hov.mp c_15)))]
      | rw [if_neg (fun q => c_15 (hov.mpr (of_decide_eq_true q).2))]
      | rw [if_neg (fun q => c_4 (of_decide_eq_true q).1)]
  · skip
    refine r_aload_0 C dX4_holds_7 ?_
    refine r_aload_0 C dX4_holds_8 ?_
    refine gI_drop C q294 dX4_holds_9 ?_
    refine r_cV1i C (c_X4_over_I hG hd hN hre hwo hdr) (q0 := 16) rfl rfl q871 pkX4_over dX4_holds_12 (fun z w h => ?_)
    obtain ⟨rfl, rfl⟩ := h
    refine r_ifne (tgt := 22) C dX4_holds_15 (by decide) (fun c_15 => ?_) (fun c_15 => ?_)
    · skip
      refine r_iconst C dX4_holds_22 ?_
      refine r_zreturn C E dX4_holds_23 (by first | exact Or.inl rfl | exact Or.inr rfl | omega) ?_
      refine ⟨_, rfl, ?_, rfl⟩
      unfold wHo
      first
        | rw [if_pos (decide_eq_true (And.intro c_4 (hov.mp c_15)))]
        | rw [if_neg (fun q => c_15 (hov.mpr (of_decide_eq_true q).2))]
        | rw [if_neg (fun q => c_4 (of_decide_eq_true q).1)]
    · skip
      refine r_iconst C dX4_holds_18 ?_
      refine r_goto (tgt := 23) C dX4_holds_19 (by decide) ?_
      refine r_zreturn C E dX4_holds_23 (by first | exact Or.inl rfl | exact Or.inr rfl | omega) ?_
      refine ⟨_, rfl, ?_, rfl⟩
      unfold wHo
      first
        | rw [if_pos (decide_eq_true (And.intro c_4 (hov.mp c_15)))]
        | rw [if_neg (fun q => c_15 (hov.mpr (of_decide_eq_true q).2))]
        | rw [if_neg (fun q => c_4 (of_decide_eq_true q).1)]
theorem c_X4_slope_I (hG : Gok g) {k : Int} {w : Int → Int} (hd : Gd w) (hN : NB w n_columns n_rows n_limit n_wear n_straps n_from n_to) (hxw : ∀ k, 0 ≤ k → k < 12 → i_width k = w (28 + k)) (hre : i_reached = wR w) (hdr : ∀ v, 0 ≤ v → v < wN w → i_drop v = wDr w v) (hk : 0 ≤ k ∧ k < wS w) : XMet g yX4_slope cX4_slope 2 (some .long) (4) 0 0 [.ref (σ 16), .int (jI k)] (wX g σ x_tape x_taped x_faultKind x_faultPlace x_bestStarved x_bestMost x_bestWhole x_draws x_left x_mosts x_widened x_drawn x_img n_width n_from n_to n_load n_group n_budget n_columns n_rows n_limit n_wear n_straps n_pads n_lines n_mod n_asz n_el i_width i_load i_pads i_reached i_place i_table i_drop i_size i_whole t_width t_load t_pads t_reached t_place t_table t_drop t_size t_whole ++ ex) (pL (fun z ww => z = wSl w k ∧ ww = (wX g σ x_tape x_taped x_faultKind x_faultPlace x_bestStarved x_bestMost x_bestWhole x_draws x_left x_mosts x_widened x_drawn x_img n_width n_from n_to n_load n_group n_budget n_columns n_rows n_limit n_wear n_straps n_pads n_lines n_mod n_asz n_el i_width i_load i_pads i_reached i_place i_table i_drop i_size i_whole t_width t_load t_pads t_reached t_place t_table t_drop t_size t_whole ++ ex))) := by
  refine XMet.of (L := [some (.ref (σ 16)), some (.int (jI k))]) hG (by decide +kernel) (Nat.le_of_ble_eq_true rfl) rfl (fun K C E => ?_)
  obtain ⟨hc, hr, hlm, hwe, hs, he⟩ := hN
  have hn := hd.n
  have h12 := hd.s
  have h5 := hd.r
  have hp := hd.p5
  have hin := sl_in hd.g hk.1 hk.2
  have hek := he k hk.1 hk.2
  have hwk := hd.wd k hk.1 (by omega)
  unfold wWd at hwk
  have hnn : wN w = w 0 * w 1 := rfl
  refine r_aload_0 C dX4_slope_0 ?_
  refine gII_width C q301 dX4_slope_1 ?_
  refine r_iload_1 C dX4_slope_4 ?_
  refine ld_i_width C dX4_slope_5 ?_
  refine r_topi (w (28 + k)) (hxw k hk.1 (by omega)) ?_
  refine r_ifeq (tgt := 28) C dX4_slope_6 (by decide) (fun c_6 => ?_) (fun c_6 => ?_)
  · skip
    refine r_lconst0 C dX4_slope_28 ?_
    refine r_goto (tgt := 67) C dX4_slope_29 (by decide) ?_
    refine r_lreturn C E dX4_slope_67 ?_
    refine ⟨_, rfl, ?_, rfl⟩
    first
      | (unfold wSl; rw [if_pos c_6])
      | (have hnb : isNb w (sF (w 0) (w 1) k) = true := by unfold isNb; exact decide_eq_true (by omega)
         rw [hnb, hre, Bool.true_and] at c_25
         first
           | rw [wSl_dead hd hk.1 hk.2 (by simpa using c_25)]
           | (unfold wSl; rw [if_neg c_6]))
  · skip
    refine r_aload_0 C dX4_slope_9 ?_
    refine r_aload_0 C dX4_slope_10 ?_
    refine gI_this011 C q299 dX4_slope_11 ?_
    refine gGN_now C q345 dX4_slope_14 ?_
    refine gTN_from C q199 dX4_slope_17 ?_
    refine r_iload_1 C dX4_slope_20 ?_
    refine ld_n_from C dX4_slope_21 ?_
    refine r_topi (sF (w 0) (w 1) k) hek.1 ?_
    refine r_cV1i C (c_X4_isLive_I hG (by unfold inR; omega) hc hr (by omega) (by omega)) (q0 := 16) rfl rfl q822 pkX4_isLive dX4_slope_22 (fun z w h => ?_)
    obtain ⟨rfl, rfl⟩ := h
    refine r_ifneB (tgt := 32) C dX4_slope_25 (by decide) (fun c_25 => ?_) (fun c_25 => ?_)
    · skip
      refine r_aload_0 C dX4_slope_32 ?_
      refine gI_drop C q294 dX4_slope_33 ?_
      refine r_aload_0 C dX4_slope_36 ?_
      refine gI_this011 C q299 dX4_slope_37 ?_
      refine gGN_now C q345 dX4_slope_40 ?_
      refine gTN_to C q203 dX4_slope_43 ?_
      refine r_iload_1 C dX4_slope_46 ?_
      refine ld_n_to C dX4_slope_47 ?_
      refine r_topi (sT (w 0) (w 1) k) hek.2 ?_
      refine ld_i_drop C dX4_slope_48 ?_
      refine r_topl (wDr w (sT (w 0) (w 1) k)) (hdr _ (by omega) (by omega)) ?_
      refine r_aload_0 C dX4_slope_49 ?_
      refine gI_drop C q294 dX4_slope_50 ?_
      refine r_aload_0 C dX4_slope_53 ?_
      refine gI_this011 C q299 dX4_slope_54 ?_
      refine gGN_now C q345 dX4_slope_57 ?_
      refine gTN_from C q199 dX4_slope_60 ?_
      refine r_iload_1 C dX4_slope_63 ?_
      refine ld_n_from C dX4_slope_64 ?_
      refine r_topi (sF (w 0) (w 1) k) hek.1 ?_
      refine ld_i_drop C dX4_slope_65 ?_
      refine r_topl (wDr w (sF (w 0) (w 1) k)) (hdr _ (by omega) (by omega)) ?_
      refine r_lsub C dX4_slope_66 ?_
      refine r_lreturn C E dX4_slope_67 ?_
      refine ⟨_, rfl, ?_, rfl⟩
      first
        | (unfold wSl; rw [if_pos c_6])
        | (have hnb : isNb w (sF (w 0) (w 1) k) = true := by unfold isNb; exact decide_eq_true (by omega)
           rw [hnb, hre, Bool.true_and] at c_25
           first
             | rw [wSl_dead hd hk.1 hk.2 (by simpa using c_25)]
             | (unfold wSl; rw [if_neg c_6]))
    · skip
      refine r_lconst0 C dX4_slope_28 ?_
      refine r_goto (tgt := 67) C dX4_slope_29 (by decide) ?_
      refine r_lreturn C E dX4_slope_67 ?_
      refine ⟨_, rfl, ?_, rfl⟩
      first
        | (unfold wSl; rw [if_pos c_6])
        | (have hnb : isNb w (sF (w 0) (w 1) k) = true := by unfold isNb; exact decide_eq_true (by omega)
           rw [hnb, hre, Bool.true_and] at c_25
           first
             | rw [wSl_dead hd hk.1 hk.2 (by simpa using c_25)]
             | (unfold wSl; rw [if_neg c_6]))
theorem c_X4_wearing_I (hG : Gok g) {w : Int → Int} (hd : Gd w) (hN : NB w n_columns n_rows n_limit n_wear n_straps n_from n_to) (hxw : ∀ k, 0 ≤ k → k < 12 → i_width k = w (28 + k)) (hre : i_reached = wR w) (hwo : i_whole = wWh w) (hdr : ∀ v, 0 ≤ v → v < wN w → i_drop v = wDr w v) : XMet g yX4_wearing cX4_wearing 3 (some .int) (5) 0 0 [.ref (σ 16)] (wX g σ x_tape x_taped x_faultKind x_faultPlace x_bestStarved x_bestMost x_bestWhole x_draws x_left x_mosts x_widened x_drawn x_img n_width n_from n_to n_load n_group n_budget n_columns n_rows n_limit n_wear n_straps n_pads n_lines n_mod n_asz n_el i_width i_load i_pads i_reached i_place i_table i_drop i_size i_whole t_width t_load t_pads t_reached t_place t_table t_drop t_size t_whole ++ ex) (pI (fun z ww => z = wWe w ∧ ww = (wX g σ x_tape x_taped x_faultKind x_faultPlace x_bestStarved x_bestMost x_bestWhole x_draws x_left x_mosts x_widened x_drawn x_img n_width n_from n_to n_load n_group n_budget n_columns n_rows n_limit n_wear n_straps n_pads n_lines n_mod n_asz n_el i_width i_load i_pads i_reached i_place i_table i_drop i_size i_whole t_width t_load t_pads t_reached t_place t_table t_drop t_size t_whole ++ ex))) := by
  refine XMet.of (L := [some (.ref (σ 16)), none, none]) hG (by decide +kernel) (Nat.le_of_ble_eq_true rfl) rfl (fun K C E => ?_)
  have hN2 := hN
  obtain ⟨hc, hr, hlm, hwe, hs, he⟩ := hN
  have h12 := hd.s
  have hwr := wear_in hd
  have hw3 := hd.wear
  have key : ∀ (mm : Nat), ∀ (k s : Int), (0 ≤ k) → (k ≤ wS w) → (0 ≤ s ∧ s < 4096) → (s = setF (fun k => decide (w 3 * wWh w < ((wSl w k).natAbs : Int))) k) → (wS w - k).toNat = mm → AW g K (wX g σ x_tape x_taped x_faultKind x_faultPlace x_bestStarved x_bestMost x_bestWhole x_draws x_left x_mosts x_widened x_drawn x_img n_width n_from n_to n_load n_group n_budget n_columns n_rows n_limit n_wear n_straps n_pads n_lines n_mod n_asz n_el i_width i_load i_pads i_reached i_place i_table i_drop i_size i_whole t_width t_load t_pads t_reached t_place t_table t_drop t_size t_whole ++ ex) 0 0 4 [some (.ref (σ 16)), some (.int (jI s)), some (.int (jI k))] [] := by
    intro mm
    induction mm using Nat.strongRecOn with
    | _ mm ih =>
    intro k s hk0 hk hs0 es hm
    refine r_iload_2 C dX4_wearing_4 ?_
    refine r_aload_0 C dX4_wearing_5 ?_
    refine gI_this011 C q299 dX4_wearing_6 ?_
    refine gGN_now C q345 dX4_wearing_9 ?_
    refine gTN_straps C q237 dX4_wearing_12 ?_
    refine r_topi (wS w) hs ?_
    refine r_if_icmpge (tgt := 62) C dX4_wearing_15 (by decide) (fun c_15 => ?_) (fun c_15 => ?_)
    · skip
      refine r_iload_1 C dX4_wearing_62 ?_
      refine r_ireturn C E dX4_wearing_63 ?_
      have e : k = wS w := by omega
      subst e
      exact ⟨_, rfl, by rw [es, wWe_eq], rfl⟩
    · skip
      have hsl := wSl_in hd hk0 c_15
      have hP := bsP_12 hk0 (show k < 12 by omega)
      have hP0 := bsP_0 (k := k)
      refine r_iload_1 C dX4_wearing_18 ?_
      refine r_aload_0 C dX4_wearing_19 ?_
      refine r_iload_2 C dX4_wearing_20 ?_
      refine r_cV1l C (c_X4_slope_I hG hd hN2 hxw hre hdr ⟨hk0, c_15⟩) (q0 := 16) rfl rfl q899 pkX4_slope dX4_wearing_21 (fun z w h => ?_)
      obtain ⟨rfl, rfl⟩ := h
      refine r_mabsL C q900 dX4_wearing_24 ?_
      refine r_aload_0 C dX4_wearing_27 ?_
      refine gI_this011 C q299 dX4_wearing_28 ?_
      refine gGN_now C q345 dX4_wearing_31 ?_
      refine gTN_wear C q233 dX4_wearing_34 ?_
      refine r_topi (w 3) hwe ?_
      refine r_i2l C dX4_wearing_37 ?_
      refine r_aload_0 C dX4_wearing_38 ?_
      refine gI_whole C q297 dX4_wearing_39 ?_
      refine r_topl (wWh w) hwo ?_
      refine r_lmul C dX4_wearing_42 ?_
      refine r_lcmp_ifle (tgt := 53) C dX4_wearing_43 dX4_wearing_44 (by decide) (fun c_43 => ?_) (fun c_43 => ?_)
      · skip
        refine r_iconst C dX4_wearing_53 ?_
        refine r_ior C (_) dX4_wearing_54 (jI_or (by omega) (by omega)) ?_
        refine r_istore_1 C dX4_wearing_55 ?_
        refine r_iinc_2 C dX4_wearing_56 ?_
        refine r_goto (tgt := 4) C dX4_wearing_59 (by decide) ?_
        refine ih _ (show (wS w - (k + 1)).toNat < mm by omega) (k + 1) _ (by omega) (by omega) ⟨bsO_0, bsO_4096 hs0.2 (by omega)⟩ ?_ rfl
        rw [setF_s hk0, ← es]
        first
          | rw [if_pos (decide_eq_true c_43)]
          | rw [if_neg (show ¬ decide (w 3 * wWh w < ((wSl w k).natAbs : Int)) = true by rw [decide_eq_false (by omega)]; simp), bsO_z hs0.1]
      · skip
        refine r_iconst C dX4_wearing_47 ?_
        refine r_iload_2 C dX4_wearing_48 ?_
        refine r_ishl C (_) dX4_wearing_49 (jI_shl (by omega) (by omega)) ?_
        refine r_goto (tgt := 54) C dX4_wearing_50 (by decide) ?_
        refine r_ior C (_) dX4_wearing_54 (jI_or (by omega) (by omega)) ?_
        refine r_istore_1 C dX4_wearing_55 ?_
        refine r_iinc_2 C dX4_wearing_56 ?_
        refine r_goto (tgt := 4) C dX4_wearing_59 (by decide) ?_
        refine ih _ (show (wS w - (k + 1)).toNat < mm by omega) (k + 1) _ (by omega) (by omega) ⟨bsO_0, bsO_4096 hs0.2 (by omega)⟩ ?_ rfl
        rw [setF_s hk0, ← es]
        first
          | rw [if_pos (decide_eq_true c_43)]
          | rw [if_neg (show ¬ decide (w 3 * wWh w < ((wSl w k).natAbs : Int)) = true by rw [decide_eq_false (by omega)]; simp), bsO_z hs0.1]
  refine r_iconst C dX4_wearing_0 ?_
  refine r_istore_1 C dX4_wearing_1 ?_
  refine r_iconst C dX4_wearing_2 ?_
  refine r_istore_2 C dX4_wearing_3 ?_
  exact key _ 0 0 (by omega) (by omega) (by omega) rfl rfl
theorem c_X4_ages_I (hG : Gok g) {w : Int → Int} (hd : Gd w) (hN : NB w n_columns n_rows n_limit n_wear n_straps n_from n_to) (hX : SX w i_width i_load i_pads) (hS : SS w i_reached i_place i_table i_drop i_size i_whole) : XMet g yX4_ages cX4_ages 3 (some .int) (6) 0 0 [.ref (σ 16)] (wX g σ x_tape x_taped x_faultKind x_faultPlace x_bestStarved x_bestMost x_bestWhole x_draws x_left x_mosts x_widened x_drawn x_img n_width n_from n_to n_load n_group n_budget n_columns n_rows n_limit n_wear n_straps n_pads n_lines n_mod n_asz n_el i_width i_load i_pads i_reached i_place i_table i_drop i_size i_whole t_width t_load t_pads t_reached t_place t_table t_drop t_size t_whole ++ ex) (pI (fun z ww => z = pc12 (wWe w) ∧ ∃ wd pl tb dr, SX (wAge w) wd i_load i_pads ∧ SS (wAge w) (wR (wAge w)) pl tb dr (wm (wAge w)) (wWh (wAge w)) ∧ ww = (wX g σ x_tape x_taped x_faultKind x_faultPlace x_bestStarved x_bestMost x_bestWhole x_draws x_left x_mosts x_widened x_drawn x_img n_width n_from n_to n_load n_group n_budget n_columns n_rows n_limit n_wear n_straps n_pads n_lines n_mod n_asz n_el (wd) i_load i_pads (wR (wAge w)) (pl) (tb) (dr) (wm (wAge w)) (wWh (wAge w)) t_width t_load t_pads t_reached t_place t_table t_drop t_size t_whole ++ ex))) := by
  refine XMet.of (L := [some (.ref (σ 16)), none, none]) hG (by decide +kernel) (Nat.le_of_ble_eq_true rfl) rfl (fun K C E => ?_)
  have hN2 := hN
  obtain ⟨hc, hr, hlm, hwe, hs, he⟩ := hN
  obtain ⟨hre, hpl, hsz, hRp, hdr, hwo⟩ := hS
  obtain ⟨hxw, hxl, hxp⟩ := hX
  have h12 := hd.s
  have hwi := wWe_in hd
  have hN3 : NB (wAge w) n_columns n_rows n_limit n_wear n_straps n_from n_to := ⟨by rw [wAge_lo (by omega)]; exact hc, by rw [wAge_lo (by omega)]; exact hr, by rw [wAge_lo (by omega)]; exact hlm, by rw [wAge_lo (by omega)]; exact hwe, by rw [hs]; unfold wS; rw [wAge_lo (by omega), wAge_lo (by omega)], fun k a b => by
    rw [wAge_lo (by omega), wAge_lo (by omega)]
    refine he k a ?_
    unfold wS at b ⊢
    rw [wAge_lo (by omega), wAge_lo (by omega)] at b
    exact b⟩
  refine r_aload_0 C dX4_ages_0 ?_
  refine r_cV0i C (c_X4_wearing_I hG hd hN2 hxw hre hwo hdr) (q0 := 16) rfl rfl q971 pkX4_wearing dX4_ages_1 (fun z w h => ?_)
  obtain ⟨rfl, rfl⟩ := h
  skip
  have key : ∀ (mm : Nat), ∀ (k : Int) (wd : Int → Int), (0 ≤ k) → (k ≤ wS w) → (∀ j, 0 ≤ j → j < k → wd j = wAge w (28 + j)) → (∀ j, k ≤ j → j < 12 → wd j = w (28 + j)) → (wS w - k).toNat = mm → AW g K (wX g σ x_tape x_taped x_faultKind x_faultPlace x_bestStarved x_bestMost x_bestWhole x_draws x_left x_mosts x_widened x_drawn x_img n_width n_from n_to n_load n_group n_budget n_columns n_rows n_limit n_wear n_straps n_pads n_lines n_mod n_asz n_el (wd) i_load i_pads i_reached i_place i_table i_drop i_size i_whole t_width t_load t_pads t_reached t_place t_table t_drop t_size t_whole ++ ex) 0 0 7 [some (.ref (σ 16)), some (.int (jI (wWe w))), some (.int (jI k))] [] := by
    intro mm
    induction mm using Nat.strongRecOn with
    | _ mm ih =>
    intro k wd hk0 hk h1 h2 hm
    refine r_iload_2 C dX4_ages_7 ?_
    refine r_aload_0 C dX4_ages_8 ?_
    refine gI_this011 C q299 dX4_ages_9 ?_
    refine gGN_now C q345 dX4_ages_12 ?_
    refine gTN_straps C q237 dX4_ages_15 ?_
    refine r_topi (wS w) hs ?_
    refine r_if_icmpge (tgt := 49) C dX4_ages_18 (by decide) (fun c_18 => ?_) (fun c_18 => ?_)
    · skip
      have ek : k = wS w := by omega
      subst ek
      have hX3 : SX (wAge w) wd i_load i_pads := ⟨fun j a b => by
        by_cases ej : j < wS w
        · exact h1 j a ej
        · rw [h2 j (by omega) b, wAge_hi (by omega)], fun v a b => by rw [wAge_lo (by omega)]; exact hxl v a b, by rw [wAge_lo (by omega)]; exact hxp⟩
      refine r_aload_0 C dX4_ages_49 ?_
      refine r_cV0a C (c_X4_solves_I hG hd.age hN3 hX3) (q0 := 16) rfl rfl q972 pkX4_solves dX4_ages_50 (fun z w h => ?_)
      obtain ⟨rfl, pl2, tb2, dr2, hS2, rfl⟩ := h
      refine r_pop C dX4_ages_53 ?_
      refine r_iload_1 C dX4_ages_54 ?_
      refine r_cS1i C (c_J10_bitCount hG hwi.1 hwi.2) q973 pkJ10_bitCount dX4_ages_55 (fun z w h => ?_)
      obtain ⟨rfl, rfl⟩ := h
      refine r_ireturn C E dX4_ages_58 ?_
      exact ⟨_, rfl, rfl, wd, pl2, tb2, dr2, hX3, hS2, rfl⟩
    · skip
      refine r_aload_0 C dX4_ages_21 ?_
      refine gII_width C q301 dX4_ages_22 ?_
      refine r_iload_2 C dX4_ages_25 ?_
      refine r_dup2 C dX4_ages_26 ?_
      refine ld_i_width C dX4_ages_27 ?_
      refine r_iload_1 C dX4_ages_28 ?_
      refine r_iload_2 C dX4_ages_29 ?_
      refine r_cSN2i C (c_X0_isOn hG (by omega) (by omega)) q735 pkX0_isOn dX4_ages_30 (fun z w h => ?_)
      obtain ⟨rfl, rfl⟩ := h
      refine r_ifeqB (tgt := 40) C dX4_ages_33 (by decide) (fun c_33 => ?_) (fun c_33 => ?_)
      · skip
        refine r_iconst C dX4_ages_40 ?_
        refine r_isub C dX4_ages_41 ?_
        refine st_i_width C dX4_ages_42 ?_
        refine r_iinc_2 C dX4_ages_43 ?_
        refine r_goto (tgt := 7) C dX4_ages_46 (by decide) ?_
        refine ih _ (show (wS w - (k + 1)).toNat < mm by omega) (k + 1) _ (by omega) (by omega) (fun j a b => ?_) (fun j a b => by rw [aset_ne (by omega)]; exact h2 j (by omega) b) rfl
        by_cases ej : j = k
        · rw [ej, aset_at, h2 k (Int.le_refl k) (by omega), wAge_at hd hk0 c_18]
          first
            | rw [if_pos c_33]
            | (rw [if_neg c_33]; omega)
        · rw [aset_ne ej]
          exact h1 j a (by omega)
      · skip
        refine r_iconst C dX4_ages_36 ?_
        refine r_goto (tgt := 41) C dX4_ages_37 (by decide) ?_
        refine r_isub C dX4_ages_41 ?_
        refine st_i_width C dX4_ages_42 ?_
        refine r_iinc_2 C dX4_ages_43 ?_
        refine r_goto (tgt := 7) C dX4_ages_46 (by decide) ?_
        refine ih _ (show (wS w - (k + 1)).toNat < mm by omega) (k + 1) _ (by omega) (by omega) (fun j a b => ?_) (fun j a b => by rw [aset_ne (by omega)]; exact h2 j (by omega) b) rfl
        by_cases ej : j = k
        · rw [ej, aset_at, h2 k (Int.le_refl k) (by omega), wAge_at hd hk0 c_18]
          first
            | rw [if_pos c_33]
            | (rw [if_neg c_33]; omega)
        · rw [aset_ne ej]
          exact h1 j a (by omega)
  refine r_istore_1 C dX4_ages_4 ?_
  refine r_iconst C dX4_ages_5 ?_
  refine r_istore_2 C dX4_ages_6 ?_
  exact key _ 0 i_width (by omega) (by omega) (fun j _ _ => by omega) (fun j a b => hxw j a b) rfl

theorem c_X4_dead_Y (hG : Gok g) {w : Int → Int} (hd : Gd w) (hN : NB w n_columns n_rows n_limit n_wear n_straps n_from n_to) (hre : t_reached = wR w) : XMet g yX4_dead cX4_dead 1 (some .int) (2) 0 0 [.ref (σ 31)] (wX g σ x_tape x_taped x_faultKind x_faultPlace x_bestStarved x_bestMost x_bestWhole x_draws x_left x_mosts x_widened x_drawn x_img n_width n_from n_to n_load n_group n_budget n_columns n_rows n_limit n_wear n_straps n_pads n_lines n_mod n_asz n_el i_width i_load i_pads i_reached i_place i_table i_drop i_size i_whole t_width t_load t_pads t_reached t_place t_table t_drop t_size t_whole ++ ex) (pI (fun z ww => z = wDead w ∧ ww = (wX g σ x_tape x_taped x_faultKind x_faultPlace x_bestStarved x_bestMost x_bestWhole x_draws x_left x_mosts x_widened x_drawn x_img n_width n_from n_to n_load n_group n_budget n_columns n_rows n_limit n_wear n_straps n_pads n_lines n_mod n_asz n_el i_width i_load i_pads i_reached i_place i_table i_drop i_size i_whole t_width t_load t_pads t_reached t_place t_table t_drop t_size t_whole ++ ex))) := by
  refine XMet.of (L := [some (.ref (σ 31))]) hG (by decide +kernel) (Nat.le_of_ble_eq_true rfl) rfl (fun K C E => ?_)
  obtain ⟨hc, hr, -⟩ := hN
  have hn := hd.n
  have h5 := hd.r
  have hp := hd.p5
  have hP := bsP_0 (k := wN w)
  refine r_iconst C dX4_dead_0 ?_
  refine r_aload_0 C dX4_dead_1 ?_
  refine r_cU0i C (c_X2_many_Y hG) (q0 := 31) rfl rfl q728 pkU_X2_many dX4_dead_2 (fun z w h => ?_)
  obtain ⟨rfl, rfl⟩ := h
  refine r_topi (wN w) (by rw [hc, hr]; rfl) ?_
  refine r_ishl C (_) dX4_dead_5 (jI_shl (by omega) (by omega)) ?_
  refine r_iconst C dX4_dead_6 ?_
  refine r_isub C dX4_dead_7 ?_
  refine r_aload_0 C dX4_dead_8 ?_
  refine gYI_reached C q312 dX4_dead_9 ?_
  refine r_iconst C dX4_dead_12 ?_
  refine r_ixor C (_) dX4_dead_13 (jI_not (by omega)) ?_
  refine r_iand C (_) dX4_dead_14 (jI_andn (by omega) (by omega)) ?_
  refine r_ireturn C E dX4_dead_15 ?_
  exact ⟨_, rfl, by rw [hre]; rfl, rfl⟩
theorem c_X4_worst_Y (hG : Gok g) {w : Int → Int} (hd : Gd w) (hN : NB w n_columns n_rows n_limit n_wear n_straps n_from n_to) (hre : t_reached = wR w) (hdr : ∀ v, 0 ≤ v → v < wN w → t_drop v = wDr w v) : XMet g yX4_worst cX4_worst 3 (some .int) (4) 0 0 [.ref (σ 31)] (wX g σ x_tape x_taped x_faultKind x_faultPlace x_bestStarved x_bestMost x_bestWhole x_draws x_left x_mosts x_widened x_drawn x_img n_width n_from n_to n_load n_group n_budget n_columns n_rows n_limit n_wear n_straps n_pads n_lines n_mod n_asz n_el i_width i_load i_pads i_reached i_place i_table i_drop i_size i_whole t_width t_load t_pads t_reached t_place t_table t_drop t_size t_whole ++ ex) (pI (fun z ww => z = wWo w ∧ ww = (wX g σ x_tape x_taped x_faultKind x_faultPlace x_bestStarved x_bestMost x_bestWhole x_draws x_left x_mosts x_widened x_drawn x_img n_width n_from n_to n_load n_group n_budget n_columns n_rows n_limit n_wear n_straps n_pads n_lines n_mod n_asz n_el i_width i_load i_pads i_reached i_place i_table i_drop i_size i_whole t_width t_load t_pads t_reached t_place t_table t_drop t_size t_whole ++ ex))) := by
  refine XMet.of (L := [some (.ref (σ 31)), none, none]) hG (by decide +kernel) (Nat.le_of_ble_eq_true rfl) rfl (fun K C E => ?_)
  obtain ⟨hc, hr, -⟩ := hN
  have hn := hd.n
  have h5 := hd.r
  have hp := hd.p5
  have key : ∀ (mm : Nat), ∀ (v b : Int), (0 ≤ v) → (v ≤ wN w) → (-1 ≤ b ∧ b < wN w) → (b = foI (fun v b => if bsB (wR w) v = true ∧ (b = -1 ∨ wDr w b < wDr w v) then v else b) (-1) v) → (wN w - v).toNat = mm → AW g K (wX g σ x_tape x_taped x_faultKind x_faultPlace x_bestStarved x_bestMost x_bestWhole x_draws x_left x_mosts x_widened x_drawn x_img n_width n_from n_to n_load n_group n_budget n_columns n_rows n_limit n_wear n_straps n_pads n_lines n_mod n_asz n_el i_width i_load i_pads i_reached i_place i_table i_drop i_size i_whole t_width t_load t_pads t_reached t_place t_table t_drop t_size t_whole ++ ex) 0 0 4 [some (.ref (σ 31)), some (.int (jI b)), some (.int (jI v))] [] := by
    intro mm
    induction mm using Nat.strongRecOn with
    | _ mm ih =>
    intro v b hv0 hv hb eb hm
    refine r_iload_2 C dX4_worst_4 ?_
    refine r_aload_0 C dX4_worst_5 ?_
    refine r_cU0i C (c_X2_many_Y hG) (q0 := 31) rfl rfl q728 pkU_X2_many dX4_worst_6 (fun z w h => ?_)
    obtain ⟨rfl, rfl⟩ := h
    refine r_topi (wN w) (by rw [hc, hr]; rfl) ?_
    refine r_if_icmpge (tgt := 49) C dX4_worst_9 (by decide) (fun c_9 => ?_) (fun c_9 => ?_)
    · skip
      refine r_iload_1 C dX4_worst_49 ?_
      refine r_ireturn C E dX4_worst_50 ?_
      have e : v = wN w := by omega
      subst e
      exact ⟨_, rfl, eb, rfl⟩
    · skip
      have hnb : isNb w v = true := by unfold isNb; exact decide_eq_true (by omega)
      have h1 := hd.dr hv0 c_9
      refine r_aload_0 C dX4_worst_12 ?_
      refine r_iload_2 C dX4_worst_13 ?_
      refine r_cV1i C (c_X4_isLive_Y hG (by unfold inR; omega) hc hr (by omega) (by omega)) (q0 := 31) rfl rfl q822 pkX4_isLive dX4_worst_14 (fun z w h => ?_)
      obtain ⟨rfl, rfl⟩ := h
      refine r_ifeqB (tgt := 43) C dX4_worst_17 (by decide) (fun c_17 => ?_) (fun c_17 => ?_)
      · skip
        refine r_iinc_2 C dX4_worst_43 ?_
        refine r_goto (tgt := 4) C dX4_worst_46 (by decide) ?_
        refine ih _ (show (wN w - (v + 1)).toNat < mm by omega) (v + 1) _ (by omega) (by omega) (by omega) ?_ rfl
        rw [foI_s _ _ hv0, ← eb]
        rw [hnb, hre, Bool.true_and] at c_17
        first
          | rw [if_neg (fun q => c_17 q.1)]
          | rw [if_pos (And.intro c_17 (Or.inl c_22))]
          | rw [if_pos (And.intro c_17 (Or.inr c_37))]
          | rw [if_neg (by rintro ⟨-, q⟩; omega)]
      · skip
        refine r_iload_1 C dX4_worst_20 ?_
        refine r_iconst C dX4_worst_21 ?_
        refine r_if_icmpeq (tgt := 41) C dX4_worst_22 (by decide) (fun c_22 => ?_) (fun c_22 => ?_)
        · skip
          refine r_iload_2 C dX4_worst_41 ?_
          refine r_istore_1 C dX4_worst_42 ?_
          refine r_iinc_2 C dX4_worst_43 ?_
          refine r_goto (tgt := 4) C dX4_worst_46 (by decide) ?_
          refine ih _ (show (wN w - (v + 1)).toNat < mm by omega) (v + 1) _ (by omega) (by omega) (by omega) ?_ rfl
          rw [foI_s _ _ hv0, ← eb]
          rw [hnb, hre, Bool.true_and] at c_17
          first
            | rw [if_neg (fun q => c_17 q.1)]
            | rw [if_pos (And.intro c_17 (Or.inl c_22))]
            | rw [if_pos (And.intro c_17 (Or.inr c_37))]
            | rw [if_neg (by rintro ⟨-, q⟩; omega)]
        · skip
          have h2 := hd.dr (v := b) (by omega) hb.2
          refine r_aload_0 C dX4_worst_25 ?_
          refine gY_drop C q294 dX4_worst_26 ?_
          refine r_iload_2 C dX4_worst_29 ?_
          refine ld_t_drop C dX4_worst_30 ?_
          refine r_topl (wDr w v) (hdr v hv0 c_9) ?_
          refine r_aload_0 C dX4_worst_31 ?_
          refine gY_drop C q294 dX4_worst_32 ?_
          refine r_iload_1 C dX4_worst_35 ?_
          refine ld_t_drop C dX4_worst_36 ?_
          refine r_topl (wDr w b) (hdr b (by omega) hb.2) ?_
          refine r_lcmp_ifle (tgt := 43) C dX4_worst_37 dX4_worst_38 (by decide) (fun c_37 => ?_) (fun c_37 => ?_)
          · skip
            refine r_iinc_2 C dX4_worst_43 ?_
            refine r_goto (tgt := 4) C dX4_worst_46 (by decide) ?_
            refine ih _ (show (wN w - (v + 1)).toNat < mm by omega) (v + 1) _ (by omega) (by omega) (by omega) ?_ rfl
            rw [foI_s _ _ hv0, ← eb]
            rw [hnb, hre, Bool.true_and] at c_17
            first
              | rw [if_neg (fun q => c_17 q.1)]
              | rw [if_pos (And.intro c_17 (Or.inl c_22))]
              | rw [if_pos (And.intro c_17 (Or.inr c_37))]
              | rw [if_neg (by rintro ⟨-, q⟩; omega)]
          · skip
            refine r_iload_2 C dX4_worst_41 ?_
            refine r_istore_1 C dX4_worst_42 ?_
            refine r_iinc_2 C dX4_worst_43 ?_
            refine r_goto (tgt := 4) C dX4_worst_46 (by decide) ?_
            refine ih _ (show (wN w - (v + 1)).toNat < mm by omega) (v + 1) _ (by omega) (by omega) (by omega) ?_ rfl
            rw [foI_s _ _ hv0, ← eb]
            rw [hnb, hre, Bool.true_and] at c_17
            first
              | rw [if_neg (fun q => c_17 q.1)]
              | rw [if_pos (And.intro c_17 (Or.inl c_22))]
              | rw [if_pos (And.intro c_17 (Or.inr c_37))]
              | rw [if_neg (by rintro ⟨-, q⟩; omega)]
  refine r_iconst C dX4_worst_0 ?_
  refine r_istore_1 C dX4_worst_1 ?_
  refine r_iconst C dX4_worst_2 ?_
  refine r_istore_2 C dX4_worst_3 ?_
  exact key _ 0 (-1) (by omega) (by omega) (by omega) rfl rfl
theorem c_X4_most_Y (hG : Gok g) {w : Int → Int} (hd : Gd w) (hN : NB w n_columns n_rows n_limit n_wear n_straps n_from n_to) (hre : t_reached = wR w) (hdr : ∀ v, 0 ≤ v → v < wN w → t_drop v = wDr w v) : XMet g yX4_most cX4_most 1 (some .long) (5) 0 0 [.ref (σ 31)] (wX g σ x_tape x_taped x_faultKind x_faultPlace x_bestStarved x_bestMost x_bestWhole x_draws x_left x_mosts x_widened x_drawn x_img n_width n_from n_to n_load n_group n_budget n_columns n_rows n_limit n_wear n_straps n_pads n_lines n_mod n_asz n_el i_width i_load i_pads i_reached i_place i_table i_drop i_size i_whole t_width t_load t_pads t_reached t_place t_table t_drop t_size t_whole ++ ex) (pL (fun z ww => z = wMx w ∧ ww = (wX g σ x_tape x_taped x_faultKind x_faultPlace x_bestStarved x_bestMost x_bestWhole x_draws x_left x_mosts x_widened x_drawn x_img n_width n_from n_to n_load n_group n_budget n_columns n_rows n_limit n_wear n_straps n_pads n_lines n_mod n_asz n_el i_width i_load i_pads i_reached i_place i_table i_drop i_size i_whole t_width t_load t_pads t_reached t_place t_table t_drop t_size t_whole ++ ex))) := by
  refine XMet.of (L := [some (.ref (σ 31))]) hG (by decide +kernel) (Nat.le_of_ble_eq_true rfl) rfl (fun K C E => ?_)
  have hn := hd.n
  have hwo := wWo_most hd
  have hin : wWo w = -1 ∨ (0 ≤ wWo w ∧ wWo w < wN w) := by
    rcases wWo_inv (w := w) (by omega) with h | h
    · exact Or.inl h.1
    · exact Or.inr ⟨h.1, h.2.1⟩
  refine r_aload_0 C dX4_most_0 ?_
  refine r_cV0i C (c_X4_worst_Y hG hd hN hre hdr) (q0 := 31) rfl rfl q1012 pkX4_worst dX4_most_1 (fun z w h => ?_)
  obtain ⟨rfl, rfl⟩ := h
  refine r_iconst C dX4_most_4 ?_
  refine r_if_icmpne (tgt := 12) C dX4_most_5 (by decide) (fun c_5 => ?_) (fun c_5 => ?_) (by unfold inR; omega)
  · skip
    refine r_aload_0 C dX4_most_12 ?_
    refine gY_drop C q294 dX4_most_13 ?_
    refine r_aload_0 C dX4_most_16 ?_
    refine r_cV0i C (c_X4_worst_Y hG hd hN hre hdr) (q0 := 31) rfl rfl q1012 pkX4_worst dX4_most_17 (fun z w h => ?_)
    obtain ⟨rfl, rfl⟩ := h
    refine ld_t_drop C dX4_most_20 ?_
    refine r_lreturn C E dX4_most_21 ?_
    refine ⟨_, rfl, ?_, rfl⟩
    first
      | (rw [if_pos c_5] at hwo; exact hwo)
      | (rw [if_neg c_5] at hwo; rw [hdr _ (by omega) (by omega)]; exact hwo)
  · skip
    refine r_lconst0 C dX4_most_8 ?_
    refine r_goto (tgt := 21) C dX4_most_9 (by decide) ?_
    refine r_lreturn C E dX4_most_21 ?_
    refine ⟨_, rfl, ?_, rfl⟩
    first
      | (rw [if_pos c_5] at hwo; exact hwo)
      | (rw [if_neg c_5] at hwo; rw [hdr _ (by omega) (by omega)]; exact hwo)
theorem c_X4_starved_Y (hG : Gok g) {w : Int → Int} (hd : Gd w) (hN : NB w n_columns n_rows n_limit n_wear n_straps n_from n_to) (hre : t_reached = wR w) (hld : ∀ v, 0 ≤ v → v < 9 → t_load v = w (6 + v)) : XMet g yX4_starved cX4_starved 3 (some .int) (4) 0 0 [.ref (σ 31)] (wX g σ x_tape x_taped x_faultKind x_faultPlace x_bestStarved x_bestMost x_bestWhole x_draws x_left x_mosts x_widened x_drawn x_img n_width n_from n_to n_load n_group n_budget n_columns n_rows n_limit n_wear n_straps n_pads n_lines n_mod n_asz n_el i_width i_load i_pads i_reached i_place i_table i_drop i_size i_whole t_width t_load t_pads t_reached t_place t_table t_drop t_size t_whole ++ ex) (pI (fun z ww => z = wDl w ∧ ww = (wX g σ x_tape x_taped x_faultKind x_faultPlace x_bestStarved x_bestMost x_bestWhole x_draws x_left x_mosts x_widened x_drawn x_img n_width n_from n_to n_load n_group n_budget n_columns n_rows n_limit n_wear n_straps n_pads n_lines n_mod n_asz n_el i_width i_load i_pads i_reached i_place i_table i_drop i_size i_whole t_width t_load t_pads t_reached t_place t_table t_drop t_size t_whole ++ ex))) := by
  refine XMet.of (L := [some (.ref (σ 31)), none, none]) hG (by decide +kernel) (Nat.le_of_ble_eq_true rfl) rfl (fun K C E => ?_)
  obtain ⟨hc, hr, -⟩ := hN
  have hn := hd.n
  have h5 := hd.r
  have hp := hd.p5
  have key : ∀ (mm : Nat), ∀ (v s : Int), (0 ≤ v) → (v ≤ wN w) → (s = foI (fun v s => s + if bsB (wR w) v = false ∧ 0 < w (6 + v) then 1 else 0) 0 v) → (wN w - v).toNat = mm → AW g K (wX g σ x_tape x_taped x_faultKind x_faultPlace x_bestStarved x_bestMost x_bestWhole x_draws x_left x_mosts x_widened x_drawn x_img n_width n_from n_to n_load n_group n_budget n_columns n_rows n_limit n_wear n_straps n_pads n_lines n_mod n_asz n_el i_width i_load i_pads i_reached i_place i_table i_drop i_size i_whole t_width t_load t_pads t_reached t_place t_table t_drop t_size t_whole ++ ex) 0 0 4 [some (.ref (σ 31)), some (.int (jI s)), some (.int (jI v))] [] := by
    intro mm
    induction mm using Nat.strongRecOn with
    | _ mm ih =>
    intro v s hv0 hv es hm
    refine r_iload_2 C dX4_starved_4 ?_
    refine r_aload_0 C dX4_starved_5 ?_
    refine r_cU0i C (c_X2_many_Y hG) (q0 := 31) rfl rfl q728 pkU_X2_many dX4_starved_6 (fun z w h => ?_)
    obtain ⟨rfl, rfl⟩ := h
    refine r_topi (wN w) (by rw [hc, hr]; rfl) ?_
    refine r_if_icmpge (tgt := 43) C dX4_starved_9 (by decide) (fun c_9 => ?_) (fun c_9 => ?_)
    · skip
      refine r_iload_1 C dX4_starved_43 ?_
      refine r_ireturn C E dX4_starved_44 ?_
      have e : v = wN w := by omega
      subst e
      exact ⟨_, rfl, es, rfl⟩
    · skip
      have hnb : isNb w v = true := by unfold isNb; exact decide_eq_true (by omega)
      have hl9 := hd.ld v hv0 (by omega)
      refine r_iload_1 C dX4_starved_12 ?_
      refine r_aload_0 C dX4_starved_13 ?_
      refine gYI_load C q305 dX4_starved_14 ?_
      refine r_iload_2 C dX4_starved_17 ?_
      refine ld_t_load C dX4_starved_18 ?_
      refine r_topi (w (6 + v)) (hld v hv0 (by omega)) ?_
      refine r_ifle (tgt := 34) C dX4_starved_19 (by decide) (fun c_19 => ?_) (fun c_19 => ?_)
      · skip
        refine r_iconst C dX4_starved_34 ?_
        refine r_iadd C dX4_starved_35 ?_
        refine r_istore_1 C dX4_starved_36 ?_
        refine r_iinc_2 C dX4_starved_37 ?_
        refine r_goto (tgt := 4) C dX4_starved_40 (by decide) ?_
        refine ih _ (show (wN w - (v + 1)).toNat < mm by omega) (v + 1) _ (by omega) (by omega) ?_ rfl
        rw [foI_s _ _ hv0, ← es]
        first
          | rw [if_neg (fun q => by have := q.2; omega)]
          | (rw [hnb, hre, Bool.true_and] at c_27
             first
               | (have h27 : bsB (wR w) v = true := c_27
                  rw [if_neg (fun q => Bool.false_ne_true (q.1.symm.trans h27))])
               | (have h27 : ¬ bsB (wR w) v = true := c_27
                  rw [if_pos (And.intro (Bool.eq_false_iff.mpr h27) c_19)]))
      · skip
        refine r_aload_0 C dX4_starved_22 ?_
        refine r_iload_2 C dX4_starved_23 ?_
        refine r_cV1i C (c_X4_isLive_Y hG (by unfold inR; omega) hc hr (by omega) (by omega)) (q0 := 31) rfl rfl q822 pkX4_isLive dX4_starved_24 (fun z w h => ?_)
        obtain ⟨rfl, rfl⟩ := h
        refine r_ifneB (tgt := 34) C dX4_starved_27 (by decide) (fun c_27 => ?_) (fun c_27 => ?_)
        · skip
          refine r_iconst C dX4_starved_34 ?_
          refine r_iadd C dX4_starved_35 ?_
          refine r_istore_1 C dX4_starved_36 ?_
          refine r_iinc_2 C dX4_starved_37 ?_
          refine r_goto (tgt := 4) C dX4_starved_40 (by decide) ?_
          refine ih _ (show (wN w - (v + 1)).toNat < mm by omega) (v + 1) _ (by omega) (by omega) ?_ rfl
          rw [foI_s _ _ hv0, ← es]
          first
            | rw [if_neg (fun q => by have := q.2; omega)]
            | (rw [hnb, hre, Bool.true_and] at c_27
               first
                 | (have h27 : bsB (wR w) v = true := c_27
                    rw [if_neg (fun q => Bool.false_ne_true (q.1.symm.trans h27))])
                 | (have h27 : ¬ bsB (wR w) v = true := c_27
                    rw [if_pos (And.intro (Bool.eq_false_iff.mpr h27) c_19)]))
        · skip
          refine r_iconst C dX4_starved_30 ?_
          refine r_goto (tgt := 35) C dX4_starved_31 (by decide) ?_
          refine r_iadd C dX4_starved_35 ?_
          refine r_istore_1 C dX4_starved_36 ?_
          refine r_iinc_2 C dX4_starved_37 ?_
          refine r_goto (tgt := 4) C dX4_starved_40 (by decide) ?_
          refine ih _ (show (wN w - (v + 1)).toNat < mm by omega) (v + 1) _ (by omega) (by omega) ?_ rfl
          rw [foI_s _ _ hv0, ← es]
          first
            | rw [if_neg (fun q => by have := q.2; omega)]
            | (rw [hnb, hre, Bool.true_and] at c_27
               first
                 | (have h27 : bsB (wR w) v = true := c_27
                    rw [if_neg (fun q => Bool.false_ne_true (q.1.symm.trans h27))])
                 | (have h27 : ¬ bsB (wR w) v = true := c_27
                    rw [if_pos (And.intro (Bool.eq_false_iff.mpr h27) c_19)]))
  refine r_iconst C dX4_starved_0 ?_
  refine r_istore_1 C dX4_starved_1 ?_
  refine r_iconst C dX4_starved_2 ?_
  refine r_istore_2 C dX4_starved_3 ?_
  exact key _ 0 0 (by omega) (by omega) rfl rfl
theorem c_X4_over_Y (hG : Gok g) {w : Int → Int} (hd : Gd w) (hN : NB w n_columns n_rows n_limit n_wear n_straps n_from n_to) (hre : t_reached = wR w) (hwo : t_whole = wWh w) (hdr : ∀ v, 0 ≤ v → v < wN w → t_drop v = wDr w v) : XMet g yX4_over cX4_over 4 (some .int) (4) 0 0 [.ref (σ 31), .ref (σ 36)] (wX g σ x_tape x_taped x_faultKind x_faultPlace x_bestStarved x_bestMost x_bestWhole x_draws x_left x_mosts x_widened x_drawn x_img n_width n_from n_to n_load n_group n_budget n_columns n_rows n_limit n_wear n_straps n_pads n_lines n_mod n_asz n_el i_width i_load i_pads i_reached i_place i_table i_drop i_size i_whole t_width t_load t_pads t_reached t_place t_table t_drop t_size t_whole ++ ex) (pI (fun z ww => z = setF (ovB w (wDr w)) (wN w) ∧ ww = (wX g σ x_tape x_taped x_faultKind x_faultPlace x_bestStarved x_bestMost x_bestWhole x_draws x_left x_mosts x_widened x_drawn x_img n_width n_from n_to n_load n_group n_budget n_columns n_rows n_limit n_wear n_straps n_pads n_lines n_mod n_asz n_el i_width i_load i_pads i_reached i_place i_table i_drop i_size i_whole t_width t_load t_pads t_reached t_place t_table t_drop t_size t_whole ++ ex))) := by
  refine XMet.of (L := [some (.ref (σ 31)), some (.ref (σ 36)), none, none]) hG (by decide +kernel) (Nat.le_of_ble_eq_true rfl) rfl (fun K C E => ?_)
  obtain ⟨hc, hr, hlm, -⟩ := hN
  have hn := hd.n
  have h5 := hd.r
  have hp := hd.p5
  have hli := lim_in hd
  have hl2 := hd.lim
  have key : ∀ (mm : Nat), ∀ (v s : Int), (0 ≤ v) → (v ≤ wN w) → (0 ≤ s ∧ s < 512) → (s = setF (ovB w (wDr w)) v) → (wN w - v).toNat = mm → AW g K (wX g σ x_tape x_taped x_faultKind x_faultPlace x_bestStarved x_bestMost x_bestWhole x_draws x_left x_mosts x_widened x_drawn x_img n_width n_from n_to n_load n_group n_budget n_columns n_rows n_limit n_wear n_straps n_pads n_lines n_mod n_asz n_el i_width i_load i_pads i_reached i_place i_table i_drop i_size i_whole t_width t_load t_pads t_reached t_place t_table t_drop t_size t_whole ++ ex) 0 0 4 [some (.ref (σ 31)), some (.ref (σ 36)), some (.int (jI s)), some (.int (jI v))] [] := by
    intro mm
    induction mm using Nat.strongRecOn with
    | _ mm ih =>
    intro v s hv0 hv hs0 es hm
    refine r_iload_3 C dX4_over_4 ?_
    refine r_aload_0 C dX4_over_5 ?_
    refine r_cU0i C (c_X2_many_Y hG) (q0 := 31) rfl rfl q728 pkU_X2_many dX4_over_6 (fun z w h => ?_)
    obtain ⟨rfl, rfl⟩ := h
    refine r_topi (wN w) (by rw [hc, hr]; rfl) ?_
    refine r_if_icmpge (tgt := 59) C dX4_over_9 (by decide) (fun c_9 => ?_) (fun c_9 => ?_)
    · skip
      refine r_iload_2 C dX4_over_59 ?_
      refine r_ireturn C E dX4_over_60 ?_
      have e : v = wN w := by omega
      subst e
      exact ⟨_, rfl, es, rfl⟩
    · skip
      have hnb : isNb w v = true := by unfold isNb; exact decide_eq_true (by omega)
      have h1 := hd.dr hv0 c_9
      have hP := bsP_9 hv0 (show v < 9 by omega)
      have hP0 := bsP_0 (k := v)
      refine r_iload_2 C dX4_over_12 ?_
      refine r_aload_0 C dX4_over_13 ?_
      refine r_iload_3 C dX4_over_14 ?_
      refine r_cV1i C (c_X4_isLive_Y hG (by unfold inR; omega) hc hr (by omega) (by omega)) (q0 := 31) rfl rfl q822 pkX4_isLive dX4_over_15 (fun z w h => ?_)
      obtain ⟨rfl, rfl⟩ := h
      refine r_ifeqB (tgt := 50) C dX4_over_18 (by decide) (fun c_18 => ?_) (fun c_18 => ?_)
      · skip
        refine r_iconst C dX4_over_50 ?_
        refine r_ior C (_) dX4_over_51 (jI_or (by omega) (by omega)) ?_
        refine r_istore_2 C dX4_over_52 ?_
        refine r_iinc_3 C dX4_over_53 ?_
        refine r_goto (tgt := 4) C dX4_over_56 (by decide) ?_
        refine ih _ (show (wN w - (v + 1)).toNat < mm by omega) (v + 1) _ (by omega) (by omega) ⟨bsO_0, bsO_512 hs0.2 (by omega)⟩ ?_ rfl
        rw [setF_s hv0, ← es]
        rw [hnb, hre, Bool.true_and] at c_18
        first
          | rw [if_pos (show ovB w (wDr w) v = true by unfold ovB; rw [c_18, decide_eq_true c_40]; rfl)]
          | rw [if_neg (show ¬ ovB w (wDr w) v = true by unfold ovB; rw [decide_eq_false (show ¬ w 2 * wWh w < wDr w v by omega)]; simp), bsO_z hs0.1]
          | rw [if_neg (show ¬ ovB w (wDr w) v = true by unfold ovB; simp [c_18]), bsO_z hs0.1]
      · skip
        refine r_aload_1 C dX4_over_21 ?_
        refine r_iload_3 C dX4_over_22 ?_
        refine ld_t_drop C dX4_over_23 ?_
        refine r_topl (wDr w v) (hdr v hv0 c_9) ?_
        refine r_aload_0 C dX4_over_24 ?_
        refine gY_this011 C q299 dX4_over_25 ?_
        refine gGN_now C q345 dX4_over_28 ?_
        refine gTN_limit C q229 dX4_over_31 ?_
        refine r_topi (w 2) hlm ?_
        refine r_i2l C dX4_over_34 ?_
        refine r_aload_0 C dX4_over_35 ?_
        refine gY_whole C q297 dX4_over_36 ?_
        refine r_topl (wWh w) hwo ?_
        refine r_lmul C dX4_over_39 ?_
        refine r_lcmp_ifle (tgt := 50) C dX4_over_40 dX4_over_41 (by decide) (fun c_40 => ?_) (fun c_40 => ?_)
        · skip
          refine r_iconst C dX4_over_50 ?_
          refine r_ior C (_) dX4_over_51 (jI_or (by omega) (by omega)) ?_
          refine r_istore_2 C dX4_over_52 ?_
          refine r_iinc_3 C dX4_over_53 ?_
          refine r_goto (tgt := 4) C dX4_over_56 (by decide) ?_
          refine ih _ (show (wN w - (v + 1)).toNat < mm by omega) (v + 1) _ (by omega) (by omega) ⟨bsO_0, bsO_512 hs0.2 (by omega)⟩ ?_ rfl
          rw [setF_s hv0, ← es]
          rw [hnb, hre, Bool.true_and] at c_18
          first
            | rw [if_pos (show ovB w (wDr w) v = true by unfold ovB; rw [c_18, decide_eq_true c_40]; rfl)]
            | rw [if_neg (show ¬ ovB w (wDr w) v = true by unfold ovB; rw [decide_eq_false (show ¬ w 2 * wWh w < wDr w v by omega)]; simp), bsO_z hs0.1]
            | rw [if_neg (show ¬ ovB w (wDr w) v = true by unfold ovB; simp [c_18]), bsO_z hs0.1]
        · skip
          refine r_iconst C dX4_over_44 ?_
          refine r_iload_3 C dX4_over_45 ?_
          refine r_ishl C (_) dX4_over_46 (jI_shl (by omega) (by omega)) ?_
          refine r_goto (tgt := 51) C dX4_over_47 (by decide) ?_
          refine r_ior C (_) dX4_over_51 (jI_or (by omega) (by omega)) ?_
          refine r_istore_2 C dX4_over_52 ?_
          refine r_iinc_3 C dX4_over_53 ?_
          refine r_goto (tgt := 4) C dX4_over_56 (by decide) ?_
          refine ih _ (show (wN w - (v + 1)).toNat < mm by omega) (v + 1) _ (by omega) (by omega) ⟨bsO_0, bsO_512 hs0.2 (by omega)⟩ ?_ rfl
          rw [setF_s hv0, ← es]
          rw [hnb, hre, Bool.true_and] at c_18
          first
            | rw [if_pos (show ovB w (wDr w) v = true by unfold ovB; rw [c_18, decide_eq_true c_40]; rfl)]
            | rw [if_neg (show ¬ ovB w (wDr w) v = true by unfold ovB; rw [decide_eq_false (show ¬ w 2 * wWh w < wDr w v by omega)]; simp), bsO_z hs0.1]
            | rw [if_neg (show ¬ ovB w (wDr w) v = true by unfold ovB; simp [c_18]), bsO_z hs0.1]
  refine r_iconst C dX4_over_0 ?_
  refine r_istore_2 C dX4_over_1 ?_
  refine r_iconst C dX4_over_2 ?_
  refine r_istore_3 C dX4_over_3 ?_
  exact key _ 0 0 (by omega) (by omega) (by omega) rfl rfl
theorem c_X4_holds_Y (hG : Gok g) {w : Int → Int} (hd : Gd w) (hN : NB w n_columns n_rows n_limit n_wear n_straps n_from n_to) (hre : t_reached = wR w) (hld : ∀ v, 0 ≤ v → v < 9 → t_load v = w (6 + v)) (hwo : t_whole = wWh w) (hdr : ∀ v, 0 ≤ v → v < wN w → t_drop v = wDr w v) : XMet g yX4_holds cX4_holds 1 (some .boolean) (5) 0 0 [.ref (σ 31)] (wX g σ x_tape x_taped x_faultKind x_faultPlace x_bestStarved x_bestMost x_bestWhole x_draws x_left x_mosts x_widened x_drawn x_img n_width n_from n_to n_load n_group n_budget n_columns n_rows n_limit n_wear n_straps n_pads n_lines n_mod n_asz n_el i_width i_load i_pads i_reached i_place i_table i_drop i_size i_whole t_width t_load t_pads t_reached t_place t_table t_drop t_size t_whole ++ ex) (pI (fun z ww => z = (if wHo w = true then 1 else 0) ∧ ww = (wX g σ x_tape x_taped x_faultKind x_faultPlace x_bestStarved x_bestMost x_bestWhole x_draws x_left x_mosts x_widened x_drawn x_img n_width n_from n_to n_load n_group n_budget n_columns n_rows n_limit n_wear n_straps n_pads n_lines n_mod n_asz n_el i_width i_load i_pads i_reached i_place i_table i_drop i_size i_whole t_width t_load t_pads t_reached t_place t_table t_drop t_size t_whole ++ ex))) := by
  refine XMet.of (L := [some (.ref (σ 31))]) hG (by decide +kernel) (Nat.le_of_ble_eq_true rfl) rfl (fun K C E => ?_)
  have hn := hd.n
  have hdl := hd.dl
  have hsb := (setF_bit (P := ovB w (wDr w)) (n := wN w) (by omega) (by omega)).1
  have hov := ov_hold hd
  refine r_aload_0 C dX4_holds_0 ?_
  refine r_cV0i C (c_X4_starved_Y hG hd hN hre hld) (q0 := 31) rfl rfl q867 pkX4_starved dX4_holds_1 (fun z w h => ?_)
  obtain ⟨rfl, rfl⟩ := h
  refine r_ifne (tgt := 22) C dX4_holds_4 (by decide) (fun c_4 => ?_) (fun c_4 => ?_)
  · skip
    refine r_iconst C dX4_holds_22 ?_
    refine r_zreturn C E dX4_holds_23 (by first | exact Or.inl rfl | exact Or.inr rfl | omega) ?_
    refine ⟨_, rfl, ?_, rfl⟩
    unfold wHo
    first
      | rw [if_pos (decide_eq_true (And.intro c_4 (hov.mp c_15)))]
      | rw [if_neg (fun q => c_15 (hov.mpr (of_decide_eq_true q).2))]
      | rw [if_neg (fun q => c_4 (of_decide_eq_true q).1)]
  · skip
    refine r_aload_0 C dX4_holds_7 ?_
    refine r_aload_0 C dX4_holds_8 ?_
    refine gY_drop C q294 dX4_holds_9 ?_
    refine r_cV1i C (c_X4_over_Y hG hd hN hre hwo hdr) (q0 := 31) rfl rfl q871 pkX4_over dX4_holds_12 (fun z w h => ?_)
    obtain ⟨rfl, rfl⟩ := h
    refine r_ifne (tgt := 22) C dX4_holds_15 (by decide) (fun c_15 => ?_) (fun c_15 => ?_)
    · skip
      refine r_iconst C dX4_holds_22 ?_
      refine r_zreturn C E dX4_holds_23 (by first | exact Or.inl rfl | exact Or.inr rfl | omega) ?_
      refine ⟨_, rfl, ?_, rfl⟩
      unfold wHo
      first
        | rw [if_pos (decide_eq_true (And.intro c_4 (hov.mp c_15)))]
        | rw [if_neg (fun q => c_15 (hov.mpr (of_decide_eq_true q).2))]
        | rw [if_neg (fun q => c_4 (of_decide_eq_true q).1)]
    · skip
      refine r_iconst C dX4_holds_18 ?_
      refine r_goto (tgt := 23) C dX4_holds_19 (by decide) ?_
      refine r_zreturn C E dX4_holds_23 (by first | exact Or.inl rfl | exact Or.inr rfl | omega) ?_
      refine ⟨_, rfl, ?_, rfl⟩
      unfold wHo
      first
        | rw [if_pos (decide_eq_true (And.intro c_4 (hov.mp c_15)))]
        | rw [if_neg (fun q => c_15 (hov.mpr (of_decide_eq_true q).2))]
        | rw [if_neg (fun q => c_4 (of_decide_eq_true q).1)]
theorem c_X4_slope_Y (hG : Gok g) {k : Int} {w : Int → Int} (hd : Gd w) (hN : NB w n_columns n_rows n_limit n_wear n_straps n_from n_to) (hxw : ∀ k, 0 ≤ k → k < 12 → t_width k = w (28 + k)) (hre : t_reached = wR w) (hdr : ∀ v, 0 ≤ v → v < wN w → t_drop v = wDr w v) (hk : 0 ≤ k ∧ k < wS w) : XMet g yX4_slope cX4_slope 2 (some .long) (4) 0 0 [.ref (σ 31), .int (jI k)] (wX g σ x_tape x_taped x_faultKind x_faultPlace x_bestStarved x_bestMost x_bestWhole x_draws x_left x_mosts x_widened x_drawn x_img n_width n_from n_to n_load n_group n_budget n_columns n_rows n_limit n_wear n_straps n_pads n_lines n_mod n_asz n_el i_width i_load i_pads i_reached i_place i_table i_drop i_size i_whole t_width t_load t_pads t_reached t_place t_table t_drop t_size t_whole ++ ex) (pL (fun z ww => z = wSl w k ∧ ww = (wX g σ x_tape x_taped x_faultKind x_faultPlace x_bestStarved x_bestMost x_bestWhole x_draws x_left x_mosts x_widened x_drawn x_img n_width n_from n_to n_load n_group n_budget n_columns n_rows n_limit n_wear n_straps n_pads n_lines n_mod n_asz n_el i_width i_load i_pads i_reached i_place i_table i_drop i_size i_whole t_width t_load t_pads t_reached t_place t_table t_drop t_size t_whole ++ ex))) := by
  refine XMet.of (L := [some (.ref (σ 31)), some (.int (jI k))]) hG (by decide +kernel) (Nat.le_of_ble_eq_true rfl) rfl (fun K C E => ?_)
  obtain ⟨hc, hr, hlm, hwe, hs, he⟩ := hN
  have hn := hd.n
  have h12 := hd.s
  have h5 := hd.r
  have hp := hd.p5
  have hin := sl_in hd.g hk.1 hk.2
  have hek := he k hk.1 hk.2
  have hwk := hd.wd k hk.1 (by omega)
  unfold wWd at hwk
  have hnn : wN w = w 0 * w 1 := rfl
  refine r_aload_0 C dX4_slope_0 ?_
  refine gYI_width C q301 dX4_slope_1 ?_
  refine r_iload_1 C dX4_slope_4 ?_
  refine ld_t_width C dX4_slope_5 ?_
  refine r_topi (w (28 + k)) (hxw k hk.1 (by omega)) ?_
  refine r_ifeq (tgt := 28) C dX4_slope_6 (by decide) (fun c_6 => ?_) (fun c_6 => ?_)
  · skip
    refine r_lconst0 C dX4_slope_28 ?_
    refine r_goto (tgt := 67) C dX4_slope_29 (by decide) ?_
    refine r_lreturn C E dX4_slope_67 ?_
    refine ⟨_, rfl, ?_, rfl⟩
    first
      | (unfold wSl; rw [if_pos c_6])
      | (have hnb : isNb w (sF (w 0) (w 1) k) = true := by unfold isNb; exact decide_eq_true (by omega)
         rw [hnb, hre, Bool.true_and] at c_25
         first
           | rw [wSl_dead hd hk.1 hk.2 (by simpa using c_25)]
           | (unfold wSl; rw [if_neg c_6]))
  · skip
    refine r_aload_0 C dX4_slope_9 ?_
    refine r_aload_0 C dX4_slope_10 ?_
    refine gY_this011 C q299 dX4_slope_11 ?_
    refine gGN_now C q345 dX4_slope_14 ?_
    refine gTN_from C q199 dX4_slope_17 ?_
    refine r_iload_1 C dX4_slope_20 ?_
    refine ld_n_from C dX4_slope_21 ?_
    refine r_topi (sF (w 0) (w 1) k) hek.1 ?_
    refine r_cV1i C (c_X4_isLive_Y hG (by unfold inR; omega) hc hr (by omega) (by omega)) (q0 := 31) rfl rfl q822 pkX4_isLive dX4_slope_22 (fun z w h => ?_)
    obtain ⟨rfl, rfl⟩ := h
    refine r_ifneB (tgt := 32) C dX4_slope_25 (by decide) (fun c_25 => ?_) (fun c_25 => ?_)
    · skip
      refine r_aload_0 C dX4_slope_32 ?_
      refine gY_drop C q294 dX4_slope_33 ?_
      refine r_aload_0 C dX4_slope_36 ?_
      refine gY_this011 C q299 dX4_slope_37 ?_
      refine gGN_now C q345 dX4_slope_40 ?_
      refine gTN_to C q203 dX4_slope_43 ?_
      refine r_iload_1 C dX4_slope_46 ?_
      refine ld_n_to C dX4_slope_47 ?_
      refine r_topi (sT (w 0) (w 1) k) hek.2 ?_
      refine ld_t_drop C dX4_slope_48 ?_
      refine r_topl (wDr w (sT (w 0) (w 1) k)) (hdr _ (by omega) (by omega)) ?_
      refine r_aload_0 C dX4_slope_49 ?_
      refine gY_drop C q294 dX4_slope_50 ?_
      refine r_aload_0 C dX4_slope_53 ?_
      refine gY_this011 C q299 dX4_slope_54 ?_
      refine gGN_now C q345 dX4_slope_57 ?_
      refine gTN_from C q199 dX4_slope_60 ?_
      refine r_iload_1 C dX4_slope_63 ?_
      refine ld_n_from C dX4_slope_64 ?_
      refine r_topi (sF (w 0) (w 1) k) hek.1 ?_
      refine ld_t_drop C dX4_slope_65 ?_
      refine r_topl (wDr w (sF (w 0) (w 1) k)) (hdr _ (by omega) (by omega)) ?_
      refine r_lsub C dX4_slope_66 ?_
      refine r_lreturn C E dX4_slope_67 ?_
      refine ⟨_, rfl, ?_, rfl⟩
      first
        | (unfold wSl; rw [if_pos c_6])
        | (have hnb : isNb w (sF (w 0) (w 1) k) = true := by unfold isNb; exact decide_eq_true (by omega)
           rw [hnb, hre, Bool.true_and] at c_25
           first
             | rw [wSl_dead hd hk.1 hk.2 (by simpa using c_25)]
             | (unfold wSl; rw [if_neg c_6]))
    · skip
      refine r_lconst0 C dX4_slope_28 ?_
      refine r_goto (tgt := 67) C dX4_slope_29 (by decide) ?_
      refine r_lreturn C E dX4_slope_67 ?_
      refine ⟨_, rfl, ?_, rfl⟩
      first
        | (unfold wSl; rw [if_pos c_6])
        | (have hnb : isNb w (sF (w 0) (w 1) k) = true := by unfold isNb; exact decide_eq_true (by omega)
           rw [hnb, hre, Bool.true_and] at c_25
           first
             | rw [wSl_dead hd hk.1 hk.2 (by simpa using c_25)]
             | (unfold wSl; rw [if_neg c_6]))
theorem c_X4_wearing_Y (hG : Gok g) {w : Int → Int} (hd : Gd w) (hN : NB w n_columns n_rows n_limit n_wear n_straps n_from n_to) (hxw : ∀ k, 0 ≤ k → k < 12 → t_width k = w (28 + k)) (hre : t_reached = wR w) (hwo : t_whole = wWh w) (hdr : ∀ v, 0 ≤ v → v < wN w → t_drop v = wDr w v) : XMet g yX4_wearing cX4_wearing 3 (some .int) (5) 0 0 [.ref (σ 31)] (wX g σ x_tape x_taped x_faultKind x_faultPlace x_bestStarved x_bestMost x_bestWhole x_draws x_left x_mosts x_widened x_drawn x_img n_width n_from n_to n_load n_group n_budget n_columns n_rows n_limit n_wear n_straps n_pads n_lines n_mod n_asz n_el i_width i_load i_pads i_reached i_place i_table i_drop i_size i_whole t_width t_load t_pads t_reached t_place t_table t_drop t_size t_whole ++ ex) (pI (fun z ww => z = wWe w ∧ ww = (wX g σ x_tape x_taped x_faultKind x_faultPlace x_bestStarved x_bestMost x_bestWhole x_draws x_left x_mosts x_widened x_drawn x_img n_width n_from n_to n_load n_group n_budget n_columns n_rows n_limit n_wear n_straps n_pads n_lines n_mod n_asz n_el i_width i_load i_pads i_reached i_place i_table i_drop i_size i_whole t_width t_load t_pads t_reached t_place t_table t_drop t_size t_whole ++ ex))) := by
  refine XMet.of (L := [some (.ref (σ 31)), none, none]) hG (by decide +kernel) (Nat.le_of_ble_eq_true rfl) rfl (fun K C E => ?_)
  have hN2 := hN
  obtain ⟨hc, hr, hlm, hwe, hs, he⟩ := hN
  have h12 := hd.s
  have hwr := wear_in hd
  have hw3 := hd.wear
  have key : ∀ (mm : Nat), ∀ (k s : Int), (0 ≤ k) → (k ≤ wS w) → (0 ≤ s ∧ s < 4096) → (s = setF (fun k => decide (w 3 * wWh w < ((wSl w k).natAbs : Int))) k) → (wS w - k).toNat = mm → AW g K (wX g σ x_tape x_taped x_faultKind x_faultPlace x_bestStarved x_bestMost x_bestWhole x_draws x_left x_mosts x_widened x_drawn x_img n_width n_from n_to n_load n_group n_budget n_columns n_rows n_limit n_wear n_straps n_pads n_lines n_mod n_asz n_el i_width i_load i_pads i_reached i_place i_table i_drop i_size i_whole t_width t_load t_pads t_reached t_place t_table t_drop t_size t_whole ++ ex) 0 0 4 [some (.ref (σ 31)), some (.int (jI s)), some (.int (jI k))] [] := by
    intro mm
    induction mm using Nat.strongRecOn with
    | _ mm ih =>
    intro k s hk0 hk hs0 es hm
    refine r_iload_2 C dX4_wearing_4 ?_
    refine r_aload_0 C dX4_wearing_5 ?_
    refine gY_this011 C q299 dX4_wearing_6 ?_
    refine gGN_now C q345 dX4_wearing_9 ?_
    refine gTN_straps C q237 dX4_wearing_12 ?_
    refine r_topi (wS w) hs ?_
    refine r_if_icmpge (tgt := 62) C dX4_wearing_15 (by decide) (fun c_15 => ?_) (fun c_15 => ?_)
    · skip
      refine r_iload_1 C dX4_wearing_62 ?_
      refine r_ireturn C E dX4_wearing_63 ?_
      have e : k = wS w := by omega
      subst e
      exact ⟨_, rfl, by rw [es, wWe_eq], rfl⟩
    · skip
      have hsl := wSl_in hd hk0 c_15
      have hP := bsP_12 hk0 (show k < 12 by omega)
      have hP0 := bsP_0 (k := k)
      refine r_iload_1 C dX4_wearing_18 ?_
      refine r_aload_0 C dX4_wearing_19 ?_
      refine r_iload_2 C dX4_wearing_20 ?_
      refine r_cV1l C (c_X4_slope_Y hG hd hN2 hxw hre hdr ⟨hk0, c_15⟩) (q0 := 31) rfl rfl q899 pkX4_slope dX4_wearing_21 (fun z w h => ?_)
      obtain ⟨rfl, rfl⟩ := h
      refine r_mabsL C q900 dX4_wearing_24 ?_
      refine r_aload_0 C dX4_wearing_27 ?_
      refine gY_this011 C q299 dX4_wearing_28 ?_
      refine gGN_now C q345 dX4_wearing_31 ?_
      refine gTN_wear C q233 dX4_wearing_34 ?_
      refine r_topi (w 3) hwe ?_
      refine r_i2l C dX4_wearing_37 ?_
      refine r_aload_0 C dX4_wearing_38 ?_
      refine gY_whole C q297 dX4_wearing_39 ?_
      refine r_topl (wWh w) hwo ?_
      refine r_lmul C dX4_wearing_42 ?_
      refine r_lcmp_ifle (tgt := 53) C dX4_wearing_43 dX4_wearing_44 (by decide) (fun c_43 => ?_) (fun c_43 => ?_)
      · skip
        refine r_iconst C dX4_wearing_53 ?_
        refine r_ior C (_) dX4_wearing_54 (jI_or (by omega) (by omega)) ?_
        refine r_istore_1 C dX4_wearing_55 ?_
        refine r_iinc_2 C dX4_wearing_56 ?_
        refine r_goto (tgt := 4) C dX4_wearing_59 (by decide) ?_
        refine ih _ (show (wS w - (k + 1)).toNat < mm by omega) (k + 1) _ (by omega) (by omega) ⟨bsO_0, bsO_4096 hs0.2 (by omega)⟩ ?_ rfl
        rw [setF_s hk0, ← es]
        first
          | rw [if_pos (decide_eq_true c_43)]
          | rw [if_neg (show ¬ decide (w 3 * wWh w < ((wSl w k).natAbs : Int)) = true by rw [decide_eq_false (by omega)]; simp), bsO_z hs0.1]
      · skip
        refine r_iconst C dX4_wearing_47 ?_
        refine r_iload_2 C dX4_wearing_48 ?_
        refine r_ishl C (_) dX4_wearing_49 (jI_shl (by omega) (by omega)) ?_
        refine r_goto (tgt := 54) C dX4_wearing_50 (by decide) ?_
        refine r_ior C (_) dX4_wearing_54 (jI_or (by omega) (by omega)) ?_
        refine r_istore_1 C dX4_wearing_55 ?_
        refine r_iinc_2 C dX4_wearing_56 ?_
        refine r_goto (tgt := 4) C dX4_wearing_59 (by decide) ?_
        refine ih _ (show (wS w - (k + 1)).toNat < mm by omega) (k + 1) _ (by omega) (by omega) ⟨bsO_0, bsO_4096 hs0.2 (by omega)⟩ ?_ rfl
        rw [setF_s hk0, ← es]
        first
          | rw [if_pos (decide_eq_true c_43)]
          | rw [if_neg (show ¬ decide (w 3 * wWh w < ((wSl w k).natAbs : Int)) = true by rw [decide_eq_false (by omega)]; simp), bsO_z hs0.1]
  refine r_iconst C dX4_wearing_0 ?_
  refine r_istore_1 C dX4_wearing_1 ?_
  refine r_iconst C dX4_wearing_2 ?_
  refine r_istore_2 C dX4_wearing_3 ?_
  exact key _ 0 0 (by omega) (by omega) (by omega) rfl rfl
theorem c_X4_ages_Y (hG : Gok g) {w : Int → Int} (hd : Gd w) (hN : NB w n_columns n_rows n_limit n_wear n_straps n_from n_to) (hX : SX w t_width t_load t_pads) (hS : SS w t_reached t_place t_table t_drop t_size t_whole) : XMet g yX4_ages cX4_ages 3 (some .int) (6) 0 0 [.ref (σ 31)] (wX g σ x_tape x_taped x_faultKind x_faultPlace x_bestStarved x_bestMost x_bestWhole x_draws x_left x_mosts x_widened x_drawn x_img n_width n_from n_to n_load n_group n_budget n_columns n_rows n_limit n_wear n_straps n_pads n_lines n_mod n_asz n_el i_width i_load i_pads i_reached i_place i_table i_drop i_size i_whole t_width t_load t_pads t_reached t_place t_table t_drop t_size t_whole ++ ex) (pI (fun z ww => z = pc12 (wWe w) ∧ ∃ wd pl tb dr, SX (wAge w) wd t_load t_pads ∧ SS (wAge w) (wR (wAge w)) pl tb dr (wm (wAge w)) (wWh (wAge w)) ∧ ww = (wX g σ x_tape x_taped x_faultKind x_faultPlace x_bestStarved x_bestMost x_bestWhole x_draws x_left x_mosts x_widened x_drawn x_img n_width n_from n_to n_load n_group n_budget n_columns n_rows n_limit n_wear n_straps n_pads n_lines n_mod n_asz n_el i_width i_load i_pads i_reached i_place i_table i_drop i_size i_whole (wd) t_load t_pads (wR (wAge w)) (pl) (tb) (dr) (wm (wAge w)) (wWh (wAge w)) ++ ex))) := by
  refine XMet.of (L := [some (.ref (σ 31)), none, none]) hG (by decide +kernel) (Nat.le_of_ble_eq_true rfl) rfl (fun K C E => ?_)
  have hN2 := hN
  obtain ⟨hc, hr, hlm, hwe, hs, he⟩ := hN
  obtain ⟨hre, hpl, hsz, hRp, hdr, hwo⟩ := hS
  obtain ⟨hxw, hxl, hxp⟩ := hX
  have h12 := hd.s
  have hwi := wWe_in hd
  have hN3 : NB (wAge w) n_columns n_rows n_limit n_wear n_straps n_from n_to := ⟨by rw [wAge_lo (by omega)]; exact hc, by rw [wAge_lo (by omega)]; exact hr, by rw [wAge_lo (by omega)]; exact hlm, by rw [wAge_lo (by omega)]; exact hwe, by rw [hs]; unfold wS; rw [wAge_lo (by omega), wAge_lo (by omega)], fun k a b => by
    rw [wAge_lo (by omega), wAge_lo (by omega)]
    refine he k a ?_
    unfold wS at b ⊢
    rw [wAge_lo (by omega), wAge_lo (by omega)] at b
    exact b⟩
  refine r_aload_0 C dX4_ages_0 ?_
  refine r_cV0i C (c_X4_wearing_Y hG hd hN2 hxw hre hwo hdr) (q0 := 31) rfl rfl q971 pkX4_wearing dX4_ages_1 (fun z w h => ?_)
  obtain ⟨rfl, rfl⟩ := h
  skip
  have key : ∀ (mm : Nat), ∀ (k : Int) (wd : Int → Int), (0 ≤ k) → (k ≤ wS w) → (∀ j, 0 ≤ j → j < k → wd j = wAge w (28 + j)) → (∀ j, k ≤ j → j < 12 → wd j = w (28 + j)) → (wS w - k).toNat = mm → AW g K (wX g σ x_tape x_taped x_faultKind x_faultPlace x_bestStarved x_bestMost x_bestWhole x_draws x_left x_mosts x_widened x_drawn x_img n_width n_from n_to n_load n_group n_budget n_columns n_rows n_limit n_wear n_straps n_pads n_lines n_mod n_asz n_el i_width i_load i_pads i_reached i_place i_table i_drop i_size i_whole (wd) t_load t_pads t_reached t_place t_table t_drop t_size t_whole ++ ex) 0 0 7 [some (.ref (σ 31)), some (.int (jI (wWe w))), some (.int (jI k))] [] := by
    intro mm
    induction mm using Nat.strongRecOn with
    | _ mm ih =>
    intro k wd hk0 hk h1 h2 hm
    refine r_iload_2 C dX4_ages_7 ?_
    refine r_aload_0 C dX4_ages_8 ?_
    refine gY_this011 C q299 dX4_ages_9 ?_
    refine gGN_now C q345 dX4_ages_12 ?_
    refine gTN_straps C q237 dX4_ages_15 ?_
    refine r_topi (wS w) hs ?_
    refine r_if_icmpge (tgt := 49) C dX4_ages_18 (by decide) (fun c_18 => ?_) (fun c_18 => ?_)
    · skip
      have ek : k = wS w := by omega
      subst ek
      have hX3 : SX (wAge w) wd t_load t_pads := ⟨fun j a b => by
        by_cases ej : j < wS w
        · exact h1 j a ej
        · rw [h2 j (by omega) b, wAge_hi (by omega)], fun v a b => by rw [wAge_lo (by omega)]; exact hxl v a b, by rw [wAge_lo (by omega)]; exact hxp⟩
      refine r_aload_0 C dX4_ages_49 ?_
      refine r_cV0a C (c_X4_solves_Y hG hd.age hN3 hX3) (q0 := 31) rfl rfl q972 pkX4_solves dX4_ages_50 (fun z w h => ?_)
      obtain ⟨rfl, pl2, tb2, dr2, hS2, rfl⟩ := h
      refine r_pop C dX4_ages_53 ?_
      refine r_iload_1 C dX4_ages_54 ?_
      refine r_cS1i C (c_J10_bitCount hG hwi.1 hwi.2) q973 pkJ10_bitCount dX4_ages_55 (fun z w h => ?_)
      obtain ⟨rfl, rfl⟩ := h
      refine r_ireturn C E dX4_ages_58 ?_
      exact ⟨_, rfl, rfl, wd, pl2, tb2, dr2, hX3, hS2, rfl⟩
    · skip
      refine r_aload_0 C dX4_ages_21 ?_
      refine gYI_width C q301 dX4_ages_22 ?_
      refine r_iload_2 C dX4_ages_25 ?_
      refine r_dup2 C dX4_ages_26 ?_
      refine ld_t_width C dX4_ages_27 ?_
      refine r_iload_1 C dX4_ages_28 ?_
      refine r_iload_2 C dX4_ages_29 ?_
      refine r_cSN2i C (c_X0_isOn hG (by omega) (by omega)) q735 pkX0_isOn dX4_ages_30 (fun z w h => ?_)
      obtain ⟨rfl, rfl⟩ := h
      refine r_ifeqB (tgt := 40) C dX4_ages_33 (by decide) (fun c_33 => ?_) (fun c_33 => ?_)
      · skip
        refine r_iconst C dX4_ages_40 ?_
        refine r_isub C dX4_ages_41 ?_
        refine st_t_width C dX4_ages_42 ?_
        refine r_iinc_2 C dX4_ages_43 ?_
        refine r_goto (tgt := 7) C dX4_ages_46 (by decide) ?_
        refine ih _ (show (wS w - (k + 1)).toNat < mm by omega) (k + 1) _ (by omega) (by omega) (fun j a b => ?_) (fun j a b => by rw [aset_ne (by omega)]; exact h2 j (by omega) b) rfl
        by_cases ej : j = k
        · rw [ej, aset_at, h2 k (Int.le_refl k) (by omega), wAge_at hd hk0 c_18]
          first
            | rw [if_pos c_33]
            | (rw [if_neg c_33]; omega)
        · rw [aset_ne ej]
          exact h1 j a (by omega)
      · skip
        refine r_iconst C dX4_ages_36 ?_
        refine r_goto (tgt := 41) C dX4_ages_37 (by decide) ?_
        refine r_isub C dX4_ages_41 ?_
        refine st_t_width C dX4_ages_42 ?_
        refine r_iinc_2 C dX4_ages_43 ?_
        refine r_goto (tgt := 7) C dX4_ages_46 (by decide) ?_
        refine ih _ (show (wS w - (k + 1)).toNat < mm by omega) (k + 1) _ (by omega) (by omega) (fun j a b => ?_) (fun j a b => by rw [aset_ne (by omega)]; exact h2 j (by omega) b) rfl
        by_cases ej : j = k
        · rw [ej, aset_at, h2 k (Int.le_refl k) (by omega), wAge_at hd hk0 c_18]
          first
            | rw [if_pos c_33]
            | (rw [if_neg c_33]; omega)
        · rw [aset_ne ej]
          exact h1 j a (by omega)
  refine r_istore_1 C dX4_ages_4 ?_
  refine r_iconst C dX4_ages_5 ?_
  refine r_istore_2 C dX4_ages_6 ?_
  exact key _ 0 t_width (by omega) (by omega) (fun j _ _ => by omega) (fun j a b => hxw j a b) rfl

theorem c_isMore_step {ws : va_W} (hG : Gok g) {D : Nat} {a b c e : Int} (ha : 0 ≤ a ∧ a ≤ 9223372036854775807) (hb : 0 < b ∧ b ≤ 9223372036854775807) (hc : 0 ≤ c ∧ c ≤ 9223372036854775807) (he : 0 < e ∧ e ≤ 9223372036854775807) (hrec : a % b ≠ 0 → c % e ≠ 0 → XMet g yX0_isMore cX0_isMore 12 (some .boolean) D 0 0 [.long (jL e), .long (jL (c % e)), .long (jL b), .long (jL (a % b))] ws (pI (fun z w => z = (if 0 < cmpF e (c % e) b (a % b) then 1 else 0) ∧ w = ws))) : XMet g yX0_isMore cX0_isMore 12 (some .boolean) (D+1) 0 0 [.long (jL a), .long (jL b), .long (jL c), .long (jL e)] ws (pI (fun z w => z = (if 0 < cmpF a b c e then 1 else 0) ∧ w = ws)) := by
  refine XMet.of (L := [some (.long (jL a)), none, some (.long (jL b)), none, some (.long (jL c)), none, some (.long (jL e)), none, none, none, none, none]) hG (by decide +kernel) (Nat.le_of_ble_eq_true rfl) rfl (fun K C E => ?_)
  have q1 := Int.ediv_nonneg ha.1 (Int.le_of_lt hb.1)
  have q2 := Int.ediv_nonneg hc.1 (Int.le_of_lt he.1)
  have q3 := Int.ediv_le_self b ha.1
  have q4 := Int.ediv_le_self e hc.1
  have q5 := Int.emod_nonneg a (show b ≠ 0 by omega)
  have q6 := Int.emod_lt_of_pos a hb.1
  have q7 := Int.emod_nonneg c (show e ≠ 0 by omega)
  have q8 := Int.emod_lt_of_pos c he.1
  refine r_lload_0 C dX0_isMore_0 ?_
  refine r_lload_2 C dX0_isMore_1 ?_
  refine r_ldiv C dX0_isMore_2 ?_
  refine r_topl (a / b) (pl_tdiv ha.1) ?_
  refine r_lload_4 C dX0_isMore_3 ?_
  refine r_lload_6 C dX0_isMore_5 ?_
  refine r_ldiv C dX0_isMore_7 ?_
  refine r_topl (c / e) (pl_tdiv hc.1) ?_
  refine r_lcmp_ifeq (tgt := 30) C dX0_isMore_8 dX0_isMore_9 (by decide) (fun c_8 => ?_) (fun c_8 => ?_)
  · skip
    refine r_lload_0 C dX0_isMore_30 ?_
    refine r_lload_2 C dX0_isMore_31 ?_
    refine r_lrem C dX0_isMore_32 ?_
    refine r_topl (a % b) (pl_tmod ha.1) ?_
    refine r_lstore_8 C dX0_isMore_33 ?_
    refine r_lload_4 C dX0_isMore_35 ?_
    refine r_lload_6 C dX0_isMore_37 ?_
    refine r_lrem C dX0_isMore_39 ?_
    refine r_topl (c % e) (pl_tmod hc.1) ?_
    refine r_lstore_10 C dX0_isMore_40 ?_
    refine r_lload_8 C dX0_isMore_42 ?_
    refine r_lconst0 C dX0_isMore_44 ?_
    refine r_lcmp_ifeq (tgt := 56) C dX0_isMore_45 dX0_isMore_46 (by decide) (fun c_45 => ?_) (fun c_45 => ?_)
    · skip
      refine r_lload_8 C dX0_isMore_56 ?_
      refine r_lconst0 C dX0_isMore_58 ?_
      refine r_lcmp_ifle (tgt := 67) C dX0_isMore_59 dX0_isMore_60 (by decide) (fun c_59 => ?_) (fun c_59 => ?_)
      · skip
        refine r_iconst C dX0_isMore_67 ?_
        refine r_zreturn C E dX0_isMore_68 (by first | exact Or.inl rfl | exact Or.inr rfl | omega) ?_
        refine ⟨_, rfl, ?_, rfl⟩
        rw [cmpF_rem hb.1 he.1 c_8]
        first
          | (exfalso; omega)
          | (have e0 : a % b = 0 := c_45
             rw [e0, cmpF_p0 hb.1 he.1 q7]
             rw [if_neg (show ¬ (0 : Int) < (if c % e = 0 then 0 else -1) by split <;> omega)])
          | (have e0 : c % e = 0 := c_52
             rw [e0, cmpF_q0 he.1 q5]
             rw [if_neg c_45, if_pos (by decide)])
      · skip
        refine r_iconst C dX0_isMore_63 ?_
        refine r_goto (tgt := 68) C dX0_isMore_64 (by decide) ?_
        refine r_zreturn C E dX0_isMore_68 (by first | exact Or.inl rfl | exact Or.inr rfl | omega) ?_
        refine ⟨_, rfl, ?_, rfl⟩
        rw [cmpF_rem hb.1 he.1 c_8]
        first
          | (exfalso; omega)
          | (have e0 : a % b = 0 := c_45
             rw [e0, cmpF_p0 hb.1 he.1 q7]
             rw [if_neg (show ¬ (0 : Int) < (if c % e = 0 then 0 else -1) by split <;> omega)])
          | (have e0 : c % e = 0 := c_52
             rw [e0, cmpF_q0 he.1 q5]
             rw [if_neg c_45, if_pos (by decide)])
    · skip
      refine r_lload_10 C dX0_isMore_49 ?_
      refine r_lconst0 C dX0_isMore_51 ?_
      refine r_lcmp_ifne (tgt := 69) C dX0_isMore_52 dX0_isMore_53 (by decide) (fun c_52 => ?_) (fun c_52 => ?_)
      · skip
        refine r_lload_6 C dX0_isMore_69 ?_
        refine r_lload_10 C dX0_isMore_71 ?_
        refine r_lload_2 C dX0_isMore_73 ?_
        refine r_lload_8 C dX0_isMore_74 ?_
        refine r_cS4i C (hrec c_45 c_52) q1013 pkX0_isMore dX0_isMore_76 (fun z w h => ?_)
        obtain ⟨rfl, rfl⟩ := h
        refine r_zreturnB C E dX0_isMore_79 ?_
        refine ⟨_, rfl, ?_, rfl⟩
        rw [cmpF_rem hb.1 he.1 c_8, cmpF_inv (b := b) (p := a % b) (d := e) (q := c % e), ← cmpF_sym b (a % b) e (c % e)]
      · skip
        refine r_lload_8 C dX0_isMore_56 ?_
        refine r_lconst0 C dX0_isMore_58 ?_
        refine r_lcmp_ifle (tgt := 67) C dX0_isMore_59 dX0_isMore_60 (by decide) (fun c_59 => ?_) (fun c_59 => ?_)
        · skip
          refine r_iconst C dX0_isMore_67 ?_
          refine r_zreturn C E dX0_isMore_68 (by first | exact Or.inl rfl | exact Or.inr rfl | omega) ?_
          refine ⟨_, rfl, ?_, rfl⟩
          rw [cmpF_rem hb.1 he.1 c_8]
          first
            | (exfalso; omega)
            | (have e0 : a % b = 0 := c_45
               rw [e0, cmpF_p0 hb.1 he.1 q7]
               rw [if_neg (show ¬ (0 : Int) < (if c % e = 0 then 0 else -1) by split <;> omega)])
            | (have e0 : c % e = 0 := c_52
               rw [e0, cmpF_q0 he.1 q5]
               rw [if_neg c_45, if_pos (by decide)])
        · skip
          refine r_iconst C dX0_isMore_63 ?_
          refine r_goto (tgt := 68) C dX0_isMore_64 (by decide) ?_
          refine r_zreturn C E dX0_isMore_68 (by first | exact Or.inl rfl | exact Or.inr rfl | omega) ?_
          refine ⟨_, rfl, ?_, rfl⟩
          rw [cmpF_rem hb.1 he.1 c_8]
          first
            | (exfalso; omega)
            | (have e0 : a % b = 0 := c_45
               rw [e0, cmpF_p0 hb.1 he.1 q7]
               rw [if_neg (show ¬ (0 : Int) < (if c % e = 0 then 0 else -1) by split <;> omega)])
            | (have e0 : c % e = 0 := c_52
               rw [e0, cmpF_q0 he.1 q5]
               rw [if_neg c_45, if_pos (by decide)])
  · skip
    refine r_lload_0 C dX0_isMore_12 ?_
    refine r_lload_2 C dX0_isMore_13 ?_
    refine r_ldiv C dX0_isMore_14 ?_
    refine r_topl (a / b) (pl_tdiv ha.1) ?_
    refine r_lload_4 C dX0_isMore_15 ?_
    refine r_lload_6 C dX0_isMore_17 ?_
    refine r_ldiv C dX0_isMore_19 ?_
    refine r_topl (c / e) (pl_tdiv hc.1) ?_
    refine r_lcmp_ifle (tgt := 28) C dX0_isMore_20 dX0_isMore_21 (by decide) (fun c_20 => ?_) (fun c_20 => ?_)
    · skip
      refine r_iconst C dX0_isMore_28 ?_
      refine r_zreturn C E dX0_isMore_29 (by first | exact Or.inl rfl | exact Or.inr rfl | omega) ?_
      refine ⟨_, rfl, ?_, rfl⟩
      rw [cmpF_div hb.1 he.1 c_8]
      first
        | rw [if_neg (show ¬ a / b < c / e by omega), if_pos (by decide)]
        | rw [if_pos (show a / b < c / e by omega), if_neg (by decide)]
    · skip
      refine r_iconst C dX0_isMore_24 ?_
      refine r_goto (tgt := 29) C dX0_isMore_25 (by decide) ?_
      refine r_zreturn C E dX0_isMore_29 (by first | exact Or.inl rfl | exact Or.inr rfl | omega) ?_
      refine ⟨_, rfl, ?_, rfl⟩
      rw [cmpF_div hb.1 he.1 c_8]
      first
        | rw [if_neg (show ¬ a / b < c / e by omega), if_pos (by decide)]
        | rw [if_pos (show a / b < c / e by omega), if_neg (by decide)]
theorem c_X0_isMore2 {ws : va_W} (hG : Gok g) : ∀ n : Nat, (∀ {a b c e : Int}, 0 ≤ a ∧ a ≤ 9223372036854775807 → 0 < b ∧ b ≤ 9223372036854775807 → 0 ≤ c ∧ c ≤ 9223372036854775807 → 0 < e ∧ e ≤ 9223372036854775807 → b < ((2 ^ n : Nat) : Int) → XMet g yX0_isMore cX0_isMore 12 (some .boolean) (2 * n) 0 0 [.long (jL a), .long (jL b), .long (jL c), .long (jL e)] ws (pI (fun z w => z = (if 0 < cmpF a b c e then 1 else 0) ∧ w = ws))) ∧ (∀ {a b c e : Int}, 0 ≤ a ∧ a ≤ 9223372036854775807 → 0 < b ∧ b ≤ 9223372036854775807 → 0 ≤ c ∧ c ≤ 9223372036854775807 → 0 < e ∧ e ≤ 9223372036854775807 → c % e < ((2 ^ n : Nat) : Int) → XMet g yX0_isMore cX0_isMore 12 (some .boolean) (2 * n + 1) 0 0 [.long (jL a), .long (jL b), .long (jL c), .long (jL e)] ws (pI (fun z w => z = (if 0 < cmpF a b c e then 1 else 0) ∧ w = ws))) := by
  have stepQ : ∀ n : Nat, (∀ {a b c e : Int}, 0 ≤ a ∧ a ≤ 9223372036854775807 → 0 < b ∧ b ≤ 9223372036854775807 → 0 ≤ c ∧ c ≤ 9223372036854775807 → 0 < e ∧ e ≤ 9223372036854775807 → b < ((2 ^ n : Nat) : Int) → XMet g yX0_isMore cX0_isMore 12 (some .boolean) (2 * n) 0 0 [.long (jL a), .long (jL b), .long (jL c), .long (jL e)] ws (pI (fun z w => z = (if 0 < cmpF a b c e then 1 else 0) ∧ w = ws))) → (∀ {a b c e : Int}, 0 ≤ a ∧ a ≤ 9223372036854775807 → 0 < b ∧ b ≤ 9223372036854775807 → 0 ≤ c ∧ c ≤ 9223372036854775807 → 0 < e ∧ e ≤ 9223372036854775807 → c % e < ((2 ^ n : Nat) : Int) → XMet g yX0_isMore cX0_isMore 12 (some .boolean) (2 * n + 1) 0 0 [.long (jL a), .long (jL b), .long (jL c), .long (jL e)] ws (pI (fun z w => z = (if 0 < cmpF a b c e then 1 else 0) ∧ w = ws))) := by
    intro n hP a b c e ha hb hc he hlt
    refine c_isMore_step hG ha hb hc he (fun h1 h2 => ?_)
    have q5 := Int.emod_nonneg a (show b ≠ 0 by omega)
    have q6 := Int.emod_lt_of_pos a hb.1
    have q7 := Int.emod_nonneg c (show e ≠ 0 by omega)
    have q8 := Int.emod_lt_of_pos c he.1
    exact hP (by omega) (by omega) (by omega) (by omega) hlt
  intro n
  induction n with
  | zero =>
    refine ⟨fun ha hb hc he h => ?_, ?_⟩
    · simp at h; omega
    · exact stepQ 0 (fun ha hb hc he h => by simp at h; omega)
  | succ n ih =>
    have hP : ∀ {a b c e : Int}, 0 ≤ a ∧ a ≤ 9223372036854775807 → 0 < b ∧ b ≤ 9223372036854775807 → 0 ≤ c ∧ c ≤ 9223372036854775807 → 0 < e ∧ e ≤ 9223372036854775807 → b < ((2 ^ (n + 1) : Nat) : Int) → XMet g yX0_isMore cX0_isMore 12 (some .boolean) (2 * (n + 1)) 0 0 [.long (jL a), .long (jL b), .long (jL c), .long (jL e)] ws (pI (fun z w => z = (if 0 < cmpF a b c e then 1 else 0) ∧ w = ws)) := by
      intro a b c e ha hb hc he hlt
      refine c_isMore_step (D := 2 * n + 1) hG ha hb hc he (fun h1 h2 => ?_)
      have q5 := Int.emod_nonneg a (show b ≠ 0 by omega)
      have q6 := Int.emod_lt_of_pos a hb.1
      have q7 := Int.emod_nonneg c (show e ≠ 0 by omega)
      have q8 := Int.emod_lt_of_pos c he.1
      refine ih.2 (by omega) (by omega) (by omega) (by omega) ?_
      have hp : ((2 ^ (n + 1) : Nat) : Int) = 2 * ((2 ^ n : Nat) : Int) := by rw [Nat.pow_succ]; omega
      have hm1 := Int.emod_lt_of_pos b (show 0 < a % b by omega)
      have hm0 := Int.emod_nonneg b h1
      have hdm := Int.emod_add_mul_ediv b (a % b)
      have hq1 : 1 ≤ b / (a % b) := Int.le_ediv_of_mul_le (by omega) (by omega)
      have hq2 : (a % b) * 1 ≤ (a % b) * (b / (a % b)) := Int.mul_le_mul_of_nonneg_left hq1 (by omega)
      omega
    exact ⟨hP, stepQ (n + 1) hP⟩
theorem c_X0_isMore {ws : va_W} (hG : Gok g) {a b c e : Int} (ha : 0 ≤ a ∧ a ≤ 9223372036854775807) (hb : 0 < b ∧ b ≤ 8589934592) (hc : 0 ≤ c ∧ c ≤ 9223372036854775807) (he : 0 < e ∧ e ≤ 9223372036854775807) : XMet g yX0_isMore cX0_isMore 12 (some .boolean) 70 0 0 [.long (jL a), .long (jL b), .long (jL c), .long (jL e)] ws (pI (fun z w => z = (if 0 < cmpF a b c e then 1 else 0) ∧ w = ws)) :=
  (c_X0_isMore2 hG 35).1 ha (by omega) hc he (by have : ((2 ^ 35 : Nat) : Int) = 34359738368 := by decide
                                                 omega)
end X4

