section X10
variable {g : GX} {σ : Nat → Nat} {ex : va_W}
variable {x_tape : Int → Int} {x_taped : Int} {x_faultKind : Int} {x_faultPlace : Int} {x_bestStarved : Int} {x_bestMost : Int} {x_bestWhole : Int} {x_draws : Int → Int} {x_left : Int → Int} {x_mosts : Int → Int} {x_widened : Int → Int} {x_drawn : Int} {x_img : Nat → Option Nat} {n_width : Int → Int} {n_from : Int → Int} {n_to : Int → Int} {n_load : Int → Int} {n_group : Int → Int} {n_budget : Int → Int} {n_columns : Int} {n_rows : Int} {n_limit : Int} {n_wear : Int} {n_straps : Int} {n_pads : Int} {n_lines : Int} {n_mod : Int} {n_asz : Int} {n_el : Nat → Option Nat} {i_width : Int → Int} {i_load : Int → Int} {i_pads : Int} {i_reached : Int} {i_place : Int → Int} {i_table : Int → Int} {i_drop : Int → Int} {i_size : Int} {i_whole : Int} {t_width : Int → Int} {t_load : Int → Int} {t_pads : Int} {t_reached : Int} {t_place : Int → Int} {t_table : Int → Int} {t_drop : Int → Int} {t_size : Int} {t_whole : Int}
theorem c_X0_slims (hG : Gok g) {w : Int → Int} (hW : NW w n_width n_from n_to n_load n_group n_budget n_columns n_rows n_limit n_wear n_straps n_pads n_lines) : XMet g yX0_slims cX0_slims 2 (some .int) (73) 0 0 [.ref (σ 0)] (wX g σ x_tape x_taped x_faultKind x_faultPlace x_bestStarved x_bestMost x_bestWhole x_draws x_left x_mosts x_widened x_drawn x_img n_width n_from n_to n_load n_group n_budget n_columns n_rows n_limit n_wear n_straps n_pads n_lines n_mod n_asz n_el i_width i_load i_pads i_reached i_place i_table i_drop i_size i_whole t_width t_load t_pads t_reached t_place t_table t_drop t_size t_whole ++ ex) (pI (fun z ww => z = spSlims w ∧ ∃ (bs bm bw : Int) (yw yl : Int → Int) (yp yr : Int) (yc yt yd : Int → Int) (yz yo : Int), (0 < w 4 → wHo w = true → ∀ k : Int, 0 ≤ k → k < 12 → yw k = (slf 49 w 0).1 (28 + k)) ∧ ww = (wX g σ x_tape x_taped x_faultKind x_faultPlace (bs) (bm) (bw) x_draws x_left x_mosts x_widened x_drawn x_img n_width n_from n_to n_load n_group n_budget n_columns n_rows n_limit n_wear n_straps n_pads n_lines n_mod n_asz n_el i_width i_load i_pads i_reached i_place i_table i_drop i_size i_whole (yw) (yl) (yp) (yr) (yc) (yt) (yd) (yz) (yo) ++ ex))) := by
  refine XMet.of (L := [some (.ref (σ 0)), none]) hG (by decide +kernel) (Nat.le_of_ble_eq_true rfl) rfl (fun K C E => ?_)
  refine r_aload_0 C dX0_slims_0 ?_
  refine gG_now C q346 dX0_slims_1 ?_
  refine r_cV0i C (c_X1_is hG hW.inR4) (q0 := 7) rfl rfl q696 pkX1_is dX0_slims_4 (fun z w h => ?_)
  obtain ⟨rfl, rfl⟩ := h
  refine r_ifneB (tgt := 13) C dX0_slims_7 (by decide) (fun c_7 => ?_) (fun c_7 => ?_)
  · skip
    rw [hW.ln] at c_7
    have hd := hW.wf.gd4 c_7
    have hsu := wSu_in hd
    refine r_aload_0 C dX0_slims_13 ?_
    refine gG_tried C q353 dX0_slims_14 ?_
    refine r_cU0v C (c_X3_takes_Y hG) (q0 := 31) rfl rfl q704 pkU_X3_takes dX0_slims_17 (fun w h => ?_)
    subst h
    refine r_iconst C dX0_slims_20 ?_
    refine r_istore_1 C dX0_slims_21 ?_
    refine r_aload_0 C dX0_slims_22 ?_
    refine gG_tried C q353 dX0_slims_23 ?_
    refine r_cV0a C (c_X4_solves_Y hG hd (hW.nb hd) hW.sx) (q0 := 31) rfl rfl q713 pkX4_solves dX0_slims_26 (fun z w h => ?_)
    obtain ⟨rfl, pl, tb, dr, hS, rfl⟩ := h
    refine r_cV0i C (c_X4_holds_Y hG hd (hW.nb hd) rfl (hW.sx (a := t_width) (b := t_load)).2.1 rfl hS.2.2.2.2.1) (q0 := 31) rfl rfl q863 pkX4_holds dX0_slims_29 (fun z w h => ?_)
    obtain ⟨rfl, rfl⟩ := h
    refine r_ifneB (tgt := 37) C dX0_slims_32 (by decide) (fun c_32 => ?_) (fun c_32 => ?_)
    · skip
      skip
      have key : ∀ (f : Nat) (n : Int) (u : Int → Int) (bs bm bw : Int) (yw yl : Int → Int) (yp yr : Int) (yc yt yd : Int → Int) (yz yo : Int), Gd u → NB u n_columns n_rows n_limit n_wear n_straps n_from n_to → SX u yw yl yp → wSu u < f → 0 ≤ n → n + f ≤ 100 → slf f u n = slf 49 w 0 → AW g K (wX g σ x_tape x_taped x_faultKind x_faultPlace (bs) (bm) (bw) x_draws x_left x_mosts x_widened x_drawn x_img n_width n_from n_to n_load n_group n_budget n_columns n_rows n_limit n_wear n_straps n_pads n_lines n_mod n_asz n_el i_width i_load i_pads i_reached i_place i_table i_drop i_size i_whole (yw) (yl) (yp) (yr) (yc) (yt) (yd) (yz) (yo) ++ ex) 0 0 37 [some (.ref (σ 0)), some (.int (jI n))] [] := by
        intro f
        induction f with
        | zero =>
          intro n u bs bm bw yw yl yp yr yc yt yd yz yo hu hN hX hf
          have := wSu_in hu
          omega
        | succ f ih =>
          intro n u bs bm bw yw yl yp yr yc yt yd yz yo hu hN hX hf hn0 hnf hl
          rw [slf] at hl
          have hin := wNs_in hu
          have hs := hu.s
          refine r_aload_0 C dX0_slims_37 ?_
          refine r_cV0i C (c_X0_bestNarrower hG hu hN hX) (q0 := 0) rfl rfl q1078 pkX0_bestNarrower dX0_slims_38 (fun z w h => ?_)
          obtain ⟨rfl, bs, bm, bw, yw, yl, yp, yr, yc, yt, yd, yz, yo, hX2, rfl⟩ := h
          refine r_iconst C dX0_slims_41 ?_
          refine r_if_icmpeq (tgt := 51) C dX0_slims_42 (by decide) (fun c_42 => ?_) (fun c_42 => ?_) (by unfold inR; omega)
          · skip
            refine r_iload_1 C dX0_slims_51 ?_
            refine r_ireturn C E dX0_slims_52 ?_
            rw [if_pos c_42] at hl hX2
            refine ⟨_, rfl, ?_, _, _, _, _, _, _, _, _, _, _, _, _, fun _ _ k a b => ?_, rfl⟩
            · unfold spSlims
              rw [if_pos c_7, if_pos c_32, ← hl]
            · rw [← hl]
              exact hX2.1 k a b
          · skip
            refine r_iinc_1 C dX0_slims_45 ?_
            refine r_goto (tgt := 37) C dX0_slims_48 (by decide) ?_
            have hin2 := hin.resolve_left c_42
            rw [if_neg c_42] at hl hX2
            exact ih (n + 1) _ _ _ _ _ _ _ _ _ _ _ _ _ (hu.slim hin2.1 hin2.2.1 hin2.2.2) (hN.of (lo_aset (by omega))) hX2 (by have := wSu_slim hu hin2.1 hin2.2.1; omega) (by omega) (by omega) hl
      exact key 49 0 w _ _ _ _ _ _ _ _ _ _ _ _ hd (hW.nb hd) hW.sx (by omega) (by omega) (by omega) rfl
    · skip
      refine r_iconst C dX0_slims_35 ?_
      refine r_ireturn C E dX0_slims_36 ?_
      exact ⟨_, rfl, by simp [spSlims, c_7, c_32], _, _, _, _, _, _, _, _, _, _, _, _, fun _ h => absurd h c_32, rfl⟩
  · skip
    refine r_bipush C dX0_slims_10 ?_
    refine r_ireturn C E dX0_slims_12 ?_
    rw [hW.ln] at c_7
    exact ⟨_, rfl, by simp [spSlims, c_7], _, _, _, _, _, _, _, _, _, _, _, _, fun h => absurd h c_7, rfl⟩
theorem c_X0_slim (hG : Gok g) {k : Int} {w : Int → Int} (hk : inR k) (hW : NW w n_width n_from n_to n_load n_group n_budget n_columns n_rows n_limit n_wear n_straps n_pads n_lines) : XMet g yX0_slim cX0_slim 2 (some .int) (74) 0 0 [.ref (σ 0), .int (jI k)] (wX g σ x_tape x_taped x_faultKind x_faultPlace x_bestStarved x_bestMost x_bestWhole x_draws x_left x_mosts x_widened x_drawn x_img n_width n_from n_to n_load n_group n_budget n_columns n_rows n_limit n_wear n_straps n_pads n_lines n_mod n_asz n_el i_width i_load i_pads i_reached i_place i_table i_drop i_size i_whole t_width t_load t_pads t_reached t_place t_table t_drop t_size t_whole ++ ex) (pI (fun z ww => z = spSlim w k ∧ PubX g σ ex x_tape x_taped x_faultKind x_faultPlace x_img n_width n_from n_to n_load n_group n_budget n_columns n_rows n_limit n_wear n_straps n_pads n_lines n_mod n_asz n_el ww)) := by
  refine XMet.of (L := [some (.ref (σ 0)), some (.int (jI k))]) hG (by decide +kernel) (Nat.le_of_ble_eq_true rfl) rfl (fun K C E => ?_)
  refine r_aload_0 C dX0_slim_0 ?_
  refine r_iload_1 C dX0_slim_1 ?_
  refine r_cV1i C (c_X0_isStrap hG hk hW.st hW.wf) (q0 := 0) rfl rfl q756 pkX0_isStrap dX0_slim_2 (fun z w h => ?_)
  obtain ⟨rfl, rfl⟩ := h
  refine r_ifneB (tgt := 11) C dX0_slim_5 (by decide) (fun c_5 => ?_) (fun c_5 => ?_)
  · skip
    have hd := hW.wf.gdk c_5
    have hkk := isKb_in c_5
    have hs := hd.s
    have hsl := slf_in hd
    have hl4 := hd.l.1
    have hsp : -1 ≤ spSlims w ∧ spSlims w ≤ 100 ∧ (spSlims w = -1 ↔ ¬ wHo w = true) := by
      unfold spSlims
      rw [if_pos hl4]
      by_cases h : wHo w = true
      · rw [if_pos h]
        exact ⟨by omega, by omega, ⟨fun q => by omega, fun q => absurd h q⟩⟩
      · rw [if_neg h]
        exact ⟨by omega, by omega, ⟨fun _ => h, fun _ => rfl⟩⟩
    refine r_aload_0 C dX0_slim_11 ?_
    refine r_cV0i C (c_X0_slims hG hW) (q0 := 0) rfl rfl q1086 pkX0_slims dX0_slim_12 (fun z w h => ?_)
    obtain ⟨rfl, bs, bm, bw, yw, yl, yp, yr, yc, yt, yd, yz, yo, hyw, rfl⟩ := h
    refine r_iconst C dX0_slim_15 ?_
    refine r_if_icmpne (tgt := 23) C dX0_slim_16 (by decide) (fun c_16 => ?_) (fun c_16 => ?_)
    · skip
      refine r_aload_0 C dX0_slim_23 ?_
      refine gG_tried C q353 dX0_slim_24 ?_
      refine gYI_width C q303 dX0_slim_27 ?_
      refine r_iload_1 C dX0_slim_30 ?_
      refine ld_t_width C dX0_slim_31 ?_
      refine r_ireturn C E dX0_slim_32 ?_
      refine ⟨_, rfl, ?_, PubX.mk⟩
      unfold spSlim
      rw [if_pos c_5]
      first
        | (have h : spSlims w = -1 := c_16
           rw [if_neg (hsp.2.2.mp h)])
        | (have h : wHo w = true := by
             by_cases q : wHo w = true
             · exact q
             · exact absurd (hsp.2.2.mpr q) c_16
           rw [if_pos h, hyw hl4 h k hkk.1 (by omega)])
    · skip
      refine r_iconst C dX0_slim_19 ?_
      refine r_goto (tgt := 32) C dX0_slim_20 (by decide) ?_
      refine r_ireturn C E dX0_slim_32 ?_
      refine ⟨_, rfl, ?_, PubX.mk⟩
      unfold spSlim
      rw [if_pos c_5]
      first
        | (have h : spSlims w = -1 := c_16
           rw [if_neg (hsp.2.2.mp h)])
        | (have h : wHo w = true := by
             by_cases q : wHo w = true
             · exact q
             · exact absurd (hsp.2.2.mpr q) c_16
           rw [if_pos h, hyw hl4 h k hkk.1 (by omega)])
  · skip
    refine r_bipush C dX0_slim_8 ?_
    refine r_ireturn C E dX0_slim_10 ?_
    exact ⟨_, rfl, by simp [spSlim, c_5], PubX.mk⟩
theorem c_X0_without_2 (hG : Gok g) {k : Int} {w : Int → Int} (hd : Gd w) (hW : NW w n_width n_from n_to n_load n_group n_budget n_columns n_rows n_limit n_wear n_straps n_pads n_lines) (hk : 0 ≤ k ∧ k < wS w) : XMet g yX0_without_2 cX0_without_2 2 (some (.object "SupplyGrid$Solved")) (4) 0 0 [.ref (σ 0), .int (jI k)] (wX g σ x_tape x_taped x_faultKind x_faultPlace x_bestStarved x_bestMost x_bestWhole x_draws x_left x_mosts x_widened x_drawn x_img n_width n_from n_to n_load n_group n_budget n_columns n_rows n_limit n_wear n_straps n_pads n_lines n_mod n_asz n_el i_width i_load i_pads i_reached i_place i_table i_drop i_size i_whole t_width t_load t_pads t_reached t_place t_table t_drop t_size t_whole ++ ex) (pA (fun a ww => a = σ 31 ∧ ∃ sw sl sp pl tb dr, TS (w0 w k) sw sl sp (wR (w0 w k)) pl tb dr (wm (w0 w k)) (wWh (w0 w k)) ∧ ww = (wX g σ x_tape x_taped x_faultKind x_faultPlace x_bestStarved x_bestMost x_bestWhole x_draws x_left x_mosts x_widened x_drawn x_img n_width n_from n_to n_load n_group n_budget n_columns n_rows n_limit n_wear n_straps n_pads n_lines n_mod n_asz n_el i_width i_load i_pads i_reached i_place i_table i_drop i_size i_whole (sw) (sl) (sp) (wR (w0 w k)) (pl) (tb) (dr) (wm (w0 w k)) (wWh (w0 w k)) ++ ex))) := by
  refine XMet.of (L := [some (.ref (σ 0)), some (.int (jI k))]) hG (by decide +kernel) (Nat.le_of_ble_eq_true rfl) rfl (fun K C E => ?_)
  have hs := hd.s
  have hdk := hd.w0 hk.1 hk.2
  have hX := (hW.sx (a := t_width) (b := t_load)).wid (k := k) (x := 0) hk.1
  have hNk := (hW.nb hd).of (u := w0 w k) (lo_aset (by omega))
  refine r_aload_0 C dX0_without_2_0 ?_
  refine gG_tried C q353 dX0_without_2_1 ?_
  refine r_cU0v C (c_X3_takes_Y hG) (q0 := 31) rfl rfl q704 pkU_X3_takes dX0_without_2_4 (fun w h => ?_)
  subst h
  refine r_aload_0 C dX0_without_2_7 ?_
  refine gG_tried C q353 dX0_without_2_8 ?_
  refine gYI_width C q303 dX0_without_2_11 ?_
  refine r_iload_1 C dX0_without_2_14 ?_
  refine r_iconst C dX0_without_2_15 ?_
  refine st_t_width C dX0_without_2_16 ?_
  refine r_aload_0 C dX0_without_2_17 ?_
  refine gG_tried C q353 dX0_without_2_18 ?_
  refine r_cV0a C (c_X4_solves_Y hG hdk hNk hX) (q0 := 31) rfl rfl q713 pkX4_solves dX0_without_2_21 (fun z w h => ?_)
  obtain ⟨rfl, pl, tb, dr, hS, rfl⟩ := h
  refine r_areturn C E (Or.inl ⟨_, rfl⟩) dX0_without_2_24 ?_
  exact ⟨_, rfl, rfl, _, _, _, pl, tb, dr, ⟨hX, hS⟩, rfl⟩
theorem c_X0_without (hG : Gok g) {k p : Int} {w : Int → Int} (hk : inR k) (hp : inR p) (hW : NW w n_width n_from n_to n_load n_group n_budget n_columns n_rows n_limit n_wear n_straps n_pads n_lines) : XMet g yX0_without cX0_without 3 (some .long) (6) 0 0 [.ref (σ 0), .int (jI k), .int (jI p)] (wX g σ x_tape x_taped x_faultKind x_faultPlace x_bestStarved x_bestMost x_bestWhole x_draws x_left x_mosts x_widened x_drawn x_img n_width n_from n_to n_load n_group n_budget n_columns n_rows n_limit n_wear n_straps n_pads n_lines n_mod n_asz n_el i_width i_load i_pads i_reached i_place i_table i_drop i_size i_whole t_width t_load t_pads t_reached t_place t_table t_drop t_size t_whole ++ ex) (pL (fun z ww => z = spWithout w k p ∧ PubX g σ ex x_tape x_taped x_faultKind x_faultPlace x_img n_width n_from n_to n_load n_group n_budget n_columns n_rows n_limit n_wear n_straps n_pads n_lines n_mod n_asz n_el ww)) := by
  refine XMet.of (L := [some (.ref (σ 0)), some (.int (jI k)), some (.int (jI p))]) hG (by decide +kernel) (Nat.le_of_ble_eq_true rfl) rfl (fun K C E => ?_)
  refine r_aload_0 C dX0_without_0 ?_
  refine r_iload_1 C dX0_without_1 ?_
  refine r_cV1i C (c_X0_isStrap hG hk hW.st hW.wf) (q0 := 0) rfl rfl q756 pkX0_isStrap dX0_without_2 (fun z w h => ?_)
  obtain ⟨rfl, rfl⟩ := h
  refine r_ifeqB (tgt := 15) C dX0_without_5 (by decide) (fun c_5 => ?_) (fun c_5 => ?_)
  · skip
    refine r_ldc2 C (-2) q802 dX0_without_15 ?_
    refine r_lreturn C E dX0_without_18 ?_
    exact ⟨_, rfl, by simp [spWithout, *], PubX.mk⟩
  · skip
    refine r_iload_2 C dX0_without_8 ?_
    refine r_cS1i C (c_X0_isPart hG hp) q799 pkX0_isPart dX0_without_9 (fun z w h => ?_)
    obtain ⟨rfl, rfl⟩ := h
    refine r_ifneB (tgt := 19) C dX0_without_12 (by decide) (fun c_12 => ?_) (fun c_12 => ?_)
    · skip
      have hd := hW.wf.gdk c_5
      have hkk := isKb_in c_5
      have hdv := hd.w0 hkk.1 hkk.2
      have hNk := (hW.nb hd).of (u := w0 w k) (lo_aset (by omega))
      have hmx := hdv.mx
      have hwh := hdv.who
      refine r_aload_0 C dX0_without_19 ?_
      refine r_iload_1 C dX0_without_20 ?_
      refine r_cV1a C (c_X0_without_2 hG hd hW hkk) (q0 := 0) rfl rfl q1091 pkX0_without_2 dX0_without_21 (fun z w h => ?_)
      obtain ⟨rfl, sw, sl, sp, pl, tb, dr, hT, rfl⟩ := h
      refine r_cV0l C (c_X4_most_Y hG hdv hNk rfl hT.2.2.2.2.2.1) (q0 := 31) rfl rfl q1008 pkX4_most dX0_without_24 (fun z w h => ?_)
      obtain ⟨rfl, rfl⟩ := h
      refine r_aload_0 C dX0_without_27 ?_
      refine gG_tried C q353 dX0_without_28 ?_
      refine gYN_whole C q298 dX0_without_31 ?_
      refine r_iload_2 C dX0_without_34 ?_
      refine r_cS3l C (c_X0_part hG (by omega) (by omega) hp (by omega)) q803 pkX0_part dX0_without_35 (fun z w h => ?_)
      obtain ⟨rfl, rfl⟩ := h
      refine r_lreturn C E dX0_without_38 ?_
      exact ⟨_, rfl, by simp [spWithout, c_5, c_12], PubX.mk⟩
    · skip
      refine r_ldc2 C (-2) q802 dX0_without_15 ?_
      refine r_lreturn C E dX0_without_18 ?_
      exact ⟨_, rfl, by simp [spWithout, *], PubX.mk⟩
theorem c_X0_lost (hG : Gok g) {k : Int} {w : Int → Int} (hk : inR k) (hW : NW w n_width n_from n_to n_load n_group n_budget n_columns n_rows n_limit n_wear n_straps n_pads n_lines) : XMet g yX0_lost cX0_lost 2 (some .int) (5) 0 0 [.ref (σ 0), .int (jI k)] (wX g σ x_tape x_taped x_faultKind x_faultPlace x_bestStarved x_bestMost x_bestWhole x_draws x_left x_mosts x_widened x_drawn x_img n_width n_from n_to n_load n_group n_budget n_columns n_rows n_limit n_wear n_straps n_pads n_lines n_mod n_asz n_el i_width i_load i_pads i_reached i_place i_table i_drop i_size i_whole t_width t_load t_pads t_reached t_place t_table t_drop t_size t_whole ++ ex) (pI (fun z ww => z = spLost w k ∧ PubX g σ ex x_tape x_taped x_faultKind x_faultPlace x_img n_width n_from n_to n_load n_group n_budget n_columns n_rows n_limit n_wear n_straps n_pads n_lines n_mod n_asz n_el ww)) := by
  refine XMet.of (L := [some (.ref (σ 0)), some (.int (jI k))]) hG (by decide +kernel) (Nat.le_of_ble_eq_true rfl) rfl (fun K C E => ?_)
  refine r_aload_0 C dX0_lost_0 ?_
  refine r_iload_1 C dX0_lost_1 ?_
  refine r_cV1i C (c_X0_isStrap hG hk hW.st hW.wf) (q0 := 0) rfl rfl q756 pkX0_isStrap dX0_lost_2 (fun z w h => ?_)
  obtain ⟨rfl, rfl⟩ := h
  refine r_ifeqB (tgt := 19) C dX0_lost_5 (by decide) (fun c_5 => ?_) (fun c_5 => ?_)
  · skip
    refine r_bipush C dX0_lost_19 ?_
    refine r_ireturn C E dX0_lost_21 ?_
    exact ⟨_, rfl, by simp [spLost, c_5], PubX.mk⟩
  · skip
    have hd := hW.wf.gdk c_5
    have hkk := isKb_in c_5
    have hdv := hd.w0 hkk.1 hkk.2
    have hNk := (hW.nb hd).of (u := w0 w k) (lo_aset (by omega))
    refine r_aload_0 C dX0_lost_8 ?_
    refine r_iload_1 C dX0_lost_9 ?_
    refine r_cV1a C (c_X0_without_2 hG hd hW hkk) (q0 := 0) rfl rfl q1091 pkX0_without_2 dX0_lost_10 (fun z w h => ?_)
    obtain ⟨rfl, sw, sl, sp, pl, tb, dr, hT, rfl⟩ := h
    refine r_cV0i C (c_X4_dead_Y hG hdv hNk rfl) (q0 := 31) rfl rfl q748 pkX4_dead dX0_lost_13 (fun z w h => ?_)
    obtain ⟨rfl, rfl⟩ := h
    refine r_goto (tgt := 21) C dX0_lost_16 (by decide) ?_
    refine r_ireturn C E dX0_lost_21 ?_
    exact ⟨_, rfl, by simp [spLost, c_5], PubX.mk⟩
theorem c_X0_vital (hG : Gok g) {w : Int → Int} (hW : NW w n_width n_from n_to n_load n_group n_budget n_columns n_rows n_limit n_wear n_straps n_pads n_lines) : XMet g yX0_vital cX0_vital 4 (some .int) (72) 0 0 [.ref (σ 0)] (wX g σ x_tape x_taped x_faultKind x_faultPlace x_bestStarved x_bestMost x_bestWhole x_draws x_left x_mosts x_widened x_drawn x_img n_width n_from n_to n_load n_group n_budget n_columns n_rows n_limit n_wear n_straps n_pads n_lines n_mod n_asz n_el i_width i_load i_pads i_reached i_place i_table i_drop i_size i_whole t_width t_load t_pads t_reached t_place t_table t_drop t_size t_whole ++ ex) (pI (fun z ww => z = spVital w ∧ PubX g σ ex x_tape x_taped x_faultKind x_faultPlace x_img n_width n_from n_to n_load n_group n_budget n_columns n_rows n_limit n_wear n_straps n_pads n_lines n_mod n_asz n_el ww)) := by
  refine XMet.of (L := [some (.ref (σ 0)), none, none, none]) hG (by decide +kernel) (Nat.le_of_ble_eq_true rfl) rfl (fun K C E => ?_)
  refine r_aload_0 C dX0_vital_0 ?_
  refine gG_now C q346 dX0_vital_1 ?_
  refine r_cV0i C (c_X1_is hG hW.inR4) (q0 := 7) rfl rfl q696 pkX1_is dX0_vital_4 (fun z w h => ?_)
  obtain ⟨rfl, rfl⟩ := h
  refine r_ifneB (tgt := 13) C dX0_vital_7 (by decide) (fun c_7 => ?_) (fun c_7 => ?_)
  · skip
    rw [hW.ln] at c_7
    have hd := hW.wf.gd4 c_7
    have hs := hd.s
    have key : ∀ (mm : Nat), ∀ (k : Int) (s : Bst) (bs bm bw : Int) (yw yl : Int → Int) (yp yr : Int) (yc yt yd : Int → Int) (yz yo : Int) (l3 : Option Value), (0 ≤ k) → (k ≤ wS w) → (BsOk s) → (s = (-1, -1, 0, 1) ∨ ((0 ≤ s.1 ∧ s.1 < 12) ∧ bs = s.2.1 ∧ bm = s.2.2.1 ∧ bw = s.2.2.2)) → (s = wVi w k) → (wS w - k).toNat = mm → AW g K (wX g σ x_tape x_taped x_faultKind x_faultPlace (bs) (bm) (bw) x_draws x_left x_mosts x_widened x_drawn x_img n_width n_from n_to n_load n_group n_budget n_columns n_rows n_limit n_wear n_straps n_pads n_lines n_mod n_asz n_el i_width i_load i_pads i_reached i_place i_table i_drop i_size i_whole (yw) (yl) (yp) (yr) (yc) (yt) (yd) (yz) (yo) ++ ex) 0 0 17 [some (.ref (σ 0)), some (.int (jI s.1)), some (.int (jI k)), l3] [] := by
      intro mm
      induction mm using Nat.strongRecOn with
      | _ mm ih =>
      intro k s bs bm bw yw yl yp yr yc yt yd yz yo l3 hk0 hk hs0 hs1 es hm
      have hs2 : -1 ≤ s.1 ∧ s.1 < 12 := by
        rcases hs1 with h | h
        · rw [h]; simp
        · omega
      refine r_iload_2 C dX0_vital_17 ?_
      refine r_aload_0 C dX0_vital_18 ?_
      refine gG_now C q346 dX0_vital_19 ?_
      refine gTN_straps C q239 dX0_vital_22 ?_
      refine r_topi (wS w) (hW.s hd) ?_
      refine r_if_icmpge (tgt := 78) C dX0_vital_25 (by decide) (fun c_25 => ?_) (fun c_25 => ?_)
      · skip
        refine r_iload_1 C dX0_vital_78 ?_
        refine r_ireturn C E dX0_vital_79 ?_
        have e : k = wS w := by omega
        subst e
        exact ⟨_, rfl, by unfold spVital; rw [if_pos c_7, es], PubX.mk⟩
      · skip
        have hwk := hd.wd k hk0 (by omega)
        unfold wWd at hwk
        have hdv := hd.w0 hk0 c_25
        have hNk := (hW.nb hd).of (u := w0 w k) (lo_aset (by omega))
        refine r_aload_0 C dX0_vital_28 ?_
        refine gG_now C q346 dX0_vital_29 ?_
        refine gTN_width C q196 dX0_vital_32 ?_
        refine r_iload_2 C dX0_vital_35 ?_
        refine ld_n_width C dX0_vital_36 ?_
        refine r_topi (w (28 + k)) (hW.wd k hk0 (by omega)) ?_
        refine r_ifne (tgt := 43) C dX0_vital_37 (by decide) (fun c_37 => ?_) (fun c_37 => ?_)
        · skip
          refine r_aload_0 C dX0_vital_43 ?_
          refine r_iload_2 C dX0_vital_44 ?_
          refine r_cV1a C (c_X0_without_2 hG hd hW ⟨hk0, c_25⟩) (q0 := 0) rfl rfl q1091 pkX0_without_2 dX0_vital_45 (fun z w h => ?_)
          obtain ⟨rfl, sw, sl, sp, pl, tb, dr, hT, rfl⟩ := h
          refine r_astore_3 C dX0_vital_48 ?_
          refine r_iload_1 C dX0_vital_49 ?_
          refine r_iconst C dX0_vital_50 ?_
          refine r_if_icmpeq (tgt := 65) C dX0_vital_51 (by decide) (fun c_51 => ?_) (fun c_51 => ?_)
          · skip
            refine r_iload_2 C dX0_vital_65 ?_
            refine r_istore_1 C dX0_vital_66 ?_
            refine r_aload_0 C dX0_vital_67 ?_
            refine r_aload_3 C dX0_vital_68 ?_
            refine r_cV1v C (c_X0_keepsScore hG hdv hNk hT) (q0 := 0) rfl rfl q1016 pkX0_keepsScore dX0_vital_69 (fun w h => ?_)
            subst h
            refine r_iinc_2 C dX0_vital_72 ?_
            refine r_goto (tgt := 17) C dX0_vital_75 (by decide) ?_
            first
              | (have h : w (28 + k) = 0 := c_37
                 refine ih _ (show (wS w - (k + 1)).toNat < mm by omega) (k + 1) s _ _ _ _ _ _ _ _ _ _ _ _ _ (by omega) (by omega) hs0 hs1 ?_ rfl
                 unfold wVi at es ⊢
                 rw [foI_s _ _ hk0, ← es]
                 unfold vsf
                 rw [if_neg (by omega)])
              | (have h : ¬ 0 < sc (w0 w k) s.2.1 s.2.2.1 s.2.2.2 := c_59
                 refine ih _ (show (wS w - (k + 1)).toNat < mm by omega) (k + 1) s _ _ _ _ _ _ _ _ _ _ _ _ _ (by omega) (by omega) hs0 (Or.inr ⟨h10, rfl, rfl, rfl⟩) ?_ rfl
                 unfold wVi at es ⊢
                 rw [foI_s _ _ hk0, ← es]
                 unfold vsf
                 rw [if_neg (fun q => h q.2)])
              | (refine ih _ (show (wS w - (k + 1)).toNat < mm by omega) (k + 1) (k, wDl (w0 w k), wMx (w0 w k), wWh (w0 w k)) _ _ _ _ _ _ _ _ _ _ _ _ _ (by omega) (by omega) (bs_of hdv k) (Or.inr ⟨⟨hk0, by (try simp only); omega⟩, rfl, rfl, rfl⟩) ?_ rfl
                 have hsc : 0 < sc (w0 w k) s.2.1 s.2.2.1 s.2.2.2 := by
                   first
                     | exact c_59
                     | (rcases hs1 with h | h
                        · rw [h]; exact sc_m1 hdv
                        · exact absurd c_51 (by omega))
                 unfold wVi at es ⊢
                 rw [foI_s _ _ hk0, ← es]
                 unfold vsf
                 rw [if_pos (And.intro (by omega) hsc)])
          · skip
            obtain ⟨h10, rfl, rfl, rfl⟩ : (0 ≤ s.1 ∧ s.1 < 12) ∧ bs = s.2.1 ∧ bm = s.2.2.1 ∧ bw = s.2.2.2 := by
              rcases hs1 with h | h
              · rw [h] at c_51; exact absurd rfl c_51
              · exact h
            refine r_aload_0 C dX0_vital_54 ?_
            refine r_aload_3 C dX0_vital_55 ?_
            refine r_cV1i C (c_X0_isWorse hG hdv hNk hT hs0) (q0 := 0) rfl rfl q1103 pkX0_isWorse dX0_vital_56 (fun z w h => ?_)
            obtain ⟨rfl, rfl⟩ := h
            refine r_ifneB (tgt := 65) C dX0_vital_59 (by decide) (fun c_59 => ?_) (fun c_59 => ?_)
            · skip
              refine r_iload_2 C dX0_vital_65 ?_
              refine r_istore_1 C dX0_vital_66 ?_
              refine r_aload_0 C dX0_vital_67 ?_
              refine r_aload_3 C dX0_vital_68 ?_
              refine r_cV1v C (c_X0_keepsScore hG hdv hNk hT) (q0 := 0) rfl rfl q1016 pkX0_keepsScore dX0_vital_69 (fun w h => ?_)
              subst h
              refine r_iinc_2 C dX0_vital_72 ?_
              refine r_goto (tgt := 17) C dX0_vital_75 (by decide) ?_
              first
                | (have h : w (28 + k) = 0 := c_37
                   refine ih _ (show (wS w - (k + 1)).toNat < mm by omega) (k + 1) s _ _ _ _ _ _ _ _ _ _ _ _ _ (by omega) (by omega) hs0 hs1 ?_ rfl
                   unfold wVi at es ⊢
                   rw [foI_s _ _ hk0, ← es]
                   unfold vsf
                   rw [if_neg (by omega)])
                | (have h : ¬ 0 < sc (w0 w k) s.2.1 s.2.2.1 s.2.2.2 := c_59
                   refine ih _ (show (wS w - (k + 1)).toNat < mm by omega) (k + 1) s _ _ _ _ _ _ _ _ _ _ _ _ _ (by omega) (by omega) hs0 (Or.inr ⟨h10, rfl, rfl, rfl⟩) ?_ rfl
                   unfold wVi at es ⊢
                   rw [foI_s _ _ hk0, ← es]
                   unfold vsf
                   rw [if_neg (fun q => h q.2)])
                | (refine ih _ (show (wS w - (k + 1)).toNat < mm by omega) (k + 1) (k, wDl (w0 w k), wMx (w0 w k), wWh (w0 w k)) _ _ _ _ _ _ _ _ _ _ _ _ _ (by omega) (by omega) (bs_of hdv k) (Or.inr ⟨⟨hk0, by (try simp only); omega⟩, rfl, rfl, rfl⟩) ?_ rfl
                   have hsc : 0 < sc (w0 w k) s.2.1 s.2.2.1 s.2.2.2 := by
                     first
                       | exact c_59
                       | (rcases hs1 with h | h
                          · rw [h]; exact sc_m1 hdv
                          · exact absurd c_51 (by omega))
                   unfold wVi at es ⊢
                   rw [foI_s _ _ hk0, ← es]
                   unfold vsf
                   rw [if_pos (And.intro (by omega) hsc)])
            · skip
              refine r_goto (tgt := 72) C dX0_vital_62 (by decide) ?_
              refine r_iinc_2 C dX0_vital_72 ?_
              refine r_goto (tgt := 17) C dX0_vital_75 (by decide) ?_
              first
                | (have h : w (28 + k) = 0 := c_37
                   refine ih _ (show (wS w - (k + 1)).toNat < mm by omega) (k + 1) s _ _ _ _ _ _ _ _ _ _ _ _ _ (by omega) (by omega) hs0 hs1 ?_ rfl
                   unfold wVi at es ⊢
                   rw [foI_s _ _ hk0, ← es]
                   unfold vsf
                   rw [if_neg (by omega)])
                | (have h : ¬ 0 < sc (w0 w k) s.2.1 s.2.2.1 s.2.2.2 := c_59
                   refine ih _ (show (wS w - (k + 1)).toNat < mm by omega) (k + 1) s _ _ _ _ _ _ _ _ _ _ _ _ _ (by omega) (by omega) hs0 (Or.inr ⟨h10, rfl, rfl, rfl⟩) ?_ rfl
                   unfold wVi at es ⊢
                   rw [foI_s _ _ hk0, ← es]
                   unfold vsf
                   rw [if_neg (fun q => h q.2)])
                | (refine ih _ (show (wS w - (k + 1)).toNat < mm by omega) (k + 1) (k, wDl (w0 w k), wMx (w0 w k), wWh (w0 w k)) _ _ _ _ _ _ _ _ _ _ _ _ _ (by omega) (by omega) (bs_of hdv k) (Or.inr ⟨⟨hk0, by (try simp only); omega⟩, rfl, rfl, rfl⟩) ?_ rfl
                   have hsc : 0 < sc (w0 w k) s.2.1 s.2.2.1 s.2.2.2 := by
                     first
                       | exact c_59
                       | (rcases hs1 with h | h
                          · rw [h]; exact sc_m1 hdv
                          · exact absurd c_51 (by omega))
                   unfold wVi at es ⊢
                   rw [foI_s _ _ hk0, ← es]
                   unfold vsf
                   rw [if_pos (And.intro (by omega) hsc)])
        · skip
          refine r_goto (tgt := 72) C dX0_vital_40 (by decide) ?_
          refine r_iinc_2 C dX0_vital_72 ?_
          refine r_goto (tgt := 17) C dX0_vital_75 (by decide) ?_
          first
            | (have h : w (28 + k) = 0 := c_37
               refine ih _ (show (wS w - (k + 1)).toNat < mm by omega) (k + 1) s _ _ _ _ _ _ _ _ _ _ _ _ _ (by omega) (by omega) hs0 hs1 ?_ rfl
               unfold wVi at es ⊢
               rw [foI_s _ _ hk0, ← es]
               unfold vsf
               rw [if_neg (by omega)])
            | (have h : ¬ 0 < sc (w0 w k) s.2.1 s.2.2.1 s.2.2.2 := c_59
               refine ih _ (show (wS w - (k + 1)).toNat < mm by omega) (k + 1) s _ _ _ _ _ _ _ _ _ _ _ _ _ (by omega) (by omega) hs0 (Or.inr ⟨h10, rfl, rfl, rfl⟩) ?_ rfl
               unfold wVi at es ⊢
               rw [foI_s _ _ hk0, ← es]
               unfold vsf
               rw [if_neg (fun q => h q.2)])
            | (refine ih _ (show (wS w - (k + 1)).toNat < mm by omega) (k + 1) (k, wDl (w0 w k), wMx (w0 w k), wWh (w0 w k)) _ _ _ _ _ _ _ _ _ _ _ _ _ (by omega) (by omega) (bs_of hdv k) (Or.inr ⟨⟨hk0, by (try simp only); omega⟩, rfl, rfl, rfl⟩) ?_ rfl
               have hsc : 0 < sc (w0 w k) s.2.1 s.2.2.1 s.2.2.2 := by
                 first
                   | exact c_59
                   | (rcases hs1 with h | h
                      · rw [h]; exact sc_m1 hdv
                      · exact absurd c_51 (by omega))
               unfold wVi at es ⊢
               rw [foI_s _ _ hk0, ← es]
               unfold vsf
               rw [if_pos (And.intro (by omega) hsc)])
    refine r_iconst C dX0_vital_13 ?_
    refine r_istore_1 C dX0_vital_14 ?_
    refine r_iconst C dX0_vital_15 ?_
    refine r_istore_2 C dX0_vital_16 ?_
    exact key _ 0 (-1, -1, 0, 1) _ _ _ _ _ _ _ _ _ _ _ _ _ (by omega) (by omega) (by unfold BsOk; simp) (Or.inl rfl) rfl rfl
  · skip
    refine r_bipush C dX0_vital_10 ?_
    refine r_ireturn C E dX0_vital_12 ?_
    rw [hW.ln] at c_7
    exact ⟨_, rfl, by simp [spVital, c_7], PubX.mk⟩
theorem c_X0_spare (hG : Gok g) {w : Int → Int} (hW : NW w n_width n_from n_to n_load n_group n_budget n_columns n_rows n_limit n_wear n_straps n_pads n_lines) : XMet g yX0_spare cX0_spare 3 (some .int) (6) 0 0 [.ref (σ 0)] (wX g σ x_tape x_taped x_faultKind x_faultPlace x_bestStarved x_bestMost x_bestWhole x_draws x_left x_mosts x_widened x_drawn x_img n_width n_from n_to n_load n_group n_budget n_columns n_rows n_limit n_wear n_straps n_pads n_lines n_mod n_asz n_el i_width i_load i_pads i_reached i_place i_table i_drop i_size i_whole t_width t_load t_pads t_reached t_place t_table t_drop t_size t_whole ++ ex) (pI (fun z ww => z = spSpare w ∧ PubX g σ ex x_tape x_taped x_faultKind x_faultPlace x_img n_width n_from n_to n_load n_group n_budget n_columns n_rows n_limit n_wear n_straps n_pads n_lines n_mod n_asz n_el ww)) := by
  refine XMet.of (L := [some (.ref (σ 0)), none, none]) hG (by decide +kernel) (Nat.le_of_ble_eq_true rfl) rfl (fun K C E => ?_)
  refine r_aload_0 C dX0_spare_0 ?_
  refine gG_now C q346 dX0_spare_1 ?_
  refine r_cV0i C (c_X1_is hG hW.inR4) (q0 := 7) rfl rfl q696 pkX1_is dX0_spare_4 (fun z w h => ?_)
  obtain ⟨rfl, rfl⟩ := h
  refine r_ifneB (tgt := 13) C dX0_spare_7 (by decide) (fun c_7 => ?_) (fun c_7 => ?_)
  · skip
    rw [hW.ln] at c_7
    have hd := hW.wf.gd4 c_7
    have hs := hd.s
    have key : ∀ (mm : Nat), ∀ (k s : Int) (yw yl : Int → Int) (yp yr : Int) (yc yt yd : Int → Int) (yz yo : Int), (0 ≤ k) → (k ≤ wS w) → (0 ≤ s ∧ s < 4096) → (s = wSp w k) → (wS w - k).toNat = mm → AW g K (wX g σ x_tape x_taped x_faultKind x_faultPlace x_bestStarved x_bestMost x_bestWhole x_draws x_left x_mosts x_widened x_drawn x_img n_width n_from n_to n_load n_group n_budget n_columns n_rows n_limit n_wear n_straps n_pads n_lines n_mod n_asz n_el i_width i_load i_pads i_reached i_place i_table i_drop i_size i_whole (yw) (yl) (yp) (yr) (yc) (yt) (yd) (yz) (yo) ++ ex) 0 0 17 [some (.ref (σ 0)), some (.int (jI s)), some (.int (jI k))] [] := by
      intro mm
      induction mm using Nat.strongRecOn with
      | _ mm ih =>
      intro k s yw yl yp yr yc yt yd yz yo hk0 hk hs0 es hm
      refine r_iload_2 C dX0_spare_17 ?_
      refine r_aload_0 C dX0_spare_18 ?_
      refine gG_now C q346 dX0_spare_19 ?_
      refine gTN_straps C q239 dX0_spare_22 ?_
      refine r_topi (wS w) (hW.s hd) ?_
      refine r_if_icmpge (tgt := 67) C dX0_spare_25 (by decide) (fun c_25 => ?_) (fun c_25 => ?_)
      · skip
        refine r_iload_1 C dX0_spare_67 ?_
        refine r_ireturn C E dX0_spare_68 ?_
        have e : k = wS w := by omega
        subst e
        exact ⟨_, rfl, by unfold spSpare; rw [if_pos c_7, es], PubX.mk⟩
      · skip
        have hwk := hd.wd k hk0 (by omega)
        unfold wWd at hwk
        have hdv := hd.w0 hk0 c_25
        have hNk := (hW.nb hd).of (u := w0 w k) (lo_aset (by omega))
        have hP := bsP_12 hk0 (show k < 12 by omega)
        have hP0 := bsP_0 (k := k)
        refine r_iload_1 C dX0_spare_28 ?_
        refine r_aload_0 C dX0_spare_29 ?_
        refine gG_now C q346 dX0_spare_30 ?_
        refine gTN_width C q196 dX0_spare_33 ?_
        refine r_iload_2 C dX0_spare_36 ?_
        refine ld_n_width C dX0_spare_37 ?_
        refine r_topi (w (28 + k)) (hW.wd k hk0 (by omega)) ?_
        refine r_ifle (tgt := 58) C dX0_spare_38 (by decide) (fun c_38 => ?_) (fun c_38 => ?_)
        · skip
          refine r_iconst C dX0_spare_58 ?_
          refine r_ior C (_) dX0_spare_59 (jI_or (by omega) (by omega)) ?_
          refine r_istore_1 C dX0_spare_60 ?_
          refine r_iinc_2 C dX0_spare_61 ?_
          refine r_goto (tgt := 17) C dX0_spare_64 (by decide) ?_
          refine ih _ (show (wS w - (k + 1)).toNat < mm by omega) (k + 1) _ _ _ _ _ _ _ _ _ _ (by omega) (by omega) ⟨bsO_0, bsO_4096 hs0.2 (by omega)⟩ ?_ rfl
          unfold wSp at es ⊢
          rw [foI_s _ _ hk0, ← es]
          first
            | rw [if_pos (And.intro c_38 c_49)]
            | rw [if_neg (fun q => c_49 q.2), bsO_z hs0.1]
            | rw [if_neg (by omega), bsO_z hs0.1]
        · skip
          refine r_aload_0 C dX0_spare_41 ?_
          refine r_iload_2 C dX0_spare_42 ?_
          refine r_cV1a C (c_X0_without_2 hG hd hW ⟨hk0, c_25⟩) (q0 := 0) rfl rfl q1091 pkX0_without_2 dX0_spare_43 (fun z w h => ?_)
          obtain ⟨rfl, sw, sl, sp, pl, tb, dr, hT, rfl⟩ := h
          refine r_cV0i C (c_X4_holds_Y hG hdv hNk rfl hT.1.2.1 rfl hT.2.2.2.2.2.1) (q0 := 31) rfl rfl q863 pkX4_holds dX0_spare_46 (fun z w h => ?_)
          obtain ⟨rfl, rfl⟩ := h
          refine r_ifeqB (tgt := 58) C dX0_spare_49 (by decide) (fun c_49 => ?_) (fun c_49 => ?_)
          · skip
            refine r_iconst C dX0_spare_58 ?_
            refine r_ior C (_) dX0_spare_59 (jI_or (by omega) (by omega)) ?_
            refine r_istore_1 C dX0_spare_60 ?_
            refine r_iinc_2 C dX0_spare_61 ?_
            refine r_goto (tgt := 17) C dX0_spare_64 (by decide) ?_
            refine ih _ (show (wS w - (k + 1)).toNat < mm by omega) (k + 1) _ _ _ _ _ _ _ _ _ _ (by omega) (by omega) ⟨bsO_0, bsO_4096 hs0.2 (by omega)⟩ ?_ rfl
            unfold wSp at es ⊢
            rw [foI_s _ _ hk0, ← es]
            first
              | rw [if_pos (And.intro c_38 c_49)]
              | rw [if_neg (fun q => c_49 q.2), bsO_z hs0.1]
              | rw [if_neg (by omega), bsO_z hs0.1]
          · skip
            refine r_iconst C dX0_spare_52 ?_
            refine r_iload_2 C dX0_spare_53 ?_
            refine r_ishl C (_) dX0_spare_54 (jI_shl (by omega) (by omega)) ?_
            refine r_goto (tgt := 59) C dX0_spare_55 (by decide) ?_
            refine r_ior C (_) dX0_spare_59 (jI_or (by omega) (by omega)) ?_
            refine r_istore_1 C dX0_spare_60 ?_
            refine r_iinc_2 C dX0_spare_61 ?_
            refine r_goto (tgt := 17) C dX0_spare_64 (by decide) ?_
            refine ih _ (show (wS w - (k + 1)).toNat < mm by omega) (k + 1) _ _ _ _ _ _ _ _ _ _ (by omega) (by omega) ⟨bsO_0, bsO_4096 hs0.2 (by omega)⟩ ?_ rfl
            unfold wSp at es ⊢
            rw [foI_s _ _ hk0, ← es]
            first
              | rw [if_pos (And.intro c_38 c_49)]
              | rw [if_neg (fun q => c_49 q.2), bsO_z hs0.1]
              | rw [if_neg (by omega), bsO_z hs0.1]
    refine r_iconst C dX0_spare_13 ?_
    refine r_istore_1 C dX0_spare_14 ?_
    refine r_iconst C dX0_spare_15 ?_
    refine r_istore_2 C dX0_spare_16 ?_
    exact key _ 0 0 _ _ _ _ _ _ _ _ _ (by omega) (by omega) (by omega) rfl rfl
  · skip
    refine r_bipush C dX0_spare_10 ?_
    refine r_ireturn C E dX0_spare_12 ?_
    rw [hW.ln] at c_7
    exact ⟨_, rfl, by simp [spSpare, c_7], PubX.mk⟩
theorem c_X0_isPair (hG : Gok g) {a b : Int} {w : Int → Int} (hd : Gd w) (hW : NW w n_width n_from n_to n_load n_group n_budget n_columns n_rows n_limit n_wear n_straps n_pads n_lines) (ha : 0 ≤ a ∧ a < wS w) (hb : 0 ≤ b ∧ b < wS w) : XMet g yX0_isPair cX0_isPair 3 (some .boolean) (6) 0 0 [.ref (σ 0), .int (jI a), .int (jI b)] (wX g σ x_tape x_taped x_faultKind x_faultPlace x_bestStarved x_bestMost x_bestWhole x_draws x_left x_mosts x_widened x_drawn x_img n_width n_from n_to n_load n_group n_budget n_columns n_rows n_limit n_wear n_straps n_pads n_lines n_mod n_asz n_el i_width i_load i_pads i_reached i_place i_table i_drop i_size i_whole t_width t_load t_pads t_reached t_place t_table t_drop t_size t_whole ++ ex) (pI (fun z ww => z = (if wPr w a b = true then 1 else 0) ∧ ∃ (yw yl : Int → Int) (yp yr : Int) (yc yt yd : Int → Int) (yz yo : Int), ww = (wX g σ x_tape x_taped x_faultKind x_faultPlace x_bestStarved x_bestMost x_bestWhole x_draws x_left x_mosts x_widened x_drawn x_img n_width n_from n_to n_load n_group n_budget n_columns n_rows n_limit n_wear n_straps n_pads n_lines n_mod n_asz n_el i_width i_load i_pads i_reached i_place i_table i_drop i_size i_whole (yw) (yl) (yp) (yr) (yc) (yt) (yd) (yz) (yo) ++ ex))) := by
  refine XMet.of (L := [some (.ref (σ 0)), some (.int (jI a)), some (.int (jI b))]) hG (by decide +kernel) (Nat.le_of_ble_eq_true rfl) rfl (fun K C E => ?_)
  have hs := hd.s
  have hwa := hd.wd a ha.1 (by omega)
  have hwb := hd.wd b hb.1 (by omega)
  unfold wWd at hwa hwb
  have hda := hd.w0 ha.1 ha.2
  have hdb := hd.w0 hb.1 hb.2
  have hdab : Gd (w0 (w0 w b) a) := hdb.w0 ha.1 (by rw [wS_w0 hb.1]; exact ha.2)
  have hNa := (hW.nb hd).of (u := w0 w a) (lo_aset (by omega))
  have hNb := (hW.nb hd).of (u := w0 w b) (lo_aset (by omega))
  have hNab := hNb.of (u := w0 (w0 w b) a) (lo_aset (by omega))
  refine r_aload_0 C dX0_isPair_0 ?_
  refine gG_now C q346 dX0_isPair_1 ?_
  refine gTN_width C q196 dX0_isPair_4 ?_
  refine r_iload_1 C dX0_isPair_7 ?_
  refine ld_n_width C dX0_isPair_8 ?_
  refine r_topi (w (28 + a)) (hW.wd a ha.1 (by omega)) ?_
  refine r_ifeq (tgt := 46) C dX0_isPair_9 (by decide) (fun c_9 => ?_) (fun c_9 => ?_)
  · skip
    refine r_iconst C dX0_isPair_46 ?_
    refine r_zreturn C E dX0_isPair_47 (by first | exact Or.inl rfl | exact Or.inr rfl | omega) ?_
    refine ⟨_, rfl, ?_, _, _, _, _, _, _, _, _, _, rfl⟩
    try rw [w0_comm] at c_68
    simp [wPr, *]
  · skip
    refine r_aload_0 C dX0_isPair_12 ?_
    refine gG_now C q346 dX0_isPair_13 ?_
    refine gTN_width C q196 dX0_isPair_16 ?_
    refine r_iload_2 C dX0_isPair_19 ?_
    refine ld_n_width C dX0_isPair_20 ?_
    refine r_topi (w (28 + b)) (hW.wd b hb.1 (by omega)) ?_
    refine r_ifeq (tgt := 46) C dX0_isPair_21 (by decide) (fun c_21 => ?_) (fun c_21 => ?_)
    · skip
      refine r_iconst C dX0_isPair_46 ?_
      refine r_zreturn C E dX0_isPair_47 (by first | exact Or.inl rfl | exact Or.inr rfl | omega) ?_
      refine ⟨_, rfl, ?_, _, _, _, _, _, _, _, _, _, rfl⟩
      try rw [w0_comm] at c_68
      simp [wPr, *]
    · skip
      refine r_aload_0 C dX0_isPair_24 ?_
      refine r_iload_1 C dX0_isPair_25 ?_
      refine r_cV1a C (c_X0_without_2 hG hd hW ha) (q0 := 0) rfl rfl q1091 pkX0_without_2 dX0_isPair_26 (fun z w h => ?_)
      obtain ⟨rfl, sw, sl, sp, pl, tb, dr, hT, rfl⟩ := h
      refine r_cV0i C (c_X4_holds_Y hG hda hNa rfl hT.1.2.1 rfl hT.2.2.2.2.2.1) (q0 := 31) rfl rfl q863 pkX4_holds dX0_isPair_29 (fun z w h => ?_)
      obtain ⟨rfl, rfl⟩ := h
      refine r_ifeqB (tgt := 46) C dX0_isPair_32 (by decide) (fun c_32 => ?_) (fun c_32 => ?_)
      · skip
        refine r_iconst C dX0_isPair_46 ?_
        refine r_zreturn C E dX0_isPair_47 (by first | exact Or.inl rfl | exact Or.inr rfl | omega) ?_
        refine ⟨_, rfl, ?_, _, _, _, _, _, _, _, _, _, rfl⟩
        try rw [w0_comm] at c_68
        simp [wPr, *]
      · skip
        refine r_aload_0 C dX0_isPair_35 ?_
        refine r_iload_2 C dX0_isPair_36 ?_
        refine r_cV1a C (c_X0_without_2 hG hd hW hb) (q0 := 0) rfl rfl q1091 pkX0_without_2 dX0_isPair_37 (fun z w h => ?_)
        obtain ⟨rfl, sw, sl, sp, pl, tb, dr, hT, rfl⟩ := h
        refine r_cV0i C (c_X4_holds_Y hG hdb hNb rfl hT.1.2.1 rfl hT.2.2.2.2.2.1) (q0 := 31) rfl rfl q863 pkX4_holds dX0_isPair_40 (fun z w h => ?_)
        obtain ⟨rfl, rfl⟩ := h
        refine r_ifneB (tgt := 48) C dX0_isPair_43 (by decide) (fun c_43 => ?_) (fun c_43 => ?_)
        · skip
          refine r_aload_0 C dX0_isPair_48 ?_
          refine gG_tried C q353 dX0_isPair_49 ?_
          refine gYI_width C q303 dX0_isPair_52 ?_
          refine r_iload_1 C dX0_isPair_55 ?_
          refine r_iconst C dX0_isPair_56 ?_
          refine st_t_width C dX0_isPair_57 ?_
          have hXab := hT.1.wid (k := a) (x := 0) ha.1
          refine r_aload_0 C dX0_isPair_58 ?_
          refine gG_tried C q353 dX0_isPair_59 ?_
          refine r_cV0a C (c_X4_solves_Y hG hdab hNab hXab) (q0 := 31) rfl rfl q713 pkX4_solves dX0_isPair_62 (fun z w h => ?_)
          obtain ⟨rfl, pl, tb, dr, hS, rfl⟩ := h
          refine r_cV0i C (c_X4_holds_Y hG hdab hNab rfl hXab.2.1 rfl hS.2.2.2.2.1) (q0 := 31) rfl rfl q863 pkX4_holds dX0_isPair_65 (fun z w h => ?_)
          obtain ⟨rfl, rfl⟩ := h
          refine r_ifneB (tgt := 75) C dX0_isPair_68 (by decide) (fun c_68 => ?_) (fun c_68 => ?_)
          · skip
            refine r_iconst C dX0_isPair_75 ?_
            refine r_zreturn C E dX0_isPair_76 (by first | exact Or.inl rfl | exact Or.inr rfl | omega) ?_
            refine ⟨_, rfl, ?_, _, _, _, _, _, _, _, _, _, rfl⟩
            try rw [w0_comm] at c_68
            simp [wPr, *]
          · skip
            refine r_iconst C dX0_isPair_71 ?_
            refine r_goto (tgt := 76) C dX0_isPair_72 (by decide) ?_
            refine r_zreturn C E dX0_isPair_76 (by first | exact Or.inl rfl | exact Or.inr rfl | omega) ?_
            refine ⟨_, rfl, ?_, _, _, _, _, _, _, _, _, _, rfl⟩
            try rw [w0_comm] at c_68
            simp [wPr, *]
        · skip
          refine r_iconst C dX0_isPair_46 ?_
          refine r_zreturn C E dX0_isPair_47 (by first | exact Or.inl rfl | exact Or.inr rfl | omega) ?_
          refine ⟨_, rfl, ?_, _, _, _, _, _, _, _, _, _, rfl⟩
          try rw [w0_comm] at c_68
          simp [wPr, *]
theorem c_X0_pairsOf (hG : Gok g) {i : Int} {w : Int → Int} (hi : inR i) (hi1 : -1 ≤ i) (hd : Gd w) (hW : NW w n_width n_from n_to n_load n_group n_budget n_columns n_rows n_limit n_wear n_straps n_pads n_lines) : XMet g yX0_pairsOf cX0_pairsOf 5 (some .int) (7) 0 0 [.ref (σ 0), .int (jI i)] (wX g σ x_tape x_taped x_faultKind x_faultPlace x_bestStarved x_bestMost x_bestWhole x_draws x_left x_mosts x_widened x_drawn x_img n_width n_from n_to n_load n_group n_budget n_columns n_rows n_limit n_wear n_straps n_pads n_lines n_mod n_asz n_el i_width i_load i_pads i_reached i_place i_table i_drop i_size i_whole t_width t_load t_pads t_reached t_place t_table t_drop t_size t_whole ++ ex) (pI (fun z ww => z = (if i < 0 then (prS w i (wS w)).1 else (prS w i (wS w)).2) ∧ ∃ (yw yl : Int → Int) (yp yr : Int) (yc yt yd : Int → Int) (yz yo : Int), ww = (wX g σ x_tape x_taped x_faultKind x_faultPlace x_bestStarved x_bestMost x_bestWhole x_draws x_left x_mosts x_widened x_drawn x_img n_width n_from n_to n_load n_group n_budget n_columns n_rows n_limit n_wear n_straps n_pads n_lines n_mod n_asz n_el i_width i_load i_pads i_reached i_place i_table i_drop i_size i_whole (yw) (yl) (yp) (yr) (yc) (yt) (yd) (yz) (yo) ++ ex))) := by
  refine XMet.of (L := [some (.ref (σ 0)), some (.int (jI i)), none, none, none]) hG (by decide +kernel) (Nat.le_of_ble_eq_true rfl) rfl (fun K C E => ?_)
  have hs := hd.s
  have outer : ∀ (mm : Nat), ∀ (a n : Int) (yw yl : Int → Int) (yp yr : Int) (yc yt yd : Int → Int) (yz yo : Int) (l4 : Option Value), (0 ≤ a) → (a ≤ wS w) → (0 ≤ n ∧ n ≤ 12 * a) → ((n, (-1 : Int)) = prS w i a) → (wS w - a).toNat = mm → AW g K (wX g σ x_tape x_taped x_faultKind x_faultPlace x_bestStarved x_bestMost x_bestWhole x_draws x_left x_mosts x_widened x_drawn x_img n_width n_from n_to n_load n_group n_budget n_columns n_rows n_limit n_wear n_straps n_pads n_lines n_mod n_asz n_el i_width i_load i_pads i_reached i_place i_table i_drop i_size i_whole (yw) (yl) (yp) (yr) (yc) (yt) (yd) (yz) (yo) ++ ex) 0 0 4 [some (.ref (σ 0)), some (.int (jI i)), some (.int (jI n)), some (.int (jI a)), l4] [] := by
    intro mm
    induction mm using Nat.strongRecOn with
    | _ mm ih =>
    intro a n yw yl yp yr yc yt yd yz yo l4 ha0 ha hn es hm
    refine r_iload_3 C dX0_pairsOf_4 ?_
    refine r_aload_0 C dX0_pairsOf_5 ?_
    refine gG_now C q346 dX0_pairsOf_6 ?_
    refine gTN_straps C q239 dX0_pairsOf_9 ?_
    refine r_topi (wS w) (hW.s hd) ?_
    refine r_if_icmpge (tgt := 73) C dX0_pairsOf_12 (by decide) (fun c_12 => ?_) (fun c_12 => ?_)
    · skip
      refine r_iload_1 C dX0_pairsOf_73 ?_
      refine r_iconst C dX0_pairsOf_74 ?_
      refine r_if_icmpne (tgt := 82) C dX0_pairsOf_75 (by decide) (fun c_75 => ?_) (fun c_75 => ?_)
      · skip
        refine r_iconst C dX0_pairsOf_82 ?_
        refine r_ireturn C E dX0_pairsOf_83 ?_
        have e : a = wS w := by omega
        subst e
        refine ⟨_, rfl, ?_, _, _, _, _, _, _, _, _, _, rfl⟩
        rw [← es]
        first
          | (have h : i = -1 := c_75
             rw [if_pos (by omega)])
          | rw [if_neg (by omega)]
      · skip
        refine r_iload_2 C dX0_pairsOf_78 ?_
        refine r_goto (tgt := 83) C dX0_pairsOf_79 (by decide) ?_
        refine r_ireturn C E dX0_pairsOf_83 ?_
        have e : a = wS w := by omega
        subst e
        refine ⟨_, rfl, ?_, _, _, _, _, _, _, _, _, _, rfl⟩
        rw [← es]
        first
          | (have h : i = -1 := c_75
             rw [if_pos (by omega)])
          | rw [if_neg (by omega)]
    · skip
      have ih0 := ih
      have inner : ∀ (mm : Nat), ∀ (b n : Int) (yw yl : Int → Int) (yp yr : Int) (yc yt yd : Int → Int) (yz yo : Int), (a < b) → (b ≤ wS w) → (0 ≤ n ∧ n ≤ 12 * a + b) → ((n, (-1 : Int)) = prI w i a (prS w i a) b) → (wS w - b).toNat = mm → AW g K (wX g σ x_tape x_taped x_faultKind x_faultPlace x_bestStarved x_bestMost x_bestWhole x_draws x_left x_mosts x_widened x_drawn x_img n_width n_from n_to n_load n_group n_budget n_columns n_rows n_limit n_wear n_straps n_pads n_lines n_mod n_asz n_el i_width i_load i_pads i_reached i_place i_table i_drop i_size i_whole (yw) (yl) (yp) (yr) (yc) (yt) (yd) (yz) (yo) ++ ex) 0 0 20 [some (.ref (σ 0)), some (.int (jI i)), some (.int (jI n)), some (.int (jI a)), some (.int (jI b))] [] := by
        intro mm
        induction mm using Nat.strongRecOn with
        | _ mm ih =>
        intro b n yw yl yp yr yc yt yd yz yo hb0 hb hn es hm
        refine r_iload_4 C dX0_pairsOf_20 ?_
        refine r_aload_0 C dX0_pairsOf_22 ?_
        refine gG_now C q346 dX0_pairsOf_23 ?_
        refine gTN_straps C q239 dX0_pairsOf_26 ?_
        refine r_topi (wS w) (hW.s hd) ?_
        refine r_if_icmpge (tgt := 67) C dX0_pairsOf_29 (by decide) (fun c_29 => ?_) (fun c_29 => ?_)
        · skip
          refine r_iinc_3 C dX0_pairsOf_67 ?_
          refine r_goto (tgt := 4) C dX0_pairsOf_70 (by decide) ?_
          have eb : b = wS w := by omega
          subst eb
          refine ih0 _ (show (wS w - (a + 1)).toNat < _ by omega) (a + 1) n _ _ _ _ _ _ _ _ _ _ (by omega) (by omega) (by omega) ?_ rfl
          unfold prS at es ⊢
          rw [foI_s _ _ ha0]
          exact es
        · skip
          refine r_aload_0 C dX0_pairsOf_32 ?_
          refine r_iload_3 C dX0_pairsOf_33 ?_
          refine r_iload_4 C dX0_pairsOf_34 ?_
          refine r_cV2i C (c_X0_isPair hG hd hW ⟨ha0, c_12⟩ ⟨by omega, c_29⟩) (q0 := 0) rfl rfl q1119 pkX0_isPair dX0_pairsOf_36 (fun z w h => ?_)
          obtain ⟨rfl, yw, yl, yp, yr, yc, yt, yd, yz, yo, rfl⟩ := h
          refine r_ifneB (tgt := 45) C dX0_pairsOf_39 (by decide) (fun c_39 => ?_) (fun c_39 => ?_)
          · skip
            refine r_iload_2 C dX0_pairsOf_45 ?_
            refine r_iload_1 C dX0_pairsOf_46 ?_
            refine r_if_icmpne (tgt := 58) C dX0_pairsOf_47 (by decide) (fun c_47 => ?_) (fun c_47 => ?_)
            · skip
              refine r_iinc_2 C dX0_pairsOf_58 ?_
              refine r_iinc_4 C dX0_pairsOf_61 ?_
              refine r_goto (tgt := 20) C dX0_pairsOf_64 (by decide) ?_
              first
                | (refine ih _ (show (wS w - (b + 1)).toNat < mm by omega) (b + 1) (n + 1) _ _ _ _ _ _ _ _ _ (by omega) (by omega) (by omega) ?_ rfl
                   unfold prI at es ⊢
                   rw [foI_s _ _ (by omega), ← es]
                   unfold prT
                   rw [if_pos (And.intro hb0 (And.intro rfl c_39)), if_neg c_47])
                | (refine ih _ (show (wS w - (b + 1)).toNat < mm by omega) (b + 1) n _ _ _ _ _ _ _ _ _ (by omega) (by omega) (by omega) ?_ rfl
                   unfold prI at es ⊢
                   rw [foI_s _ _ (by omega), ← es]
                   unfold prT
                   rw [if_neg (fun q => c_39 q.2.2)])
            · skip
              refine r_bipush C dX0_pairsOf_50 ?_
              refine r_iload_3 C dX0_pairsOf_52 ?_
              refine r_imul C dX0_pairsOf_53 ?_
              refine r_iload_4 C dX0_pairsOf_54 ?_
              refine r_iadd C dX0_pairsOf_56 ?_
              refine r_ireturn C E dX0_pairsOf_57 ?_
              have hf := prS_found (s := (n, -1)) ha0 c_12 hb0 c_29 es c_39 c_47
              refine ⟨_, rfl, ?_, _, _, _, _, _, _, _, _, _, rfl⟩
              rw [hf, if_neg (by omega)]
          · skip
            refine r_goto (tgt := 61) C dX0_pairsOf_42 (by decide) ?_
            refine r_iinc_4 C dX0_pairsOf_61 ?_
            refine r_goto (tgt := 20) C dX0_pairsOf_64 (by decide) ?_
            first
              | (refine ih _ (show (wS w - (b + 1)).toNat < mm by omega) (b + 1) (n + 1) _ _ _ _ _ _ _ _ _ (by omega) (by omega) (by omega) ?_ rfl
                 unfold prI at es ⊢
                 rw [foI_s _ _ (by omega), ← es]
                 unfold prT
                 rw [if_pos (And.intro hb0 (And.intro rfl c_39)), if_neg c_47])
              | (refine ih _ (show (wS w - (b + 1)).toNat < mm by omega) (b + 1) n _ _ _ _ _ _ _ _ _ (by omega) (by omega) (by omega) ?_ rfl
                 unfold prI at es ⊢
                 rw [foI_s _ _ (by omega), ← es]
                 unfold prT
                 rw [if_neg (fun q => c_39 q.2.2)])
      refine r_iload_3 C dX0_pairsOf_15 ?_
      refine r_iconst C dX0_pairsOf_16 ?_
      refine r_iadd C dX0_pairsOf_17 ?_
      refine r_istore_4 C dX0_pairsOf_18 ?_
      exact inner _ (a + 1) n _ _ _ _ _ _ _ _ _ (by omega) (by omega) (by omega) (by rw [prI_skip ha0]; exact es) rfl
  refine r_iconst C dX0_pairsOf_0 ?_
  refine r_istore_2 C dX0_pairsOf_1 ?_
  refine r_iconst C dX0_pairsOf_2 ?_
  refine r_istore_3 C dX0_pairsOf_3 ?_
  exact outer _ 0 0 _ _ _ _ _ _ _ _ _ _ (by omega) (by omega) (by omega) rfl rfl
theorem c_X0_pairs (hG : Gok g) {w : Int → Int} (hW : NW w n_width n_from n_to n_load n_group n_budget n_columns n_rows n_limit n_wear n_straps n_pads n_lines) : XMet g yX0_pairs cX0_pairs 1 (some .int) (8) 0 0 [.ref (σ 0)] (wX g σ x_tape x_taped x_faultKind x_faultPlace x_bestStarved x_bestMost x_bestWhole x_draws x_left x_mosts x_widened x_drawn x_img n_width n_from n_to n_load n_group n_budget n_columns n_rows n_limit n_wear n_straps n_pads n_lines n_mod n_asz n_el i_width i_load i_pads i_reached i_place i_table i_drop i_size i_whole t_width t_load t_pads t_reached t_place t_table t_drop t_size t_whole ++ ex) (pI (fun z ww => z = spPairs w ∧ PubX g σ ex x_tape x_taped x_faultKind x_faultPlace x_img n_width n_from n_to n_load n_group n_budget n_columns n_rows n_limit n_wear n_straps n_pads n_lines n_mod n_asz n_el ww)) := by
  refine XMet.of (L := [some (.ref (σ 0))]) hG (by decide +kernel) (Nat.le_of_ble_eq_true rfl) rfl (fun K C E => ?_)
  refine r_aload_0 C dX0_pairs_0 ?_
  refine gG_now C q346 dX0_pairs_1 ?_
  refine r_cV0i C (c_X1_is hG hW.inR4) (q0 := 7) rfl rfl q696 pkX1_is dX0_pairs_4 (fun z w h => ?_)
  obtain ⟨rfl, rfl⟩ := h
  refine r_ifeqB (tgt := 18) C dX0_pairs_7 (by decide) (fun c_7 => ?_) (fun c_7 => ?_)
  · skip
    refine r_bipush C dX0_pairs_18 ?_
    refine r_ireturn C E dX0_pairs_20 ?_
    refine ⟨_, rfl, ?_, PubX.mk⟩
    unfold spPairs
    first
      | rw [if_pos c_7, if_pos (by omega)]
      | (rw [hW.ln] at c_7; rw [if_neg c_7])
  · skip
    rw [hW.ln] at c_7
    have hd := hW.wf.gd4 c_7
    refine r_aload_0 C dX0_pairs_10 ?_
    refine r_iconst C dX0_pairs_11 ?_
    refine r_cV1i C (c_X0_pairsOf hG (by unfold inR; omega) (by omega) hd hW) (q0 := 0) rfl rfl q1115 pkX0_pairsOf dX0_pairs_12 (fun z w h => ?_)
    obtain ⟨rfl, yw, yl, yp, yr, yc, yt, yd, yz, yo, rfl⟩ := h
    refine r_goto (tgt := 20) C dX0_pairs_15 (by decide) ?_
    refine r_ireturn C E dX0_pairs_20 ?_
    refine ⟨_, rfl, ?_, PubX.mk⟩
    unfold spPairs
    first
      | rw [if_pos c_7, if_pos (by omega)]
      | (rw [hW.ln] at c_7; rw [if_neg c_7])
theorem c_X0_pair (hG : Gok g) {i : Int} {w : Int → Int} (hi : inR i) (hW : NW w n_width n_from n_to n_load n_group n_budget n_columns n_rows n_limit n_wear n_straps n_pads n_lines) : XMet g yX0_pair cX0_pair 2 (some .int) (8) 0 0 [.ref (σ 0), .int (jI i)] (wX g σ x_tape x_taped x_faultKind x_faultPlace x_bestStarved x_bestMost x_bestWhole x_draws x_left x_mosts x_widened x_drawn x_img n_width n_from n_to n_load n_group n_budget n_columns n_rows n_limit n_wear n_straps n_pads n_lines n_mod n_asz n_el i_width i_load i_pads i_reached i_place i_table i_drop i_size i_whole t_width t_load t_pads t_reached t_place t_table t_drop t_size t_whole ++ ex) (pI (fun z ww => z = spPair w i ∧ PubX g σ ex x_tape x_taped x_faultKind x_faultPlace x_img n_width n_from n_to n_load n_group n_budget n_columns n_rows n_limit n_wear n_straps n_pads n_lines n_mod n_asz n_el ww)) := by
  refine XMet.of (L := [some (.ref (σ 0)), some (.int (jI i))]) hG (by decide +kernel) (Nat.le_of_ble_eq_true rfl) rfl (fun K C E => ?_)
  refine r_aload_0 C dX0_pair_0 ?_
  refine gG_now C q346 dX0_pair_1 ?_
  refine r_cV0i C (c_X1_is hG hW.inR4) (q0 := 7) rfl rfl q696 pkX1_is dX0_pair_4 (fun z w h => ?_)
  obtain ⟨rfl, rfl⟩ := h
  refine r_ifeqB (tgt := 22) C dX0_pair_7 (by decide) (fun c_7 => ?_) (fun c_7 => ?_)
  · skip
    refine r_bipush C dX0_pair_22 ?_
    refine r_ireturn C E dX0_pair_24 ?_
    refine ⟨_, rfl, ?_, PubX.mk⟩
    unfold spPair
    first
      | rw [if_pos (And.intro c_7 (by omega)), if_neg (by omega)]
      | (rw [hW.ln] at c_7; rw [if_neg (fun q => c_7 q.1)])
      | rw [if_neg (by omega)]
  · skip
    refine r_iload_1 C dX0_pair_10 ?_
    refine r_iflt (tgt := 22) C dX0_pair_11 (by decide) (fun c_11 => ?_) (fun c_11 => ?_)
    · skip
      refine r_bipush C dX0_pair_22 ?_
      refine r_ireturn C E dX0_pair_24 ?_
      refine ⟨_, rfl, ?_, PubX.mk⟩
      unfold spPair
      first
        | rw [if_pos (And.intro c_7 (by omega)), if_neg (by omega)]
        | (rw [hW.ln] at c_7; rw [if_neg (fun q => c_7 q.1)])
        | rw [if_neg (by omega)]
    · skip
      rw [hW.ln] at c_7
      have hd := hW.wf.gd4 c_7
      refine r_aload_0 C dX0_pair_14 ?_
      refine r_iload_1 C dX0_pair_15 ?_
      refine r_cV1i C (c_X0_pairsOf hG hi (by omega) hd hW) (q0 := 0) rfl rfl q1115 pkX0_pairsOf dX0_pair_16 (fun z w h => ?_)
      obtain ⟨rfl, yw, yl, yp, yr, yc, yt, yd, yz, yo, rfl⟩ := h
      refine r_goto (tgt := 24) C dX0_pair_19 (by decide) ?_
      refine r_ireturn C E dX0_pair_24 ?_
      refine ⟨_, rfl, ?_, PubX.mk⟩
      unfold spPair
      first
        | rw [if_pos (And.intro c_7 (by omega)), if_neg (by omega)]
        | (rw [hW.ln] at c_7; rw [if_neg (fun q => c_7 q.1)])
        | rw [if_neg (by omega)]
theorem c_X0_draw (hG : Gok g) {n : Int} (hn : 1 ≤ n ∧ n ≤ 100) (hdr : 0 ≤ x_drawn ∧ x_drawn < 2147483648) : XMet g yX0_draw cX0_draw 2 (some .int) (0) 0 0 [.ref (σ 0), .int (jI n)] (wX g σ x_tape x_taped x_faultKind x_faultPlace x_bestStarved x_bestMost x_bestWhole x_draws x_left x_mosts x_widened x_drawn x_img n_width n_from n_to n_load n_group n_budget n_columns n_rows n_limit n_wear n_straps n_pads n_lines n_mod n_asz n_el i_width i_load i_pads i_reached i_place i_table i_drop i_size i_whole t_width t_load t_pads t_reached t_place t_table t_drop t_size t_whole ++ ex) (pI (fun z w => z = lcg x_drawn / 65536 % n ∧ w = (wX g σ x_tape x_taped x_faultKind x_faultPlace x_bestStarved x_bestMost x_bestWhole x_draws x_left x_mosts x_widened (lcg x_drawn) x_img n_width n_from n_to n_load n_group n_budget n_columns n_rows n_limit n_wear n_straps n_pads n_lines n_mod n_asz n_el i_width i_load i_pads i_reached i_place i_table i_drop i_size i_whole t_width t_load t_pads t_reached t_place t_table t_drop t_size t_whole ++ ex))) := by
  refine XMet.of (L := [some (.ref (σ 0)), some (.int (jI n))]) hG (by decide +kernel) (Nat.le_of_ble_eq_true rfl) rfl (fun K C E => ?_)
  have hl := lcg_in x_drawn
  have hq : 0 ≤ lcg x_drawn / 65536 ∧ lcg x_drawn / 65536 ≤ 32768 := by omega
  refine r_aload_0 C dX0_draw_0 ?_
  refine r_ldc2 C 1103515245 q1139 dX0_draw_1 ?_
  refine r_aload_0 C dX0_draw_4 ?_
  refine gG_drawn C q361 dX0_draw_5 ?_
  refine r_lmul C dX0_draw_8 ?_
  refine r_ldc2 C 12345 q1140 dX0_draw_9 ?_
  refine r_ladd C dX0_draw_12 ?_
  refine r_ldc2 C 2147483648 q1141 dX0_draw_13 ?_
  refine r_lrem C dX0_draw_16 ?_
  refine r_topl (lcg x_drawn) (pl_tmod (by omega)) ?_
  refine pG_drawn C q361 dX0_draw_17 ?_
  refine r_aload_0 C dX0_draw_20 ?_
  refine gG_drawn C q361 dX0_draw_21 ?_
  refine r_ldc2 C 65536 q1142 dX0_draw_24 ?_
  refine r_ldiv C dX0_draw_27 ?_
  refine r_topl (lcg x_drawn / 65536) (pl_tdiv (by omega)) ?_
  refine r_iload_1 C dX0_draw_28 ?_
  refine r_i2l C dX0_draw_29 ?_
  refine r_lrem C dX0_draw_30 ?_
  refine r_topl (lcg x_drawn / 65536 % n) (pl_tmod (by omega)) ?_
  refine r_l2i C dX0_draw_31 ?_
  refine r_ireturn C E dX0_draw_32 ?_
  exact ⟨_, rfl, rfl, rfl⟩
theorem c_X0_byDraws (hG : Gok g) {w : Int → Int} (hd : Gd w) (hW : NW w n_width n_from n_to n_load n_group n_budget n_columns n_rows n_limit n_wear n_straps n_pads n_lines) (hdr : 0 ≤ x_drawn ∧ x_drawn < 2147483648) : XMet g yX0_byDraws cX0_byDraws 2 (some (.object "SupplyGrid$Solved")) (4) 0 0 [.ref (σ 0)] (wX g σ x_tape x_taped x_faultKind x_faultPlace x_bestStarved x_bestMost x_bestWhole x_draws x_left x_mosts x_widened x_drawn x_img n_width n_from n_to n_load n_group n_budget n_columns n_rows n_limit n_wear n_straps n_pads n_lines n_mod n_asz n_el i_width i_load i_pads i_reached i_place i_table i_drop i_size i_whole t_width t_load t_pads t_reached t_place t_table t_drop t_size t_whole ++ ex) (pA (fun a ww => a = σ 31 ∧ ∃ sw sl sp pl tb dr, TS (trW w x_drawn) sw sl sp (wR (trW w x_drawn)) pl tb dr (wm (trW w x_drawn)) (wWh (trW w x_drawn)) ∧ ww = (wX g σ x_tape x_taped x_faultKind x_faultPlace x_bestStarved x_bestMost x_bestWhole x_draws x_left x_mosts x_widened (itN lcg (wN w).toNat x_drawn) x_img n_width n_from n_to n_load n_group n_budget n_columns n_rows n_limit n_wear n_straps n_pads n_lines n_mod n_asz n_el i_width i_load i_pads i_reached i_place i_table i_drop i_size i_whole (sw) (sl) (sp) (wR (trW w x_drawn)) (pl) (tb) (dr) (wm (trW w x_drawn)) (wWh (trW w x_drawn)) ++ ex))) := by
  refine XMet.of (L := [some (.ref (σ 0)), none]) hG (by decide +kernel) (Nat.le_of_ble_eq_true rfl) rfl (fun K C E => ?_)
  have hn := hd.n
  have hdT := hd.tr x_drawn
  have hNT := (hW.nb hd).of (u := trW w x_drawn) lo_tr
  have key : ∀ (mm : Nat), ∀ (v : Int) (yw yl : Int → Int) (yp yr : Int) (yc yt yd : Int → Int) (yz yo : Int), (0 ≤ v) → (v ≤ wN w) → (∀ k : Int, 0 ≤ k → k < 12 → yw k = w (28 + k)) → (∀ u : Int, 0 ≤ u → u < v → yl u = trV w x_drawn u) → (∀ u : Int, v ≤ u → u < 9 → yl u = w (6 + u)) → (yp = w 5) → (wN w - v).toNat = mm → AW g K (wX g σ x_tape x_taped x_faultKind x_faultPlace x_bestStarved x_bestMost x_bestWhole x_draws x_left x_mosts x_widened (itN lcg v.toNat x_drawn) x_img n_width n_from n_to n_load n_group n_budget n_columns n_rows n_limit n_wear n_straps n_pads n_lines n_mod n_asz n_el i_width i_load i_pads i_reached i_place i_table i_drop i_size i_whole (yw) (yl) (yp) (yr) (yc) (yt) (yd) (yz) (yo) ++ ex) 0 0 9 [some (.ref (σ 0)), some (.int (jI v))] [] := by
    intro mm
    induction mm using Nat.strongRecOn with
    | _ mm ih =>
    intro v yw yl yp yr yc yt yd yz yo hv0 hv hw h1 h2 hp hm
    refine r_iload_1 C dX0_byDraws_9 ?_
    refine r_aload_0 C dX0_byDraws_10 ?_
    refine gG_now C q346 dX0_byDraws_11 ?_
    refine r_cV0i C (c_X1_many hG) (q0 := 7) rfl rfl q768 pkX1_many dX0_byDraws_14 (fun z w h => ?_)
    obtain ⟨rfl, rfl⟩ := h
    refine r_topi (wN w) (by rw [hW.c, hW.r]; rfl) ?_
    refine r_if_icmpge (tgt := 50) C dX0_byDraws_17 (by decide) (fun c_17 => ?_) (fun c_17 => ?_)
    · skip
      have ev : v = wN w := by omega
      subst ev
      have hX : SX (trW w x_drawn) yw yl yp := SX.tr hd hw h1 h2 hp
      refine r_aload_0 C dX0_byDraws_50 ?_
      refine gG_tried C q353 dX0_byDraws_51 ?_
      refine r_cV0a C (c_X4_solves_Y hG hdT hNT hX) (q0 := 31) rfl rfl q713 pkX4_solves dX0_byDraws_54 (fun z w h => ?_)
      obtain ⟨rfl, pl, tb, dr, hS, rfl⟩ := h
      refine r_areturn C E (Or.inl ⟨_, rfl⟩) dX0_byDraws_57 ?_
      exact ⟨_, rfl, rfl, _, _, _, pl, tb, dr, ⟨hX, hS⟩, rfl⟩
    · skip
      have hdi := itN_in hdr v.toNat
      have hld := hd.ld v hv0 (by omega)
      refine r_aload_0 C dX0_byDraws_20 ?_
      refine gG_tried C q353 dX0_byDraws_21 ?_
      refine gYI_load C q307 dX0_byDraws_24 ?_
      refine r_iload_1 C dX0_byDraws_27 ?_
      refine r_aload_0 C dX0_byDraws_28 ?_
      refine r_aload_0 C dX0_byDraws_29 ?_
      refine gG_now C q346 dX0_byDraws_30 ?_
      refine gTN_load C q209 dX0_byDraws_33 ?_
      refine r_iload_1 C dX0_byDraws_36 ?_
      refine ld_n_load C dX0_byDraws_37 ?_
      refine r_topi (w (6 + v)) (hW.ld v hv0 (by omega)) ?_
      refine r_iconst C dX0_byDraws_38 ?_
      refine r_iadd C dX0_byDraws_39 ?_
      refine r_cV1i C (c_X0_draw hG (by omega) hdi) (q0 := 0) rfl rfl q1135 pkX0_draw dX0_byDraws_40 (fun z w h => ?_)
      obtain ⟨rfl, rfl⟩ := h
      refine st_t_load C dX0_byDraws_43 ?_
      refine r_iinc_1 C dX0_byDraws_44 ?_
      refine r_goto (tgt := 9) C dX0_byDraws_47 (by decide) ?_
      have ed : lcg (itN lcg v.toNat x_drawn) = itN lcg (v + 1).toNat x_drawn := by rw [show (v + 1).toNat = v.toNat + 1 by omega]; rfl
      rw [ed]
      refine ih _ (show (wN w - (v + 1)).toNat < mm by omega) (v + 1) _ _ _ _ _ _ _ _ _ (by omega) (by omega) hw (fun u a b => ?_) (fun u a b => ?_) hp rfl
      · by_cases eu : u = v
        · rw [eu, aset_at]; rfl
        · rw [aset_ne (by omega)]; exact h1 u a (by omega)
      · rw [aset_ne (by omega)]; exact h2 u (by omega) b
  refine r_aload_0 C dX0_byDraws_0 ?_
  refine gG_tried C q353 dX0_byDraws_1 ?_
  refine r_cU0v C (c_X3_takes_Y hG) (q0 := 31) rfl rfl q704 pkU_X3_takes dX0_byDraws_4 (fun w h => ?_)
  subst h
  refine r_iconst C dX0_byDraws_7 ?_
  refine r_istore_1 C dX0_byDraws_8 ?_
  exact key _ 0 _ _ _ _ _ _ _ _ _ (by omega) (by omega) (hW.sx (a := t_width) (b := t_load)).1 (fun u _ _ => by omega) (fun u a b => (hW.sx (a := t_width) (b := t_load)).2.1 u a b) hW.pd rfl
theorem c_X0_chance (hG : Gok g) {sd n : Int} {w : Int → Int} (hsd : inR sd) (hn : inR n) (hW : NW w n_width n_from n_to n_load n_group n_budget n_columns n_rows n_limit n_wear n_straps n_pads n_lines) : XMet g yX0_chance cX0_chance 5 (some .int) (6) 0 0 [.ref (σ 0), .int (jI sd), .int (jI n)] (wX g σ x_tape x_taped x_faultKind x_faultPlace x_bestStarved x_bestMost x_bestWhole x_draws x_left x_mosts x_widened x_drawn x_img n_width n_from n_to n_load n_group n_budget n_columns n_rows n_limit n_wear n_straps n_pads n_lines n_mod n_asz n_el i_width i_load i_pads i_reached i_place i_table i_drop i_size i_whole t_width t_load t_pads t_reached t_place t_table t_drop t_size t_whole ++ ex) (pI (fun z ww => z = spChance w sd n ∧ PubX g σ ex x_tape x_taped x_faultKind x_faultPlace x_img n_width n_from n_to n_load n_group n_budget n_columns n_rows n_limit n_wear n_straps n_pads n_lines n_mod n_asz n_el ww)) := by
  refine XMet.of (L := [some (.ref (σ 0)), some (.int (jI sd)), some (.int (jI n)), none, none]) hG (by decide +kernel) (Nat.le_of_ble_eq_true rfl) rfl (fun K C E => ?_)
  have hs2 := hsd.2
  refine r_aload_0 C dX0_chance_0 ?_
  refine gG_now C q346 dX0_chance_1 ?_
  refine r_cV0i C (c_X1_is hG hW.inR4) (q0 := 7) rfl rfl q696 pkX1_is dX0_chance_4 (fun z w h => ?_)
  obtain ⟨rfl, rfl⟩ := h
  refine r_ifeqB (tgt := 26) C dX0_chance_7 (by decide) (fun c_7 => ?_) (fun c_7 => ?_)
  · skip
    refine r_bipush C dX0_chance_26 ?_
    refine r_ireturn C E dX0_chance_28 ?_
    rw [hW.ln] at c_7
    refine ⟨_, rfl, ?_, PubX.mk⟩
    unfold spChance
    first
      | rw [if_neg (fun q => c_7 q.1)]
      | rw [if_neg (fun q => c_23 q.2.2)]
      | rw [if_neg (by omega)]
  · skip
    refine r_iload_1 C dX0_chance_10 ?_
    refine r_iflt (tgt := 26) C dX0_chance_11 (by decide) (fun c_11 => ?_) (fun c_11 => ?_)
    · skip
      refine r_bipush C dX0_chance_26 ?_
      refine r_ireturn C E dX0_chance_28 ?_
      rw [hW.ln] at c_7
      refine ⟨_, rfl, ?_, PubX.mk⟩
      unfold spChance
      first
        | rw [if_neg (fun q => c_7 q.1)]
        | rw [if_neg (fun q => c_23 q.2.2)]
        | rw [if_neg (by omega)]
    · skip
      refine r_iload_2 C dX0_chance_14 ?_
      refine r_i2l C dX0_chance_15 ?_
      refine r_lconst1 C dX0_chance_16 ?_
      refine r_ldc2 C 100 q962 dX0_chance_17 ?_
      refine r_cS3i C (c_X0_in hG (inR_L hn) (by unfold inL; omega) (by unfold inL; omega)) q403 pkX0_in dX0_chance_20 (fun z w h => ?_)
      obtain ⟨rfl, rfl⟩ := h
      refine r_ifneB (tgt := 29) C dX0_chance_23 (by decide) (fun c_23 => ?_) (fun c_23 => ?_)
      · skip
        rw [hW.ln] at c_7
        have hd := hW.wf.gd4 c_7
        have key : ∀ (mm : Nat), ∀ (k : Int) (s : Int × Int × Int × Int) (yw yl : Int → Int) (yp yr : Int) (yc yt yd : Int → Int) (yz yo : Int), (0 ≤ k) → (k ≤ n) → (0 ≤ s.1 ∧ s.1 < 2147483648) → (0 ≤ s.2.1 ∧ s.2.1 ≤ k) → (s = trS w sd k) → (n - k).toNat = mm → AW g K (wX g σ x_tape x_taped x_faultKind x_faultPlace x_bestStarved x_bestMost x_bestWhole x_draws x_left x_mosts x_widened (s.1) x_img n_width n_from n_to n_load n_group n_budget n_columns n_rows n_limit n_wear n_straps n_pads n_lines n_mod n_asz n_el i_width i_load i_pads i_reached i_place i_table i_drop i_size i_whole (yw) (yl) (yp) (yr) (yc) (yt) (yd) (yz) (yo) ++ ex) 0 0 40 [some (.ref (σ 0)), some (.int (jI sd)), some (.int (jI n)), some (.int (jI s.2.1)), some (.int (jI k))] [] := by
          intro mm
          induction mm using Nat.strongRecOn with
          | _ mm ih =>
          intro k s yw yl yp yr yc yt yd yz yo hk0 hk hs1 hh es hm
          have hdT := hd.tr s.1
          have hNT := (hW.nb hd).of (u := trW w s.1) lo_tr
          refine r_iload_4 C dX0_chance_40 ?_
          refine r_iload_2 C dX0_chance_42 ?_
          refine r_if_icmpge (tgt := 70) C dX0_chance_43 (by decide) (fun c_43 => ?_) (fun c_43 => ?_)
          · skip
            refine r_iload_3 C dX0_chance_70 ?_
            refine r_ireturn C E dX0_chance_71 ?_
            have e : k = n := by omega
            subst e
            subst es
            exact ⟨_, rfl, by unfold spChance; rw [if_pos (And.intro c_7 (And.intro (by omega) c_23))], PubX.mk⟩
          · skip
            refine r_iload_3 C dX0_chance_46 ?_
            refine r_aload_0 C dX0_chance_47 ?_
            refine r_cV0a C (c_X0_byDraws hG hd hW hs1) (q0 := 0) rfl rfl q1131 pkX0_byDraws dX0_chance_48 (fun z w h => ?_)
            obtain ⟨rfl, sw, sl, sp, pl, tb, dr, hT, rfl⟩ := h
            refine r_cV0i C (c_X4_holds_Y hG hdT hNT rfl hT.1.2.1 rfl hT.2.2.2.2.2.1) (q0 := 31) rfl rfl q863 pkX4_holds dX0_chance_51 (fun z w h => ?_)
            obtain ⟨rfl, rfl⟩ := h
            refine r_ifeqB (tgt := 61) C dX0_chance_54 (by decide) (fun c_54 => ?_) (fun c_54 => ?_)
            · skip
              refine r_iconst C dX0_chance_61 ?_
              refine r_iadd C dX0_chance_62 ?_
              refine r_istore_3 C dX0_chance_63 ?_
              refine r_iinc_4 C dX0_chance_64 ?_
              refine r_goto (tgt := 40) C dX0_chance_67 (by decide) ?_
              first
                | (refine ih _ (show (n - (k + 1)).toNat < mm by omega) (k + 1) (itN lcg (wN w).toNat s.1, s.2.1 + 1, if cmpF (wMx (trW w s.1)) (wWh (trW w s.1)) s.2.2.1 s.2.2.2 ≤ 0 then s.2.2 else (wMx (trW w s.1), wWh (trW w s.1))) _ _ _ _ _ _ _ _ _ (by omega) (by omega) (itN_in hs1 _) (by (try simp only); omega) ?_ rfl
                   unfold trS at es ⊢
                   rw [foI_s _ _ hk0, ← es]
                   unfold trT
                   rw [if_pos c_54])
                | (refine ih _ (show (n - (k + 1)).toNat < mm by omega) (k + 1) (itN lcg (wN w).toNat s.1, s.2.1 + 0, if cmpF (wMx (trW w s.1)) (wWh (trW w s.1)) s.2.2.1 s.2.2.2 ≤ 0 then s.2.2 else (wMx (trW w s.1), wWh (trW w s.1))) _ _ _ _ _ _ _ _ _ (by omega) (by omega) (itN_in hs1 _) (by (try simp only); omega) ?_ rfl
                   unfold trS at es ⊢
                   rw [foI_s _ _ hk0, ← es]
                   unfold trT
                   rw [if_neg c_54])
            · skip
              refine r_iconst C dX0_chance_57 ?_
              refine r_goto (tgt := 62) C dX0_chance_58 (by decide) ?_
              refine r_iadd C dX0_chance_62 ?_
              refine r_istore_3 C dX0_chance_63 ?_
              refine r_iinc_4 C dX0_chance_64 ?_
              refine r_goto (tgt := 40) C dX0_chance_67 (by decide) ?_
              first
                | (refine ih _ (show (n - (k + 1)).toNat < mm by omega) (k + 1) (itN lcg (wN w).toNat s.1, s.2.1 + 1, if cmpF (wMx (trW w s.1)) (wWh (trW w s.1)) s.2.2.1 s.2.2.2 ≤ 0 then s.2.2 else (wMx (trW w s.1), wWh (trW w s.1))) _ _ _ _ _ _ _ _ _ (by omega) (by omega) (itN_in hs1 _) (by (try simp only); omega) ?_ rfl
                   unfold trS at es ⊢
                   rw [foI_s _ _ hk0, ← es]
                   unfold trT
                   rw [if_pos c_54])
                | (refine ih _ (show (n - (k + 1)).toNat < mm by omega) (k + 1) (itN lcg (wN w).toNat s.1, s.2.1 + 0, if cmpF (wMx (trW w s.1)) (wWh (trW w s.1)) s.2.2.1 s.2.2.2 ≤ 0 then s.2.2 else (wMx (trW w s.1), wWh (trW w s.1))) _ _ _ _ _ _ _ _ _ (by omega) (by omega) (itN_in hs1 _) (by (try simp only); omega) ?_ rfl
                   unfold trS at es ⊢
                   rw [foI_s _ _ hk0, ← es]
                   unfold trT
                   rw [if_neg c_54])
        refine r_aload_0 C dX0_chance_29 ?_
        refine r_iload_1 C dX0_chance_30 ?_
        refine r_i2l C dX0_chance_31 ?_
        refine pG_drawn C q361 dX0_chance_32 ?_
        refine r_iconst C dX0_chance_35 ?_
        refine r_istore_3 C dX0_chance_36 ?_
        refine r_iconst C dX0_chance_37 ?_
        refine r_istore_4 C dX0_chance_38 ?_
        exact key _ 0 (sd, 0, 0, 1) _ _ _ _ _ _ _ _ _ (by omega) (by omega) ⟨by (try simp only); omega, by (try simp only); omega⟩ (by (try simp only); omega) rfl rfl
      · skip
        refine r_bipush C dX0_chance_26 ?_
        refine r_ireturn C E dX0_chance_28 ?_
        rw [hW.ln] at c_7
        refine ⟨_, rfl, ?_, PubX.mk⟩
        unfold spChance
        first
          | rw [if_neg (fun q => c_7 q.1)]
          | rw [if_neg (fun q => c_23 q.2.2)]
          | rw [if_neg (by omega)]
theorem c_X0_luck (hG : Gok g) {sd n p : Int} {w : Int → Int} (hsd : inR sd) (hn : inR n) (hp : inR p) (hW : NW w n_width n_from n_to n_load n_group n_budget n_columns n_rows n_limit n_wear n_straps n_pads n_lines) : XMet g yX0_luck cX0_luck 9 (some .long) (71) 0 0 [.ref (σ 0), .int (jI sd), .int (jI n), .int (jI p)] (wX g σ x_tape x_taped x_faultKind x_faultPlace x_bestStarved x_bestMost x_bestWhole x_draws x_left x_mosts x_widened x_drawn x_img n_width n_from n_to n_load n_group n_budget n_columns n_rows n_limit n_wear n_straps n_pads n_lines n_mod n_asz n_el i_width i_load i_pads i_reached i_place i_table i_drop i_size i_whole t_width t_load t_pads t_reached t_place t_table t_drop t_size t_whole ++ ex) (pL (fun z ww => z = spLuck w sd n p ∧ PubX g σ ex x_tape x_taped x_faultKind x_faultPlace x_img n_width n_from n_to n_load n_group n_budget n_columns n_rows n_limit n_wear n_straps n_pads n_lines n_mod n_asz n_el ww)) := by
  refine XMet.of (L := [some (.ref (σ 0)), some (.int (jI sd)), some (.int (jI n)), some (.int (jI p)), none, none, none, none, none]) hG (by decide +kernel) (Nat.le_of_ble_eq_true rfl) rfl (fun K C E => ?_)
  have hs2 := hsd.2
  refine r_aload_0 C dX0_luck_0 ?_
  refine gG_now C q346 dX0_luck_1 ?_
  refine r_cV0i C (c_X1_is hG hW.inR4) (q0 := 7) rfl rfl q696 pkX1_is dX0_luck_4 (fun z w h => ?_)
  obtain ⟨rfl, rfl⟩ := h
  refine r_ifeqB (tgt := 33) C dX0_luck_7 (by decide) (fun c_7 => ?_) (fun c_7 => ?_)
  · skip
    refine r_ldc2 C (-2) q802 dX0_luck_33 ?_
    refine r_lreturn C E dX0_luck_36 ?_
    rw [hW.ln] at c_7
    refine ⟨_, rfl, ?_, PubX.mk⟩
    unfold spLuck
    first
      | rw [if_neg (fun q => c_7 q.1.1)]
      | rw [if_neg (fun q => c_23 q.1.2.2)]
      | rw [if_neg (fun q => c_30 q.2)]
      | rw [if_neg (by omega)]
  · skip
    refine r_iload_1 C dX0_luck_10 ?_
    refine r_iflt (tgt := 33) C dX0_luck_11 (by decide) (fun c_11 => ?_) (fun c_11 => ?_)
    · skip
      refine r_ldc2 C (-2) q802 dX0_luck_33 ?_
      refine r_lreturn C E dX0_luck_36 ?_
      rw [hW.ln] at c_7
      refine ⟨_, rfl, ?_, PubX.mk⟩
      unfold spLuck
      first
        | rw [if_neg (fun q => c_7 q.1.1)]
        | rw [if_neg (fun q => c_23 q.1.2.2)]
        | rw [if_neg (fun q => c_30 q.2)]
        | rw [if_neg (by omega)]
    · skip
      refine r_iload_2 C dX0_luck_14 ?_
      refine r_i2l C dX0_luck_15 ?_
      refine r_lconst1 C dX0_luck_16 ?_
      refine r_ldc2 C 100 q962 dX0_luck_17 ?_
      refine r_cS3i C (c_X0_in hG (inR_L hn) (by unfold inL; omega) (by unfold inL; omega)) q403 pkX0_in dX0_luck_20 (fun z w h => ?_)
      obtain ⟨rfl, rfl⟩ := h
      refine r_ifeqB (tgt := 33) C dX0_luck_23 (by decide) (fun c_23 => ?_) (fun c_23 => ?_)
      · skip
        refine r_ldc2 C (-2) q802 dX0_luck_33 ?_
        refine r_lreturn C E dX0_luck_36 ?_
        rw [hW.ln] at c_7
        refine ⟨_, rfl, ?_, PubX.mk⟩
        unfold spLuck
        first
          | rw [if_neg (fun q => c_7 q.1.1)]
          | rw [if_neg (fun q => c_23 q.1.2.2)]
          | rw [if_neg (fun q => c_30 q.2)]
          | rw [if_neg (by omega)]
      · skip
        refine r_iload_3 C dX0_luck_26 ?_
        refine r_cS1i C (c_X0_isPart hG hp) q799 pkX0_isPart dX0_luck_27 (fun z w h => ?_)
        obtain ⟨rfl, rfl⟩ := h
        refine r_ifneB (tgt := 37) C dX0_luck_30 (by decide) (fun c_30 => ?_) (fun c_30 => ?_)
        · skip
          rw [hW.ln] at c_7
          have hd := hW.wf.gd4 c_7
          have key : ∀ (mm : Nat), ∀ (k : Int) (s : Int × Int × Int × Int) (yw yl : Int → Int) (yp yr : Int) (yc yt yd : Int → Int) (yz yo : Int), (0 ≤ k) → (k ≤ n) → (0 ≤ s.1 ∧ s.1 < 2147483648) → (0 ≤ s.2.2.1 ∧ s.2.2.1 ≤ 7653631721472) → (0 < s.2.2.2 ∧ s.2.2.2 ≤ 8589934592) → (s = trS w sd k) → (n - k).toNat = mm → AW g K (wX g σ x_tape x_taped x_faultKind x_faultPlace x_bestStarved x_bestMost x_bestWhole x_draws x_left x_mosts x_widened (s.1) x_img n_width n_from n_to n_load n_group n_budget n_columns n_rows n_limit n_wear n_straps n_pads n_lines n_mod n_asz n_el i_width i_load i_pads i_reached i_place i_table i_drop i_size i_whole (yw) (yl) (yp) (yr) (yc) (yt) (yd) (yz) (yo) ++ ex) 0 0 52 [some (.ref (σ 0)), some (.int (jI sd)), some (.int (jI n)), some (.int (jI p)), some (.long (jL s.2.2.1)), none, some (.long (jL s.2.2.2)), none, some (.int (jI k))] [] := by
            intro mm
            induction mm using Nat.strongRecOn with
            | _ mm ih =>
            intro k s yw yl yp yr yc yt yd yz yo hk0 hk hs1 hs3 hs4 es hm
            have hdT := hd.tr s.1
            have hNT := (hW.nb hd).of (u := trW w s.1) lo_tr
            have hmx := hdT.mx
            have hwh := hdT.who
            refine r_iload_8 C dX0_luck_52 ?_
            refine r_iload_2 C dX0_luck_54 ?_
            refine r_if_icmpge (tgt := 109) C dX0_luck_55 (by decide) (fun c_55 => ?_) (fun c_55 => ?_)
            · skip
              refine r_lload_4 C dX0_luck_109 ?_
              refine r_lload_6 C dX0_luck_111 ?_
              refine r_iload_3 C dX0_luck_113 ?_
              refine r_cS3l C (c_X0_part hG (by omega) (by omega) hp (by omega)) q803 pkX0_part dX0_luck_114 (fun z w h => ?_)
              obtain ⟨rfl, rfl⟩ := h
              refine r_lreturn C E dX0_luck_117 ?_
              have e : k = n := by omega
              subst e
              subst es
              exact ⟨_, rfl, by unfold spLuck; rw [if_pos (And.intro (And.intro c_7 (And.intro (by omega) c_23)) c_30)], PubX.mk⟩
            · skip
              refine r_aload_0 C dX0_luck_58 ?_
              refine r_cV0a C (c_X0_byDraws hG hd hW hs1) (q0 := 0) rfl rfl q1131 pkX0_byDraws dX0_luck_59 (fun z w h => ?_)
              obtain ⟨rfl, sw, sl, sp, pl, tb, dr, hT, rfl⟩ := h
              refine r_cV0l C (c_X4_most_Y hG hdT hNT rfl hT.2.2.2.2.2.1) (q0 := 31) rfl rfl q1008 pkX4_most dX0_luck_62 (fun z w h => ?_)
              obtain ⟨rfl, rfl⟩ := h
              refine r_aload_0 C dX0_luck_65 ?_
              refine gG_tried C q353 dX0_luck_66 ?_
              refine gYN_whole C q298 dX0_luck_69 ?_
              refine r_lload_4 C dX0_luck_72 ?_
              refine r_lload_6 C dX0_luck_74 ?_
              refine r_cS4i C (c_X0_isMore hG (by omega) (by omega) (by omega) (by omega)) q1013 pkX0_isMore dX0_luck_76 (fun z w h => ?_)
              obtain ⟨rfl, rfl⟩ := h
              refine r_ifneB (tgt := 85) C dX0_luck_79 (by decide) (fun c_79 => ?_) (fun c_79 => ?_)
              · skip
                refine r_aload_0 C dX0_luck_85 ?_
                refine gG_tried C q353 dX0_luck_86 ?_
                refine r_cV0l C (c_X4_most_Y hG hdT hNT rfl hT.2.2.2.2.2.1) (q0 := 31) rfl rfl q1008 pkX4_most dX0_luck_89 (fun z w h => ?_)
                obtain ⟨rfl, rfl⟩ := h
                refine r_lstore_4 C dX0_luck_92 ?_
                refine r_aload_0 C dX0_luck_94 ?_
                refine gG_tried C q353 dX0_luck_95 ?_
                refine gYN_whole C q298 dX0_luck_98 ?_
                refine r_lstore_6 C dX0_luck_101 ?_
                refine r_iinc_8 C dX0_luck_103 ?_
                refine r_goto (tgt := 52) C dX0_luck_106 (by decide) ?_
                first
                  | (have h : 0 < cmpF (wMx (trW w s.1)) (wWh (trW w s.1)) s.2.2.1 s.2.2.2 := c_79
                     refine ih _ (show (n - (k + 1)).toNat < mm by omega) (k + 1) (itN lcg (wN w).toNat s.1, s.2.1 + (if wHo (trW w s.1) = true then 1 else 0), (wMx (trW w s.1), wWh (trW w s.1))) _ _ _ _ _ _ _ _ _ (by omega) (by omega) (itN_in hs1 _) hmx hwh ?_ rfl
                     unfold trS at es ⊢
                     rw [foI_s _ _ hk0, ← es]
                     unfold trT
                     rw [if_neg (show ¬ cmpF (wMx (trW w s.1)) (wWh (trW w s.1)) s.2.2.1 s.2.2.2 ≤ 0 by omega)])
                  | (refine ih _ (show (n - (k + 1)).toNat < mm by omega) (k + 1) (itN lcg (wN w).toNat s.1, s.2.1 + (if wHo (trW w s.1) = true then 1 else 0), s.2.2) _ _ _ _ _ _ _ _ _ (by omega) (by omega) (itN_in hs1 _) hs3 hs4 ?_ rfl
                     unfold trS at es ⊢
                     rw [foI_s _ _ hk0, ← es]
                     unfold trT
                     rw [if_pos (show cmpF (wMx (trW w s.1)) (wWh (trW w s.1)) s.2.2.1 s.2.2.2 ≤ 0 by omega)])
              · skip
                refine r_goto (tgt := 103) C dX0_luck_82 (by decide) ?_
                refine r_iinc_8 C dX0_luck_103 ?_
                refine r_goto (tgt := 52) C dX0_luck_106 (by decide) ?_
                first
                  | (have h : 0 < cmpF (wMx (trW w s.1)) (wWh (trW w s.1)) s.2.2.1 s.2.2.2 := c_79
                     refine ih _ (show (n - (k + 1)).toNat < mm by omega) (k + 1) (itN lcg (wN w).toNat s.1, s.2.1 + (if wHo (trW w s.1) = true then 1 else 0), (wMx (trW w s.1), wWh (trW w s.1))) _ _ _ _ _ _ _ _ _ (by omega) (by omega) (itN_in hs1 _) hmx hwh ?_ rfl
                     unfold trS at es ⊢
                     rw [foI_s _ _ hk0, ← es]
                     unfold trT
                     rw [if_neg (show ¬ cmpF (wMx (trW w s.1)) (wWh (trW w s.1)) s.2.2.1 s.2.2.2 ≤ 0 by omega)])
                  | (refine ih _ (show (n - (k + 1)).toNat < mm by omega) (k + 1) (itN lcg (wN w).toNat s.1, s.2.1 + (if wHo (trW w s.1) = true then 1 else 0), s.2.2) _ _ _ _ _ _ _ _ _ (by omega) (by omega) (itN_in hs1 _) hs3 hs4 ?_ rfl
                     unfold trS at es ⊢
                     rw [foI_s _ _ hk0, ← es]
                     unfold trT
                     rw [if_pos (show cmpF (wMx (trW w s.1)) (wWh (trW w s.1)) s.2.2.1 s.2.2.2 ≤ 0 by omega)])
          refine r_aload_0 C dX0_luck_37 ?_
          refine r_iload_1 C dX0_luck_38 ?_
          refine r_i2l C dX0_luck_39 ?_
          refine pG_drawn C q361 dX0_luck_40 ?_
          refine r_lconst0 C dX0_luck_43 ?_
          refine r_lstore_4 C dX0_luck_44 ?_
          refine r_lconst1 C dX0_luck_46 ?_
          refine r_lstore_6 C dX0_luck_47 ?_
          refine r_iconst C dX0_luck_49 ?_
          refine r_istore_8 C dX0_luck_50 ?_
          exact key _ 0 (sd, 0, 0, 1) _ _ _ _ _ _ _ _ _ (by omega) (by omega) ⟨by (try simp only); omega, by (try simp only); omega⟩ (by (try simp only); omega) (by (try simp only); omega) rfl rfl
        · skip
          refine r_ldc2 C (-2) q802 dX0_luck_33 ?_
          refine r_lreturn C E dX0_luck_36 ?_
          rw [hW.ln] at c_7
          refine ⟨_, rfl, ?_, PubX.mk⟩
          unfold spLuck
          first
            | rw [if_neg (fun q => c_7 q.1.1)]
            | rw [if_neg (fun q => c_23 q.1.2.2)]
            | rw [if_neg (fun q => c_30 q.2)]
            | rw [if_neg (by omega)]
theorem c_X0_room (hG : Gok g) {v : Int} {w : Int → Int} (hv : inR v) (hW : NW w n_width n_from n_to n_load n_group n_budget n_columns n_rows n_limit n_wear n_straps n_pads n_lines) : XMet g yX0_room cX0_room 3 (some .int) (6) 0 0 [.ref (σ 0), .int (jI v)] (wX g σ x_tape x_taped x_faultKind x_faultPlace x_bestStarved x_bestMost x_bestWhole x_draws x_left x_mosts x_widened x_drawn x_img n_width n_from n_to n_load n_group n_budget n_columns n_rows n_limit n_wear n_straps n_pads n_lines n_mod n_asz n_el i_width i_load i_pads i_reached i_place i_table i_drop i_size i_whole t_width t_load t_pads t_reached t_place t_table t_drop t_size t_whole ++ ex) (pI (fun z ww => z = spRoom w v ∧ PubX g σ ex x_tape x_taped x_faultKind x_faultPlace x_img n_width n_from n_to n_load n_group n_budget n_columns n_rows n_limit n_wear n_straps n_pads n_lines n_mod n_asz n_el ww)) := by
  refine XMet.of (L := [some (.ref (σ 0)), some (.int (jI v)), none]) hG (by decide +kernel) (Nat.le_of_ble_eq_true rfl) rfl (fun K C E => ?_)
  have hn := hW.wf.n
  refine r_aload_0 C dX0_room_0 ?_
  refine r_iload_1 C dX0_room_1 ?_
  refine r_cV1i C (c_X0_isNode hG (by assumption) hW.c hW.r hn) (q0 := 0) rfl rfl q764 pkX0_isNode dX0_room_2 (fun z w h => ?_)
  obtain ⟨rfl, rfl⟩ := h
  refine r_ifneB (tgt := 11) C dX0_room_5 (by decide) (fun c_5 => ?_) (fun c_5 => ?_)
  · skip
    have hd := hW.wf.gdb c_5
    have hvv := isNb_in c_5
    have key : ∀ (f : Nat) (y : Int) (yw yl : Int → Int) (yp yr : Int) (yc yt yd : Int → Int) (yz yo : Int), f ≤ 100 → SX (aset w (6 + v) y) yw yl yp → rmF w v f = rmF w v 100 → AW g K (wX g σ x_tape x_taped x_faultKind x_faultPlace x_bestStarved x_bestMost x_bestWhole x_draws x_left x_mosts x_widened x_drawn x_img n_width n_from n_to n_load n_group n_budget n_columns n_rows n_limit n_wear n_straps n_pads n_lines n_mod n_asz n_el i_width i_load i_pads i_reached i_place i_table i_drop i_size i_whole (yw) (yl) (yp) (yr) (yc) (yt) (yd) (yz) (yo) ++ ex) 0 0 21 [some (.ref (σ 0)), some (.int (jI v)), some (.int (jI ((f : Int) - 1)))] [] := by
      intro f
      induction f with
      | zero =>
        intro y yw yl yp yr yc yt yd yz yo hf hX hl
        refine r_iload_2 C dX0_room_21 ?_
        refine r_iflt (tgt := 56) C dX0_room_22 (by decide) (fun c_22 => ?_) (fun c_22 => ?_)
        · skip
          refine r_iconst C dX0_room_56 ?_
          refine r_ireturn C E dX0_room_57 ?_
          refine ⟨_, rfl, ?_, PubX.mk⟩
          unfold spRoom
          rw [if_pos c_5, ← hl]
          rfl
        · skip
          omega
      | succ f ih =>
        intro y yw yl yp yr yc yt yd yz yo hf hX hl
        rw [rmF] at hl
        rw [show ((f + 1 : Nat) : Int) - 1 = (f : Int) by omega]
        have hdv : Gd (aset w (6 + v) (f : Int)) := hd.load hvv.1 (by omega) (by omega)
        have hNv := (hW.nb hd).of (u := aset w (6 + v) (f : Int)) (lo_aset (by omega))
        have hXv : SX (aset w (6 + v) (f : Int)) yw (aset yl v (f : Int)) yp := by
          have := hX.ld (v := v) (x := (f : Int)) hvv.1 (by omega)
          rwa [aset_two] at this
        refine r_iload_2 C dX0_room_21 ?_
        refine r_iflt (tgt := 56) C dX0_room_22 (by decide) (fun c_22 => ?_) (fun c_22 => ?_)
        · skip
          refine r_iconst C dX0_room_56 ?_
          refine r_ireturn C E dX0_room_57 ?_
          first
            | (exfalso; omega)
            | (rw [if_pos c_45] at hl
               refine ⟨_, rfl, ?_, PubX.mk⟩
               unfold spRoom
               rw [if_pos c_5, ← hl])
        · skip
          refine r_aload_0 C dX0_room_25 ?_
          refine gG_tried C q353 dX0_room_26 ?_
          refine gYI_load C q307 dX0_room_29 ?_
          refine r_iload_1 C dX0_room_32 ?_
          refine r_iload_2 C dX0_room_33 ?_
          refine st_t_load C dX0_room_34 ?_
          refine r_aload_0 C dX0_room_35 ?_
          refine gG_tried C q353 dX0_room_36 ?_
          refine r_cV0a C (c_X4_solves_Y hG hdv hNv hXv) (q0 := 31) rfl rfl q713 pkX4_solves dX0_room_39 (fun z w h => ?_)
          obtain ⟨rfl, pl, tb, dr, hS, rfl⟩ := h
          refine r_cV0i C (c_X4_holds_Y hG hdv hNv rfl hXv.2.1 rfl hS.2.2.2.2.1) (q0 := 31) rfl rfl q863 pkX4_holds dX0_room_42 (fun z w h => ?_)
          obtain ⟨rfl, rfl⟩ := h
          refine r_ifeqB (tgt := 50) C dX0_room_45 (by decide) (fun c_45 => ?_) (fun c_45 => ?_)
          · skip
            refine r_iinc_2 C dX0_room_50 ?_
            refine r_goto (tgt := 21) C dX0_room_53 (by decide) ?_
            rw [if_neg c_45] at hl
            exact ih _ _ _ _ _ _ _ _ _ _ (by omega) hXv hl
          · skip
            refine r_iload_2 C dX0_room_48 ?_
            refine r_ireturn C E dX0_room_49 ?_
            first
              | (exfalso; omega)
              | (rw [if_pos c_45] at hl
                 refine ⟨_, rfl, ?_, PubX.mk⟩
                 unfold spRoom
                 rw [if_pos c_5, ← hl])
    refine r_aload_0 C dX0_room_11 ?_
    refine gG_tried C q353 dX0_room_12 ?_
    refine r_cU0v C (c_X3_takes_Y hG) (q0 := 31) rfl rfl q704 pkU_X3_takes dX0_room_15 (fun w h => ?_)
    subst h
    refine r_bipush C dX0_room_18 ?_
    refine r_istore_2 C dX0_room_20 ?_
    exact key 100 (w (6 + v)) _ _ _ _ _ _ _ _ _ (by omega) (by rw [aset_same]; exact hW.sx) rfl
  · skip
    refine r_bipush C dX0_room_8 ?_
    refine r_ireturn C E dX0_room_10 ?_
    exact ⟨_, rfl, by simp [spRoom, c_5], PubX.mk⟩
end X10

