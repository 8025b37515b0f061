section X6
variable {g : GX} {σ : Nat → Nat} {ex : va_W}
variable {x_tape : Int → Int} {x_taped : Int} {x_faultKind : Int} {x_faultPlace : Int} {x_bestStarved : Int} {x_bestMost : Int} {x_bestWhole : Int} {x_draws : Int → Int} {x_left : Int → Int} {x_mosts : Int → Int} {x_widened : Int → Int} {x_drawn : Int} {x_img : Nat → Option Nat} {n_width : Int → Int} {n_from : Int → Int} {n_to : Int → Int} {n_load : Int → Int} {n_group : Int → Int} {n_budget : Int → Int} {n_columns : Int} {n_rows : Int} {n_limit : Int} {n_wear : Int} {n_straps : Int} {n_pads : Int} {n_lines : Int} {n_mod : Int} {n_asz : Int} {n_el : Nat → Option Nat} {i_width : Int → Int} {i_load : Int → Int} {i_pads : Int} {i_reached : Int} {i_place : Int → Int} {i_table : Int → Int} {i_drop : Int → Int} {i_size : Int} {i_whole : Int} {t_width : Int → Int} {t_load : Int → Int} {t_pads : Int} {t_reached : Int} {t_place : Int → Int} {t_table : Int → Int} {t_drop : Int → Int} {t_size : Int} {t_whole : Int}
theorem c_X0_loss (hG : Gok g) {p : Int} {w : Int → Int} (hp : inR p) (hW : NW w n_width n_from n_to n_load n_group n_budget n_columns n_rows n_limit n_wear n_straps n_pads n_lines) : XMet g yX0_loss cX0_loss 5 (some .long) (5) 0 0 [.ref (σ 0), .int (jI p)] (wX g σ x_tape x_taped x_faultKind x_faultPlace x_bestStarved x_bestMost x_bestWhole x_draws x_left x_mosts x_widened x_drawn x_img n_width n_from n_to n_load n_group n_budget n_columns n_rows n_limit n_wear n_straps n_pads n_lines n_mod n_asz n_el i_width i_load i_pads i_reached i_place i_table i_drop i_size i_whole t_width t_load t_pads t_reached t_place t_table t_drop t_size t_whole ++ ex) (pL (fun z ww => z = spLoss w p ∧ PubX g σ ex x_tape x_taped x_faultKind x_faultPlace x_img n_width n_from n_to n_load n_group n_budget n_columns n_rows n_limit n_wear n_straps n_pads n_lines n_mod n_asz n_el ww)) := by
  refine XMet.of (L := [some (.ref (σ 0)), some (.int (jI p)), none, none, none]) hG (by decide +kernel) (Nat.le_of_ble_eq_true rfl) rfl (fun K C E => ?_)
  refine r_aload_0 C dX0_loss_0 ?_
  refine gG_now C q346 dX0_loss_1 ?_
  refine r_cV0i C (c_X1_is hG hW.inR4) (q0 := 7) rfl rfl q696 pkX1_is dX0_loss_4 (fun z w h => ?_)
  obtain ⟨rfl, rfl⟩ := h
  refine r_ifeqB (tgt := 17) C dX0_loss_7 (by decide) (fun c_7 => ?_) (fun c_7 => ?_)
  · skip
    refine r_ldc2 C (-2) q802 dX0_loss_17 ?_
    refine r_lreturn C E dX0_loss_20 ?_
    rw [hW.ln] at c_7
    exact ⟨_, rfl, by simp [spLoss, *], PubX.mk⟩
  · skip
    refine r_iload_1 C dX0_loss_10 ?_
    refine r_cS1i C (c_X0_isPart hG hp) q799 pkX0_isPart dX0_loss_11 (fun z w h => ?_)
    obtain ⟨rfl, rfl⟩ := h
    refine r_ifneB (tgt := 21) C dX0_loss_14 (by decide) (fun c_14 => ?_) (fun c_14 => ?_)
    · skip
      rw [hW.ln] at c_7
      have hd := hW.wf.gd4 c_7
      have hn := hd.n
      have hlo := wLo_in hd
      have hw := hd.who
      have hr5 := hd.r
      have hp5 := hd.p5
      have key : ∀ (mm : Nat), ∀ (v s : Int) (sw sl : Int → Int) (sp rr : Int) (pl tb dr : Int → Int) (sz wo : Int), (0 ≤ v) → (v ≤ wN w) → (v = 0 ∨ wo = wWh w) → (s = foI (fun v s => s + w (6 + v) * wDr w v) 0 v) → (wN w - v).toNat = mm → AW g K (wX g σ x_tape x_taped x_faultKind x_faultPlace x_bestStarved x_bestMost x_bestWhole x_draws x_left x_mosts x_widened x_drawn x_img n_width n_from n_to n_load n_group n_budget n_columns n_rows n_limit n_wear n_straps n_pads n_lines n_mod n_asz n_el (sw) (sl) (sp) (rr) (pl) (tb) (dr) (sz) (wo) t_width t_load t_pads t_reached t_place t_table t_drop t_size t_whole ++ ex) 0 0 26 [some (.ref (σ 0)), some (.int (jI p)), some (.long (jL s)), none, some (.int (jI v))] [] := by
        intro mm
        induction mm using Nat.strongRecOn with
        | _ mm ih =>
        intro v s sw sl sp rr pl tb dr sz wo hv0 hv hwo es hm
        refine r_iload_4 C dX0_loss_26 ?_
        refine r_aload_0 C dX0_loss_28 ?_
        refine gG_now C q346 dX0_loss_29 ?_
        refine r_cV0i C (c_X1_many hG) (q0 := 7) rfl rfl q768 pkX1_many dX0_loss_32 (fun z w h => ?_)
        obtain ⟨rfl, rfl⟩ := h
        refine r_topi (wN w) (by rw [hW.c, hW.r]; rfl) ?_
        refine r_if_icmpge (tgt := 85) C dX0_loss_35 (by decide) (fun c_35 => ?_) (fun c_35 => ?_)
        · skip
          refine r_lload_2 C dX0_loss_85 ?_
          have e : v = wN w := by omega
          subst e
          have e2 : wo = wWh w := by omega
          subst e2
          obtain rfl : s = wLo w := es
          refine r_aload_0 C dX0_loss_86 ?_
          refine gG_is C q352 dX0_loss_87 ?_
          refine gIN_whole C q298 dX0_loss_90 ?_
          refine r_iload_1 C dX0_loss_93 ?_
          refine r_cS3l C (c_X0_part hG (by omega) (by omega) hp (by omega)) q803 pkX0_part dX0_loss_94 (fun z w h => ?_)
          obtain ⟨rfl, rfl⟩ := h
          refine r_lreturn C E dX0_loss_97 ?_
          exact ⟨_, rfl, by unfold spLoss; rw [if_pos ⟨c_7, by assumption⟩], PubX.mk⟩
        · skip
          have hdv := hd.dr hv0 c_35
          have hld := hd.ld v hv0 (by omega)
          refine r_lload_2 C dX0_loss_38 ?_
          refine r_aload_0 C dX0_loss_39 ?_
          refine r_cV0a C (c_X0_solved hG hd hW) (q0 := 0) rfl rfl q700 pkX0_solved dX0_loss_40 (fun z w h => ?_)
          obtain ⟨rfl, sw, sl, pl, tb, dr, hX, hS, rfl⟩ := h
          refine r_iload_4 C dX0_loss_43 ?_
          refine r_cV1i C (c_X4_isLive_I hG (by unfold inR; omega) hW.c hW.r (by omega) (by omega)) (q0 := 16) rfl rfl q779 pkX4_isLive dX0_loss_45 (fun z w h => ?_)
          obtain ⟨rfl, rfl⟩ := h
          refine r_ifeqB (tgt := 76) C dX0_loss_48 (by decide) (fun c_48 => ?_) (fun c_48 => ?_)
          · skip
            refine r_lconst0 C dX0_loss_76 ?_
            refine r_ladd C dX0_loss_77 ?_
            refine r_lstore_2 C dX0_loss_78 ?_
            refine r_iinc_4 C dX0_loss_79 ?_
            refine r_goto (tgt := 26) C dX0_loss_82 (by decide) ?_
            refine ih _ (show (wN w - (v + 1)).toNat < mm by omega) (v + 1) _ _ _ _ _ _ _ _ _ _ (by omega) (by omega) (Or.inr rfl) ?_ rfl
            rw [foI_s _ _ hv0, ← es]
            first
              | (have h : (isNb w v && bsB (wR w) v) = true := c_48
                 rw [Int.mul_comm])
              | (rw [dead_dr (w := w) (v := v) (by simpa [isNb, hv0, show v ≤ wN w - 1 by omega] using c_48)]; omega)
          · skip
            refine r_aload_0 C dX0_loss_51 ?_
            refine gG_is C q352 dX0_loss_52 ?_
            refine gIN_drop C q295 dX0_loss_55 ?_
            refine r_iload_4 C dX0_loss_58 ?_
            refine ld_i_drop C dX0_loss_60 ?_
            refine r_topl (wDr w v) (hS.2.2.2.2.1 v hv0 c_35) ?_
            refine r_aload_0 C dX0_loss_61 ?_
            refine gG_now C q346 dX0_loss_62 ?_
            refine gTN_load C q209 dX0_loss_65 ?_
            refine r_iload_4 C dX0_loss_68 ?_
            refine ld_n_load C dX0_loss_70 ?_
            refine r_topi (w (6 + v)) (hW.ld v hv0 (by omega)) ?_
            refine r_i2l C dX0_loss_71 ?_
            refine r_lmul C dX0_loss_72 ?_
            refine r_goto (tgt := 77) C dX0_loss_73 (by decide) ?_
            refine r_ladd C dX0_loss_77 ?_
            refine r_lstore_2 C dX0_loss_78 ?_
            refine r_iinc_4 C dX0_loss_79 ?_
            refine r_goto (tgt := 26) C dX0_loss_82 (by decide) ?_
            refine ih _ (show (wN w - (v + 1)).toNat < mm by omega) (v + 1) _ _ _ _ _ _ _ _ _ _ (by omega) (by omega) (Or.inr rfl) ?_ rfl
            rw [foI_s _ _ hv0, ← es]
            first
              | (have h : (isNb w v && bsB (wR w) v) = true := c_48
                 rw [Int.mul_comm])
              | (rw [dead_dr (w := w) (v := v) (by simpa [isNb, hv0, show v ≤ wN w - 1 by omega] using c_48)]; omega)
      refine r_lconst0 C dX0_loss_21 ?_
      refine r_lstore_2 C dX0_loss_22 ?_
      refine r_iconst C dX0_loss_23 ?_
      refine r_istore_4 C dX0_loss_24 ?_
      exact key _ 0 0 _ _ _ _ _ _ _ _ _ (by omega) (by omega) (Or.inl rfl) rfl rfl
    · skip
      refine r_ldc2 C (-2) q802 dX0_loss_17 ?_
      refine r_lreturn C E dX0_loss_20 ?_
      rw [hW.ln] at c_7
      exact ⟨_, rfl, by simp [spLoss, *], PubX.mk⟩
theorem c_X0_moves (hG : Gok g) {a b p : Int} {w : Int → Int} (ha : inR a) (hb : inR b) (hp : inR p) (hW : NW w n_width n_from n_to n_load n_group n_budget n_columns n_rows n_limit n_wear n_straps n_pads n_lines) : XMet g yX0_moves cX0_moves 4 (some .long) (5) 0 0 [.ref (σ 0), .int (jI a), .int (jI b), .int (jI p)] (wX g σ x_tape x_taped x_faultKind x_faultPlace x_bestStarved x_bestMost x_bestWhole x_draws x_left x_mosts x_widened x_drawn x_img n_width n_from n_to n_load n_group n_budget n_columns n_rows n_limit n_wear n_straps n_pads n_lines n_mod n_asz n_el i_width i_load i_pads i_reached i_place i_table i_drop i_size i_whole t_width t_load t_pads t_reached t_place t_table t_drop t_size t_whole ++ ex) (pL (fun z ww => z = spMoves w a b p ∧ PubX g σ ex x_tape x_taped x_faultKind x_faultPlace x_img n_width n_from n_to n_load n_group n_budget n_columns n_rows n_limit n_wear n_straps n_pads n_lines n_mod n_asz n_el ww)) := by
  refine XMet.of (L := [some (.ref (σ 0)), some (.int (jI a)), some (.int (jI b)), some (.int (jI p))]) hG (by decide +kernel) (Nat.le_of_ble_eq_true rfl) rfl (fun K C E => ?_)
  have hn := hW.wf.n
  refine r_aload_0 C dX0_moves_0 ?_
  refine r_iload_1 C dX0_moves_1 ?_
  refine r_cV1i C (c_X0_isNode hG (by assumption) hW.c hW.r hn) (q0 := 0) rfl rfl q764 pkX0_isNode dX0_moves_2 (fun z w h => ?_)
  obtain ⟨rfl, rfl⟩ := h
  refine r_ifeqB (tgt := 23) C dX0_moves_5 (by decide) (fun c_5 => ?_) (fun c_5 => ?_)
  · skip
    refine r_ldc2 C (-2) q802 dX0_moves_23 ?_
    refine r_lreturn C E dX0_moves_26 ?_
    exact ⟨_, rfl, by simp [spMoves, *], PubX.mk⟩
  · skip
    refine r_aload_0 C dX0_moves_8 ?_
    refine r_iload_2 C dX0_moves_9 ?_
    refine r_cV1i C (c_X0_isNode hG (by assumption) hW.c hW.r hn) (q0 := 0) rfl rfl q764 pkX0_isNode dX0_moves_10 (fun z w h => ?_)
    obtain ⟨rfl, rfl⟩ := h
    refine r_ifeqB (tgt := 23) C dX0_moves_13 (by decide) (fun c_13 => ?_) (fun c_13 => ?_)
    · skip
      refine r_ldc2 C (-2) q802 dX0_moves_23 ?_
      refine r_lreturn C E dX0_moves_26 ?_
      exact ⟨_, rfl, by simp [spMoves, *], PubX.mk⟩
    · skip
      refine r_iload_3 C dX0_moves_16 ?_
      refine r_cS1i C (c_X0_isPart hG hp) q799 pkX0_isPart dX0_moves_17 (fun z w h => ?_)
      obtain ⟨rfl, rfl⟩ := h
      refine r_ifneB (tgt := 27) C dX0_moves_20 (by decide) (fun c_20 => ?_) (fun c_20 => ?_)
      · skip
        have hd := hW.wf.gdb c_5
        have haa := isNb_in c_5
        have hbb := isNb_in c_13
        have hmv := hd.mov haa.1 haa.2 hbb.1 hbb.2
        have hw := hd.who
        have hr5 := hd.r
        have hp5 := hd.p5
        refine r_aload_0 C dX0_moves_27 ?_
        refine r_cV0a C (c_X0_solved hG hd hW) (q0 := 0) rfl rfl q700 pkX0_solved dX0_moves_28 (fun z w h => ?_)
        obtain ⟨rfl, sw, sl, pl, tb, dr, hX, hS, rfl⟩ := h
        refine r_iload_1 C dX0_moves_31 ?_
        refine r_cV1i C (c_X4_isLive_I hG (by assumption) hW.c hW.r hn (by omega)) (q0 := 16) rfl rfl q779 pkX4_isLive dX0_moves_32 (fun z w h => ?_)
        obtain ⟨rfl, rfl⟩ := h
        refine r_ifeqB (tgt := 49) C dX0_moves_35 (by decide) (fun c_35 => ?_) (fun c_35 => ?_)
        · skip
          refine r_ldc2 C (-1) q812 dX0_moves_49 ?_
          refine r_lreturn C E dX0_moves_52 ?_
          refine ⟨_, rfl, ?_, PubX.mk⟩
          first
            | (rw [c_13, Bool.true_and] at c_46; simp [spMoves, *]; done)
            | (rw [c_5, Bool.true_and] at c_35; simp [spMoves, *]; done)
        · skip
          refine r_aload_0 C dX0_moves_38 ?_
          refine gG_is C q352 dX0_moves_39 ?_
          refine r_iload_2 C dX0_moves_42 ?_
          refine r_cV1i C (c_X4_isLive_I hG (by assumption) hW.c hW.r hn (by omega)) (q0 := 16) rfl rfl q779 pkX4_isLive dX0_moves_43 (fun z w h => ?_)
          obtain ⟨rfl, rfl⟩ := h
          refine r_ifneB (tgt := 53) C dX0_moves_46 (by decide) (fun c_46 => ?_) (fun c_46 => ?_)
          · skip
            refine r_aload_0 C dX0_moves_53 ?_
            refine gG_is C q352 dX0_moves_54 ?_
            refine r_iload_1 C dX0_moves_57 ?_
            refine r_iload_2 C dX0_moves_58 ?_
            refine r_cVN2l C (c_X4_moves_I hG (F := w 5) (wd := wWd w) hd.g hS.2.1 rfl hS.2.2.2.1 haa hbb) (q0 := 16) rfl rfl q880 pkX4_moves dX0_moves_59 (fun z w h => ?_)
            obtain ⟨rfl, rfl⟩ := h
            refine r_topl (wMv w a b) rfl ?_
            refine r_aload_0 C dX0_moves_62 ?_
            refine gG_is C q352 dX0_moves_63 ?_
            refine gIN_whole C q298 dX0_moves_66 ?_
            refine r_iload_3 C dX0_moves_69 ?_
            refine r_cS3l C (c_X0_part hG (by omega) (by omega) hp (by omega)) q803 pkX0_part dX0_moves_70 (fun z w h => ?_)
            obtain ⟨rfl, rfl⟩ := h
            refine r_lreturn C E dX0_moves_73 ?_
            rw [c_5, Bool.true_and] at c_35
            rw [c_13, Bool.true_and] at c_46
            exact ⟨_, rfl, by simp [spMoves, *], PubX.mk⟩
          · skip
            refine r_ldc2 C (-1) q812 dX0_moves_49 ?_
            refine r_lreturn C E dX0_moves_52 ?_
            refine ⟨_, rfl, ?_, PubX.mk⟩
            first
              | (rw [c_13, Bool.true_and] at c_46; simp [spMoves, *]; done)
              | (rw [c_5, Bool.true_and] at c_35; simp [spMoves, *]; done)
      · skip
        refine r_ldc2 C (-2) q802 dX0_moves_23 ?_
        refine r_lreturn C E dX0_moves_26 ?_
        exact ⟨_, rfl, by simp [spMoves, *], PubX.mk⟩
theorem c_X0_resists (hG : Gok g) {a b p : Int} {w : Int → Int} (ha : inR a) (hb : inR b) (hp : inR p) (hW : NW w n_width n_from n_to n_load n_group n_budget n_columns n_rows n_limit n_wear n_straps n_pads n_lines) : XMet g yX0_resists cX0_resists 5 (some .long) (5) 0 0 [.ref (σ 0), .int (jI a), .int (jI b), .int (jI p)] (wX g σ x_tape x_taped x_faultKind x_faultPlace x_bestStarved x_bestMost x_bestWhole x_draws x_left x_mosts x_widened x_drawn x_img n_width n_from n_to n_load n_group n_budget n_columns n_rows n_limit n_wear n_straps n_pads n_lines n_mod n_asz n_el i_width i_load i_pads i_reached i_place i_table i_drop i_size i_whole t_width t_load t_pads t_reached t_place t_table t_drop t_size t_whole ++ ex) (pL (fun z ww => z = spResists w a b p ∧ PubX g σ ex x_tape x_taped x_faultKind x_faultPlace x_img n_width n_from n_to n_load n_group n_budget n_columns n_rows n_limit n_wear n_straps n_pads n_lines n_mod n_asz n_el ww)) := by
  refine XMet.of (L := [some (.ref (σ 0)), some (.int (jI a)), some (.int (jI b)), some (.int (jI p)), none]) hG (by decide +kernel) (Nat.le_of_ble_eq_true rfl) rfl (fun K C E => ?_)
  have hn := hW.wf.n
  refine r_aload_0 C dX0_resists_0 ?_
  refine r_iload_1 C dX0_resists_1 ?_
  refine r_cV1i C (c_X0_isNode hG (by assumption) hW.c hW.r hn) (q0 := 0) rfl rfl q764 pkX0_isNode dX0_resists_2 (fun z w h => ?_)
  obtain ⟨rfl, rfl⟩ := h
  refine r_ifeqB (tgt := 23) C dX0_resists_5 (by decide) (fun c_5 => ?_) (fun c_5 => ?_)
  · skip
    refine r_ldc2 C (-2) q802 dX0_resists_23 ?_
    refine r_lreturn C E dX0_resists_26 ?_
    exact ⟨_, rfl, by simp [spResists, *], PubX.mk⟩
  · skip
    refine r_aload_0 C dX0_resists_8 ?_
    refine r_iload_2 C dX0_resists_9 ?_
    refine r_cV1i C (c_X0_isNode hG (by assumption) hW.c hW.r hn) (q0 := 0) rfl rfl q764 pkX0_isNode dX0_resists_10 (fun z w h => ?_)
    obtain ⟨rfl, rfl⟩ := h
    refine r_ifeqB (tgt := 23) C dX0_resists_13 (by decide) (fun c_13 => ?_) (fun c_13 => ?_)
    · skip
      refine r_ldc2 C (-2) q802 dX0_resists_23 ?_
      refine r_lreturn C E dX0_resists_26 ?_
      exact ⟨_, rfl, by simp [spResists, *], PubX.mk⟩
    · skip
      refine r_iload_3 C dX0_resists_16 ?_
      refine r_cS1i C (c_X0_isPart hG hp) q799 pkX0_isPart dX0_resists_17 (fun z w h => ?_)
      obtain ⟨rfl, rfl⟩ := h
      refine r_ifneB (tgt := 27) C dX0_resists_20 (by decide) (fun c_20 => ?_) (fun c_20 => ?_)
      · skip
        have hd := hW.wf.gdb c_5
        have haa := isNb_in c_5
        have hbb := isNb_in c_13
        have h12 := hd.s
        have hnn : w 0 * w 1 = wN w := rfl
        have hF : NSet (w 0) (w 1) (bsP a) := NSet.P haa.1 haa.2
        have hok := sol_ok hd.g hd.wd hF
        have hmv := hok.2.2 b b hbb.1 hbb.2 hbb.1 hbb.2
        have hw := hok.2.1
        have hP := bsP_9 haa.1 (show a < 9 by omega)
        have hP0 := bsP_0 (k := a)
        have hR := rch_in (wd := wWd w) hd.g (Int.le_of_lt hP0) hP
        have hX := hW.sx (a := t_width) (b := t_load)
        have hwc : ∀ k, 0 ≤ k → k < sN (w 0) (w 1) → (fun j => if 0 ≤ j ∧ j < 12 then n_width j else t_width j) k = wWd w k := fun k h0 h1 => hX.1 k h0 (by unfold wS at h12; omega)
        have hre := rch_cong (s := bsP a) hwc
        have hw4 : ∀ k, 0 ≤ k → k < 12 → 0 ≤ (fun j => if 0 ≤ j ∧ j < 12 then n_width j else t_width j) k ∧ (fun j => if 0 ≤ j ∧ j < 12 then n_width j else t_width j) k ≤ 4 := fun k h0 h1 => by rw [hX.1 k h0 h1]; exact hd.wd k h0 h1
        have hmA : mA (w 0) (w 1) (fun j => if 0 ≤ j ∧ j < 12 then n_width j else t_width j) (ix (rch (w 0) (w 1) (wWd w) (bsP a)) (bsP a)) (sN (w 0) (w 1)) = gA (w 0) (w 1) (wWd w) (bsP a) := by
          funext i j
          exact mA_cong hwc
        refine r_aload_0 C dX0_resists_27 ?_
        refine gG_tried C q353 dX0_resists_28 ?_
        refine r_cU0v C (c_X3_takes_Y hG) (q0 := 31) rfl rfl q704 pkU_X3_takes dX0_resists_31 (fun w h => ?_)
        subst h
        refine r_aload_0 C dX0_resists_34 ?_
        refine gG_tried C q353 dX0_resists_35 ?_
        refine r_iconst C dX0_resists_38 ?_
        refine r_iload_1 C dX0_resists_39 ?_
        refine r_ishl C (_) dX0_resists_40 (jI_shl (by omega) (by omega)) ?_
        refine r_cU1i C (c_X3_reach_Y hG hd.g (hW.s hd) (hW.en hd.l.1) hw4 (Int.le_of_lt hP0) hP) (q0 := 31) rfl rfl q885 pkU_X3_reach dX0_resists_41 (fun z w h => ?_)
        obtain ⟨rfl, rfl⟩ := h
        rw [hre]
        refine r_istore_4 C dX0_resists_44 ?_
        refine r_iload_4 C dX0_resists_46 ?_
        refine r_iload_2 C dX0_resists_48 ?_
        refine r_cS2i C (c_X0_isOn hG (by omega) (by omega)) q778 pkX0_isOn dX0_resists_49 (fun z w h => ?_)
        obtain ⟨rfl, rfl⟩ := h
        refine r_ifneB (tgt := 59) C dX0_resists_52 (by decide) (fun c_52 => ?_) (fun c_52 => ?_)
        · skip
          refine r_aload_0 C dX0_resists_59 ?_
          refine gG_tried C q353 dX0_resists_60 ?_
          refine r_iload_4 C dX0_resists_63 ?_
          refine r_iconst C dX0_resists_65 ?_
          refine r_iload_1 C dX0_resists_66 ?_
          refine r_ishl C (_) dX0_resists_67 (jI_shl (by omega) (by omega)) ?_
          refine r_cVN2v C (c_X4_lays_Y hG hd.g hW.c hW.r (hW.s hd) (hW.en hd.l.1) hw4 (by omega) (by omega) (by rw [hmA]; exact hok.1)) (q0 := 31) rfl rfl q886 pkX4_lays dX0_resists_68 (fun w h => ?_)
          obtain ⟨pl, tb, hpl, hRp, rfl⟩ := h
          rw [hmA] at hRp ⊢
          refine r_aload_0 C dX0_resists_71 ?_
          refine gG_tried C q353 dX0_resists_72 ?_
          refine r_iload_2 C dX0_resists_75 ?_
          refine r_iload_2 C dX0_resists_76 ?_
          refine r_cVN2l C (c_X4_moves_Y hG (F := bsP a) (wd := wWd w) hd.g hpl rfl hRp hbb hbb) (q0 := 31) rfl rfl q880 pkX4_moves dX0_resists_77 (fun z w h => ?_)
          obtain ⟨rfl, rfl⟩ := h
          refine r_aload_0 C dX0_resists_80 ?_
          refine gG_tried C q353 dX0_resists_81 ?_
          refine gYN_whole C q298 dX0_resists_84 ?_
          refine r_topl (wh (w 0) (w 1) (wWd w) (bsP a)) rfl ?_
          refine r_iload_3 C dX0_resists_87 ?_
          refine r_cS3l C (c_X0_part hG (by omega) (by omega) hp (by omega)) q803 pkX0_part dX0_resists_88 (fun z w h => ?_)
          obtain ⟨rfl, rfl⟩ := h
          refine r_lreturn C E dX0_resists_91 ?_
          refine ⟨_, rfl, ?_, PubX.mk⟩
          unfold spResists gR
          rw [if_pos (by simp [c_5, c_13, c_20])]
          first
            | rw [if_neg c_52]
            | rw [if_pos c_52]
        · skip
          refine r_ldc2 C (-1) q812 dX0_resists_55 ?_
          refine r_lreturn C E dX0_resists_58 ?_
          refine ⟨_, rfl, ?_, PubX.mk⟩
          unfold spResists gR
          rw [if_pos (by simp [c_5, c_13, c_20])]
          first
            | rw [if_neg c_52]
            | rw [if_pos c_52]
      · skip
        refine r_ldc2 C (-2) q802 dX0_resists_23 ?_
        refine r_lreturn C E dX0_resists_26 ?_
        exact ⟨_, rfl, by simp [spResists, *], PubX.mk⟩
theorem c_X0_hottest (hG : Gok g) {w : Int → Int} (hW : NW w n_width n_from n_to n_load n_group n_budget n_columns n_rows n_limit n_wear n_straps n_pads n_lines) : XMet g yX0_hottest cX0_hottest 3 (some .int) (5) 0 0 [.ref (σ 0)] (wX g σ x_tape x_taped x_faultKind x_faultPlace x_bestStarved x_bestMost x_bestWhole x_draws x_left x_mosts x_widened x_drawn x_img n_width n_from n_to n_load n_group n_budget n_columns n_rows n_limit n_wear n_straps n_pads n_lines n_mod n_asz n_el i_width i_load i_pads i_reached i_place i_table i_drop i_size i_whole t_width t_load t_pads t_reached t_place t_table t_drop t_size t_whole ++ ex) (pI (fun z ww => z = spHottest w ∧ PubX g σ ex x_tape x_taped x_faultKind x_faultPlace x_img n_width n_from n_to n_load n_group n_budget n_columns n_rows n_limit n_wear n_straps n_pads n_lines n_mod n_asz n_el ww)) := by
  refine XMet.of (L := [some (.ref (σ 0)), none, none]) hG (by decide +kernel) (Nat.le_of_ble_eq_true rfl) rfl (fun K C E => ?_)
  refine r_aload_0 C dX0_hottest_0 ?_
  refine gG_now C q346 dX0_hottest_1 ?_
  refine r_cV0i C (c_X1_is hG hW.inR4) (q0 := 7) rfl rfl q696 pkX1_is dX0_hottest_4 (fun z w h => ?_)
  obtain ⟨rfl, rfl⟩ := h
  refine r_ifneB (tgt := 13) C dX0_hottest_7 (by decide) (fun c_7 => ?_) (fun c_7 => ?_)
  · skip
    rw [hW.ln] at c_7
    have hd := hW.wf.gd4 c_7
    have hs := hd.s
    refine r_aload_0 C dX0_hottest_13 ?_
    refine r_cV0a C (c_X0_solved hG hd hW) (q0 := 0) rfl rfl q700 pkX0_solved dX0_hottest_14 (fun z w h => ?_)
    obtain ⟨rfl, sw, sl, pl, tb, dr, hX, hS, rfl⟩ := h
    refine r_pop C dX0_hottest_17 ?_
    skip
    have key : ∀ (mm : Nat), ∀ (k b : Int), (0 ≤ k) → (k ≤ wS w) → (-1 ≤ b ∧ b < wS w) → ((b, if b = -1 then 0 else wHt w b) = foI (fun k (s : Int × Int) => if wHt w k ≤ s.2 then s else (k, wHt w k)) (-1, 0) k) → (wS w - k).toNat = mm → AW g K (wX g σ x_tape x_taped x_faultKind x_faultPlace x_bestStarved x_bestMost x_bestWhole x_draws x_left x_mosts x_widened x_drawn x_img n_width n_from n_to n_load n_group n_budget n_columns n_rows n_limit n_wear n_straps n_pads n_lines n_mod n_asz n_el (sw) (sl) (n_pads) (wR w) (pl) (tb) (dr) (wm w) (wWh w) t_width t_load t_pads t_reached t_place t_table t_drop t_size t_whole ++ ex) 0 0 22 [some (.ref (σ 0)), some (.int (jI b)), some (.int (jI k))] [] := by
      intro mm
      induction mm using Nat.strongRecOn with
      | _ mm ih =>
      intro k b hk0 hk hb eb hm
      refine r_iload_2 C dX0_hottest_22 ?_
      refine r_aload_0 C dX0_hottest_23 ?_
      refine gG_now C q346 dX0_hottest_24 ?_
      refine gTN_straps C q239 dX0_hottest_27 ?_
      refine r_topi (wS w) (hW.s hd) ?_
      refine r_if_icmpge (tgt := 76) C dX0_hottest_30 (by decide) (fun c_30 => ?_) (fun c_30 => ?_)
      · skip
        refine r_iload_1 C dX0_hottest_76 ?_
        refine r_ireturn C E dX0_hottest_77 ?_
        have e : k = wS w := by omega
        subst e
        exact ⟨_, rfl, by unfold spHottest wHo2; rw [if_pos c_7, ← eb], PubX.mk⟩
      · skip
        have hsk := wSl_in hd hk0 c_30
        refine r_aload_0 C dX0_hottest_33 ?_
        refine gG_is C q352 dX0_hottest_34 ?_
        refine r_iload_2 C dX0_hottest_37 ?_
        refine r_cV1l C (c_X4_slope_I hG hd (hW.nb hd) hX.1 rfl hS.2.2.2.2.1 ⟨hk0, c_30⟩) (q0 := 16) rfl rfl q818 pkX4_slope dX0_hottest_38 (fun z w h => ?_)
        obtain ⟨rfl, rfl⟩ := h
        refine r_mabsL C q809 dX0_hottest_41 ?_
        refine r_iload_1 C dX0_hottest_44 ?_
        refine r_iconst C dX0_hottest_45 ?_
        refine r_if_icmpne (tgt := 53) C dX0_hottest_46 (by decide) (fun c_46 => ?_) (fun c_46 => ?_)
        · skip
          have hsb := wSl_in hd (k := b) (by omega) hb.2
          refine r_aload_0 C dX0_hottest_53 ?_
          refine gG_is C q352 dX0_hottest_54 ?_
          refine r_iload_1 C dX0_hottest_57 ?_
          refine r_cV1l C (c_X4_slope_I hG hd (hW.nb hd) hX.1 rfl hS.2.2.2.2.1 ⟨by omega, hb.2⟩) (q0 := 16) rfl rfl q818 pkX4_slope dX0_hottest_58 (fun z w h => ?_)
          obtain ⟨rfl, rfl⟩ := h
          refine r_mabsL C q809 dX0_hottest_61 ?_
          refine r_lcmp_ifle (tgt := 70) C dX0_hottest_64 dX0_hottest_65 (by decide) (fun c_64 => ?_) (fun c_64 => ?_)
          · skip
            refine r_iinc_2 C dX0_hottest_70 ?_
            refine r_goto (tgt := 22) C dX0_hottest_73 (by decide) ?_
            first
              | (have h : (k : Int) < wS w := c_30
                 refine ih _ (show (wS w - (k + 1)).toNat < mm by omega) (k + 1) k (by omega) (by omega) (by omega) ?_ rfl
                 rw [foI_s _ _ hk0, ← eb, if_neg (show ¬ k = -1 by omega)]
                 first
                   | (rw [if_pos c_46, if_neg (show ¬ wHt w k ≤ 0 by rw [wHt_sl]; omega)]; done)
                   | (rw [if_neg c_46, if_neg (show ¬ wHt w k ≤ wHt w b by rw [wHt_sl, wHt_sl]; omega)]; done))
              | (refine ih _ (show (wS w - (k + 1)).toNat < mm by omega) (k + 1) b (by omega) (by omega) (by omega) ?_ rfl
                 rw [foI_s _ _ hk0, ← eb]
                 first
                   | (rw [if_pos c_46, if_pos (show wHt w k ≤ 0 by rw [wHt_sl]; omega)]; done)
                   | (rw [if_neg c_46, if_pos (show wHt w k ≤ wHt w b by rw [wHt_sl, wHt_sl]; omega)]; done))
          · skip
            refine r_iload_2 C dX0_hottest_68 ?_
            refine r_istore_1 C dX0_hottest_69 ?_
            refine r_iinc_2 C dX0_hottest_70 ?_
            refine r_goto (tgt := 22) C dX0_hottest_73 (by decide) ?_
            first
              | (have h : (k : Int) < wS w := c_30
                 refine ih _ (show (wS w - (k + 1)).toNat < mm by omega) (k + 1) k (by omega) (by omega) (by omega) ?_ rfl
                 rw [foI_s _ _ hk0, ← eb, if_neg (show ¬ k = -1 by omega)]
                 first
                   | (rw [if_pos c_46, if_neg (show ¬ wHt w k ≤ 0 by rw [wHt_sl]; omega)]; done)
                   | (rw [if_neg c_46, if_neg (show ¬ wHt w k ≤ wHt w b by rw [wHt_sl, wHt_sl]; omega)]; done))
              | (refine ih _ (show (wS w - (k + 1)).toNat < mm by omega) (k + 1) b (by omega) (by omega) (by omega) ?_ rfl
                 rw [foI_s _ _ hk0, ← eb]
                 first
                   | (rw [if_pos c_46, if_pos (show wHt w k ≤ 0 by rw [wHt_sl]; omega)]; done)
                   | (rw [if_neg c_46, if_pos (show wHt w k ≤ wHt w b by rw [wHt_sl, wHt_sl]; omega)]; done))
        · skip
          refine r_lconst0 C dX0_hottest_49 ?_
          refine r_goto (tgt := 64) C dX0_hottest_50 (by decide) ?_
          refine r_lcmp_ifle (tgt := 70) C dX0_hottest_64 dX0_hottest_65 (by decide) (fun c_64 => ?_) (fun c_64 => ?_)
          · skip
            refine r_iinc_2 C dX0_hottest_70 ?_
            refine r_goto (tgt := 22) C dX0_hottest_73 (by decide) ?_
            first
              | (have h : (k : Int) < wS w := c_30
                 refine ih _ (show (wS w - (k + 1)).toNat < mm by omega) (k + 1) k (by omega) (by omega) (by omega) ?_ rfl
                 rw [foI_s _ _ hk0, ← eb, if_neg (show ¬ k = -1 by omega)]
                 first
                   | (rw [if_pos c_46, if_neg (show ¬ wHt w k ≤ 0 by rw [wHt_sl]; omega)]; done)
                   | (rw [if_neg c_46, if_neg (show ¬ wHt w k ≤ wHt w b by rw [wHt_sl, wHt_sl]; omega)]; done))
              | (refine ih _ (show (wS w - (k + 1)).toNat < mm by omega) (k + 1) b (by omega) (by omega) (by omega) ?_ rfl
                 rw [foI_s _ _ hk0, ← eb]
                 first
                   | (rw [if_pos c_46, if_pos (show wHt w k ≤ 0 by rw [wHt_sl]; omega)]; done)
                   | (rw [if_neg c_46, if_pos (show wHt w k ≤ wHt w b by rw [wHt_sl, wHt_sl]; omega)]; done))
          · skip
            refine r_iload_2 C dX0_hottest_68 ?_
            refine r_istore_1 C dX0_hottest_69 ?_
            refine r_iinc_2 C dX0_hottest_70 ?_
            refine r_goto (tgt := 22) C dX0_hottest_73 (by decide) ?_
            first
              | (have h : (k : Int) < wS w := c_30
                 refine ih _ (show (wS w - (k + 1)).toNat < mm by omega) (k + 1) k (by omega) (by omega) (by omega) ?_ rfl
                 rw [foI_s _ _ hk0, ← eb, if_neg (show ¬ k = -1 by omega)]
                 first
                   | (rw [if_pos c_46, if_neg (show ¬ wHt w k ≤ 0 by rw [wHt_sl]; omega)]; done)
                   | (rw [if_neg c_46, if_neg (show ¬ wHt w k ≤ wHt w b by rw [wHt_sl, wHt_sl]; omega)]; done))
              | (refine ih _ (show (wS w - (k + 1)).toNat < mm by omega) (k + 1) b (by omega) (by omega) (by omega) ?_ rfl
                 rw [foI_s _ _ hk0, ← eb]
                 first
                   | (rw [if_pos c_46, if_pos (show wHt w k ≤ 0 by rw [wHt_sl]; omega)]; done)
                   | (rw [if_neg c_46, if_pos (show wHt w k ≤ wHt w b by rw [wHt_sl, wHt_sl]; omega)]; done))
    refine r_iconst C dX0_hottest_18 ?_
    refine r_istore_1 C dX0_hottest_19 ?_
    refine r_iconst C dX0_hottest_20 ?_
    refine r_istore_2 C dX0_hottest_21 ?_
    exact key _ 0 (-1) (by omega) (by omega) (by omega) rfl rfl
  · skip
    refine r_bipush C dX0_hottest_10 ?_
    refine r_ireturn C E dX0_hottest_12 ?_
    rw [hW.ln] at c_7
    exact ⟨_, rfl, by simp [spHottest, c_7], PubX.mk⟩
theorem c_X0_share (hG : Gok g) {a b p : Int} {w : Int → Int} (ha : inR a) (hb : inR b) (hp : inR p) (hW : NW w n_width n_from n_to n_load n_group n_budget n_columns n_rows n_limit n_wear n_straps n_pads n_lines) : XMet g yX0_share cX0_share 4 (some .long) (5) 0 0 [.ref (σ 0), .int (jI a), .int (jI b), .int (jI p)] (wX g σ x_tape x_taped x_faultKind x_faultPlace x_bestStarved x_bestMost x_bestWhole x_draws x_left x_mosts x_widened x_drawn x_img n_width n_from n_to n_load n_group n_budget n_columns n_rows n_limit n_wear n_straps n_pads n_lines n_mod n_asz n_el i_width i_load i_pads i_reached i_place i_table i_drop i_size i_whole t_width t_load t_pads t_reached t_place t_table t_drop t_size t_whole ++ ex) (pL (fun z ww => z = spShare w a b p ∧ PubX g σ ex x_tape x_taped x_faultKind x_faultPlace x_img n_width n_from n_to n_load n_group n_budget n_columns n_rows n_limit n_wear n_straps n_pads n_lines n_mod n_asz n_el ww)) := by
  refine XMet.of (L := [some (.ref (σ 0)), some (.int (jI a)), some (.int (jI b)), some (.int (jI p))]) hG (by decide +kernel) (Nat.le_of_ble_eq_true rfl) rfl (fun K C E => ?_)
  have hn := hW.wf.n
  refine r_aload_0 C dX0_share_0 ?_
  refine r_iload_1 C dX0_share_1 ?_
  refine r_cV1i C (c_X0_isNode hG (by assumption) hW.c hW.r hn) (q0 := 0) rfl rfl q764 pkX0_isNode dX0_share_2 (fun z w h => ?_)
  obtain ⟨rfl, rfl⟩ := h
  refine r_ifeqB (tgt := 23) C dX0_share_5 (by decide) (fun c_5 => ?_) (fun c_5 => ?_)
  · skip
    refine r_ldc2 C (-2) q802 dX0_share_23 ?_
    refine r_lreturn C E dX0_share_26 ?_
    exact ⟨_, rfl, by simp [spShare, *], PubX.mk⟩
  · skip
    refine r_aload_0 C dX0_share_8 ?_
    refine r_iload_2 C dX0_share_9 ?_
    refine r_cV1i C (c_X0_isNode hG (by assumption) hW.c hW.r hn) (q0 := 0) rfl rfl q764 pkX0_isNode dX0_share_10 (fun z w h => ?_)
    obtain ⟨rfl, rfl⟩ := h
    refine r_ifeqB (tgt := 23) C dX0_share_13 (by decide) (fun c_13 => ?_) (fun c_13 => ?_)
    · skip
      refine r_ldc2 C (-2) q802 dX0_share_23 ?_
      refine r_lreturn C E dX0_share_26 ?_
      exact ⟨_, rfl, by simp [spShare, *], PubX.mk⟩
    · skip
      refine r_iload_3 C dX0_share_16 ?_
      refine r_cS1i C (c_X0_isPart hG hp) q799 pkX0_isPart dX0_share_17 (fun z w h => ?_)
      obtain ⟨rfl, rfl⟩ := h
      refine r_ifneB (tgt := 27) C dX0_share_20 (by decide) (fun c_20 => ?_) (fun c_20 => ?_)
      · skip
        have hd := hW.wf.gdb c_5
        have haa := isNb_in c_5
        have hbb := isNb_in c_13
        have hmv := hd.mov haa.1 haa.2 hbb.1 hbb.2
        have hdr := hd.dr haa.1 haa.2
        have hw := hd.who
        have hr5 := hd.r
        have hp5 := hd.p5
        have hld := hd.ld b hbb.1 (by omega)
        have h0 : 0 ≤ w (6 + b) * wMv w a b := Int.mul_nonneg hld.1 hmv.1
        have h1 : w (6 + b) * wMv w a b ≤ 99 * 8589934592 := Int.mul_le_mul hld.2 hmv.2 hmv.1 (by omega)
        have h2 : wMv w a b * w (6 + b) ≤ wDr w a := wDr_ge hd haa.1 haa.2 hbb.1 hbb.2
        rw [Int.mul_comm] at h2
        refine r_aload_0 C dX0_share_27 ?_
        refine r_cV0a C (c_X0_solved hG hd hW) (q0 := 0) rfl rfl q700 pkX0_solved dX0_share_28 (fun z w h => ?_)
        obtain ⟨rfl, sw, sl, pl, tb, dr, hX, hS, rfl⟩ := h
        refine r_iload_1 C dX0_share_31 ?_
        refine r_cV1i C (c_X4_isLive_I hG (by assumption) hW.c hW.r hn (by omega)) (q0 := 16) rfl rfl q779 pkX4_isLive dX0_share_32 (fun z w h => ?_)
        obtain ⟨rfl, rfl⟩ := h
        refine r_ifeqB (tgt := 49) C dX0_share_35 (by decide) (fun c_35 => ?_) (fun c_35 => ?_)
        · skip
          refine r_ldc2 C (-1) q812 dX0_share_49 ?_
          refine r_lreturn C E dX0_share_52 ?_
          refine ⟨_, rfl, ?_, PubX.mk⟩
          first
            | (rw [c_13, Bool.true_and] at c_46; simp [spShare, *]; done)
            | (rw [c_5, Bool.true_and] at c_35; simp [spShare, *]; done)
        · skip
          refine r_aload_0 C dX0_share_38 ?_
          refine gG_is C q352 dX0_share_39 ?_
          refine r_iload_2 C dX0_share_42 ?_
          refine r_cV1i C (c_X4_isLive_I hG (by assumption) hW.c hW.r hn (by omega)) (q0 := 16) rfl rfl q779 pkX4_isLive dX0_share_43 (fun z w h => ?_)
          obtain ⟨rfl, rfl⟩ := h
          refine r_ifneB (tgt := 53) C dX0_share_46 (by decide) (fun c_46 => ?_) (fun c_46 => ?_)
          · skip
            refine r_aload_0 C dX0_share_53 ?_
            refine gG_is C q352 dX0_share_54 ?_
            refine gIN_drop C q295 dX0_share_57 ?_
            refine r_iload_1 C dX0_share_60 ?_
            refine ld_i_drop C dX0_share_61 ?_
            refine r_topl (wDr w a) (hS.2.2.2.2.1 a haa.1 haa.2) ?_
            refine r_lconst0 C dX0_share_62 ?_
            refine r_lcmp_ifne (tgt := 72) C dX0_share_63 dX0_share_64 (by decide) (fun c_63 => ?_) (fun c_63 => ?_)
            · skip
              refine r_aload_0 C dX0_share_72 ?_
              refine gG_now C q346 dX0_share_73 ?_
              refine gTN_load C q209 dX0_share_76 ?_
              refine r_iload_2 C dX0_share_79 ?_
              refine ld_n_load C dX0_share_80 ?_
              refine r_topi (w (6 + b)) (hW.ld b hbb.1 (by omega)) ?_
              refine r_i2l C dX0_share_81 ?_
              refine r_aload_0 C dX0_share_82 ?_
              refine gG_is C q352 dX0_share_83 ?_
              refine r_iload_1 C dX0_share_86 ?_
              refine r_iload_2 C dX0_share_87 ?_
              refine r_cVN2l C (c_X4_moves_I hG (F := w 5) (wd := wWd w) hd.g hS.2.1 rfl hS.2.2.2.1 haa hbb) (q0 := 16) rfl rfl q880 pkX4_moves dX0_share_88 (fun z w h => ?_)
              obtain ⟨rfl, rfl⟩ := h
              refine r_topl (wMv w a b) rfl ?_
              refine r_lmul C dX0_share_91 ?_
              refine r_aload_0 C dX0_share_92 ?_
              refine gG_is C q352 dX0_share_93 ?_
              refine gIN_drop C q295 dX0_share_96 ?_
              refine r_iload_1 C dX0_share_99 ?_
              refine ld_i_drop C dX0_share_100 ?_
              refine r_topl (wDr w a) (hS.2.2.2.2.1 a haa.1 haa.2) ?_
              refine r_iload_3 C dX0_share_101 ?_
              refine r_cS3l C (c_X0_part hG (by omega) (by omega) hp (by omega)) q803 pkX0_part dX0_share_102 (fun z w h => ?_)
              obtain ⟨rfl, rfl⟩ := h
              refine r_lreturn C E dX0_share_105 ?_
              rw [c_5, Bool.true_and] at c_35
              rw [c_13, Bool.true_and] at c_46
              refine ⟨_, rfl, ?_, PubX.mk⟩
              unfold spShare
              rw [if_pos (by simp [c_5, c_13, c_20]), if_pos (by simp [c_35, c_46]), Int.mul_comm (wMv w a b)]
              first
                | rw [if_pos (show w (6 + b) * wMv w a b = 0 by omega)]
                | (by_cases ez : w (6 + b) * wMv w a b = 0
                   · rw [if_pos ez, ez, partF_z (by omega) c_20]
                   · rw [if_neg ez])
            · skip
              refine r_iload_3 C dX0_share_67 ?_
              refine r_i2l C dX0_share_68 ?_
              refine r_goto (tgt := 105) C dX0_share_69 (by decide) ?_
              refine r_lreturn C E dX0_share_105 ?_
              rw [c_5, Bool.true_and] at c_35
              rw [c_13, Bool.true_and] at c_46
              refine ⟨_, rfl, ?_, PubX.mk⟩
              unfold spShare
              rw [if_pos (by simp [c_5, c_13, c_20]), if_pos (by simp [c_35, c_46]), Int.mul_comm (wMv w a b)]
              first
                | rw [if_pos (show w (6 + b) * wMv w a b = 0 by omega)]
                | (by_cases ez : w (6 + b) * wMv w a b = 0
                   · rw [if_pos ez, ez, partF_z (by omega) c_20]
                   · rw [if_neg ez])
          · skip
            refine r_ldc2 C (-1) q812 dX0_share_49 ?_
            refine r_lreturn C E dX0_share_52 ?_
            refine ⟨_, rfl, ?_, PubX.mk⟩
            first
              | (rw [c_13, Bool.true_and] at c_46; simp [spShare, *]; done)
              | (rw [c_5, Bool.true_and] at c_35; simp [spShare, *]; done)
      · skip
        refine r_ldc2 C (-2) q802 dX0_share_23 ?_
        refine r_lreturn C E dX0_share_26 ?_
        exact ⟨_, rfl, by simp [spShare, *], PubX.mk⟩
theorem c_X0_feederOf (hG : Gok g) {v : Int} {w : Int → Int} (hd : Gd w) (hW : NW w n_width n_from n_to n_load n_group n_budget n_columns n_rows n_limit n_wear n_straps n_pads n_lines) (hX : SX w i_width i_load i_pads) (hre : i_reached = wR w) (hdr : ∀ v, 0 ≤ v → v < wN w → i_drop v = wDr w v) (hv : 0 ≤ v ∧ v < wN w) : XMet g yX0_feederOf cX0_feederOf 9 (some .int) (5) 0 0 [.ref (σ 0), .int (jI v)] (wX g σ x_tape x_taped x_faultKind x_faultPlace x_bestStarved x_bestMost x_bestWhole x_draws x_left x_mosts x_widened x_drawn x_img n_width n_from n_to n_load n_group n_budget n_columns n_rows n_limit n_wear n_straps n_pads n_lines n_mod n_asz n_el i_width i_load i_pads i_reached i_place i_table i_drop i_size i_whole t_width t_load t_pads t_reached t_place t_table t_drop t_size t_whole ++ ex) (pI (fun z ww => z = wFq w v ∧ ww = (wX g σ x_tape x_taped x_faultKind x_faultPlace x_bestStarved x_bestMost x_bestWhole x_draws x_left x_mosts x_widened x_drawn x_img n_width n_from n_to n_load n_group n_budget n_columns n_rows n_limit n_wear n_straps n_pads n_lines n_mod n_asz n_el i_width i_load i_pads i_reached i_place i_table i_drop i_size i_whole t_width t_load t_pads t_reached t_place t_table t_drop t_size t_whole ++ ex))) := by
  refine XMet.of (L := [some (.ref (σ 0)), some (.int (jI v)), none, none, none, none, none, none, none]) hG (by decide +kernel) (Nat.le_of_ble_eq_true rfl) rfl (fun K C E => ?_)
  have hn := hd.n
  have hs := hd.s
  have hnn : w 0 * w 1 ≤ 9 := hd.g.2.2
  have key : ∀ (mm : Nat), ∀ (k b m : Int) (j6 j7 : Option Value), (0 ≤ k) → (k ≤ wS w) → (0 ≤ m ∧ m ≤ 100000000000000) → ((m, b) = foI (fun k (s : Int × Int) => if wCb w k v ≤ s.1 then s else (wCb w k v, sF (w 0) (w 1) k + sT (w 0) (w 1) k - v)) (0, -1) k) → (wS w - k).toNat = mm → AW g K (wX g σ x_tape x_taped x_faultKind x_faultPlace x_bestStarved x_bestMost x_bestWhole x_draws x_left x_mosts x_widened x_drawn x_img n_width n_from n_to n_load n_group n_budget n_columns n_rows n_limit n_wear n_straps n_pads n_lines n_mod n_asz n_el i_width i_load i_pads i_reached i_place i_table i_drop i_size i_whole t_width t_load t_pads t_reached t_place t_table t_drop t_size t_whole ++ ex) 0 0 7 [some (.ref (σ 0)), some (.int (jI v)), some (.int (jI b)), some (.long (jL m)), none, some (.int (jI k)), j6, j7, none] [] := by
    intro mm
    induction mm using Nat.strongRecOn with
    | _ mm ih =>
    intro k b m j6 j7 hk0 hk hsb es hm
    refine r_iload_5 C dX0_feederOf_7 ?_
    refine r_aload_0 C dX0_feederOf_9 ?_
    refine gG_now C q346 dX0_feederOf_10 ?_
    refine gTN_straps C q239 dX0_feederOf_13 ?_
    refine r_topi (wS w) (hW.s hd) ?_
    refine r_if_icmpge (tgt := 167) C dX0_feederOf_16 (by decide) (fun c_16 => ?_) (fun c_16 => ?_)
    · skip
      refine r_iload_2 C dX0_feederOf_167 ?_
      refine r_ireturn C E dX0_feederOf_168 ?_
      have e : k = wS w := by omega
      subst e
      exact ⟨_, rfl, by unfold wFq; rw [← es], rfl⟩
    · skip
      have hek := hW.en hd.l.1 k hk0 c_16
      have hin := sl_in hd.g hk0 c_16
      have hwk := hd.wd k hk0 (by omega)
      have hth := hd.th hk0 c_16
      rw [wTh_sl] at hth
      unfold wWd at hwk
      have hsl := wSl_in hd hk0 c_16
      have hng := Int.neg_mul (wSl w k) (w (28 + k))
      refine r_aload_0 C dX0_feederOf_19 ?_
      refine gG_now C q346 dX0_feederOf_20 ?_
      refine gTN_from C q200 dX0_feederOf_23 ?_
      refine r_iload_5 C dX0_feederOf_26 ?_
      refine ld_n_from C dX0_feederOf_28 ?_
      refine r_topi (sF (w 0) (w 1) k) hek.1 ?_
      refine r_iload_1 C dX0_feederOf_29 ?_
      refine r_if_icmpne (tgt := 46) C dX0_feederOf_30 (by decide) (fun c_30 => ?_) (fun c_30 => ?_)
      · skip
        refine r_aload_0 C dX0_feederOf_46 ?_
        refine gG_now C q346 dX0_feederOf_47 ?_
        refine gTN_to C q204 dX0_feederOf_50 ?_
        refine r_iload_5 C dX0_feederOf_53 ?_
        refine ld_n_to C dX0_feederOf_55 ?_
        refine r_topi (sT (w 0) (w 1) k) hek.2 ?_
        refine r_iload_1 C dX0_feederOf_56 ?_
        refine r_if_icmpne (tgt := 73) C dX0_feederOf_57 (by decide) (fun c_57 => ?_) (fun c_57 => ?_)
        · skip
          refine r_iconst C dX0_feederOf_73 ?_
          refine r_istore_6 C dX0_feederOf_74 ?_
          refine r_iload_6 C dX0_feederOf_76 ?_
          refine r_aload_0 C dX0_feederOf_78 ?_
          refine gG_now C q346 dX0_feederOf_79 ?_
          refine gTN_from C q200 dX0_feederOf_82 ?_
          refine r_iload_5 C dX0_feederOf_85 ?_
          refine ld_n_from C dX0_feederOf_87 ?_
          refine r_topi (sF (w 0) (w 1) k) hek.1 ?_
          refine r_if_icmpne (tgt := 115) C dX0_feederOf_88 (by decide) (fun c_88 => ?_) (fun c_88 => ?_)
          · skip
            refine r_aload_0 C dX0_feederOf_115 ?_
            refine gG_is C q352 dX0_feederOf_116 ?_
            refine r_iload_5 C dX0_feederOf_119 ?_
            refine r_cV1l C (c_X4_slope_I hG hd (hW.nb hd) hX.1 hre hdr ⟨hk0, c_16⟩) (q0 := 16) rfl rfl q818 pkX4_slope dX0_feederOf_121 (fun z w h => ?_)
            obtain ⟨rfl, rfl⟩ := h
            refine r_lneg C dX0_feederOf_124 ?_
            refine r_aload_0 C dX0_feederOf_125 ?_
            refine gG_now C q346 dX0_feederOf_126 ?_
            refine gTN_width C q196 dX0_feederOf_129 ?_
            refine r_iload_5 C dX0_feederOf_132 ?_
            refine ld_n_width C dX0_feederOf_134 ?_
            refine r_topi (w (28 + k)) (hW.wd k hk0 (by omega)) ?_
            refine r_i2l C dX0_feederOf_135 ?_
            refine r_lmul C dX0_feederOf_136 ?_
            refine r_lstore_7 C dX0_feederOf_137 ?_
            refine r_iload_6 C dX0_feederOf_139 ?_
            refine r_iconst C dX0_feederOf_141 ?_
            refine r_if_icmpeq (tgt := 161) C dX0_feederOf_142 (by decide) (fun c_142 => ?_) (fun c_142 => ?_)
            · skip
              refine r_iinc_5 C dX0_feederOf_161 ?_
              refine r_goto (tgt := 7) C dX0_feederOf_164 (by decide) ?_
              first
                | (exfalso; omega)
                | (have h : ¬ sF (w 0) (w 1) k = v := c_30
                   have h2 : ¬ sT (w 0) (w 1) k = v := c_57
                   have hcb : wCb w k v = 0 := by
                     unfold wCb
                     rw [if_neg h2, if_neg h]
                   refine ih _ (show (wS w - (k + 1)).toNat < mm by omega) (k + 1) b m _ _ (by omega) (by omega) hsb ?_ rfl
                   rw [foI_s _ _ hk0, ← es, if_pos (show wCb w k v ≤ m by omega)])
                | (have h : sF (w 0) (w 1) k = v := c_30
                   have hcb : wCb w k v = -(wSl w k * w (28 + k)) := by
                     unfold wCb
                     rw [if_neg (show ¬ sT (w 0) (w 1) k = v by omega), if_pos h, wTh_sl]
                   first
                     | (have h3 : m < -wSl w k * w (28 + k) := by omega
                        refine ih _ (show (wS w - (k + 1)).toNat < mm by omega) (k + 1) (sT (w 0) (w 1) k) (-wSl w k * w (28 + k)) _ _ (by omega) (by omega) (by omega) ?_ rfl
                        rw [foI_s _ _ hk0, ← es, if_neg (show ¬ wCb w k v ≤ m by omega), hcb, hng]
                        exact congrArg (Prod.mk _) (by omega))
                     | (refine ih _ (show (wS w - (k + 1)).toNat < mm by omega) (k + 1) b m _ _ (by omega) (by omega) hsb ?_ rfl
                        rw [foI_s _ _ hk0, ← es, if_pos (show wCb w k v ≤ m by omega)]))
                | (have h : sT (w 0) (w 1) k = v := c_57
                   have hcb : wCb w k v = wSl w k * w (28 + k) := by
                     unfold wCb
                     rw [if_pos h, wTh_sl]
                   first
                     | (have h3 : m < wSl w k * w (28 + k) := by omega
                        refine ih _ (show (wS w - (k + 1)).toNat < mm by omega) (k + 1) (sF (w 0) (w 1) k) (wSl w k * w (28 + k)) _ _ (by omega) (by omega) (by omega) ?_ rfl
                        rw [foI_s _ _ hk0, ← es, if_neg (show ¬ wCb w k v ≤ m by omega), hcb]
                        exact congrArg (Prod.mk _) (by omega))
                     | (refine ih _ (show (wS w - (k + 1)).toNat < mm by omega) (k + 1) b m _ _ (by omega) (by omega) hsb ?_ rfl
                        rw [foI_s _ _ hk0, ← es, if_pos (show wCb w k v ≤ m by omega)]))
            · skip
              refine r_lload_7 C dX0_feederOf_145 ?_
              refine r_lload_3 C dX0_feederOf_147 ?_
              refine r_lcmp_ifgt (tgt := 155) C dX0_feederOf_148 dX0_feederOf_149 (by decide) (fun c_148 => ?_) (fun c_148 => ?_)
              · skip
                refine r_iload_6 C dX0_feederOf_155 ?_
                refine r_istore_2 C dX0_feederOf_157 ?_
                refine r_lload_7 C dX0_feederOf_158 ?_
                refine r_lstore_3 C dX0_feederOf_160 ?_
                refine r_iinc_5 C dX0_feederOf_161 ?_
                refine r_goto (tgt := 7) C dX0_feederOf_164 (by decide) ?_
                first
                  | (exfalso; omega)
                  | (have h : ¬ sF (w 0) (w 1) k = v := c_30
                     have h2 : ¬ sT (w 0) (w 1) k = v := c_57
                     have hcb : wCb w k v = 0 := by
                       unfold wCb
                       rw [if_neg h2, if_neg h]
                     refine ih _ (show (wS w - (k + 1)).toNat < mm by omega) (k + 1) b m _ _ (by omega) (by omega) hsb ?_ rfl
                     rw [foI_s _ _ hk0, ← es, if_pos (show wCb w k v ≤ m by omega)])
                  | (have h : sF (w 0) (w 1) k = v := c_30
                     have hcb : wCb w k v = -(wSl w k * w (28 + k)) := by
                       unfold wCb
                       rw [if_neg (show ¬ sT (w 0) (w 1) k = v by omega), if_pos h, wTh_sl]
                     first
                       | (have h3 : m < -wSl w k * w (28 + k) := by omega
                          refine ih _ (show (wS w - (k + 1)).toNat < mm by omega) (k + 1) (sT (w 0) (w 1) k) (-wSl w k * w (28 + k)) _ _ (by omega) (by omega) (by omega) ?_ rfl
                          rw [foI_s _ _ hk0, ← es, if_neg (show ¬ wCb w k v ≤ m by omega), hcb, hng]
                          exact congrArg (Prod.mk _) (by omega))
                       | (refine ih _ (show (wS w - (k + 1)).toNat < mm by omega) (k + 1) b m _ _ (by omega) (by omega) hsb ?_ rfl
                          rw [foI_s _ _ hk0, ← es, if_pos (show wCb w k v ≤ m by omega)]))
                  | (have h : sT (w 0) (w 1) k = v := c_57
                     have hcb : wCb w k v = wSl w k * w (28 + k) := by
                       unfold wCb
                       rw [if_pos h, wTh_sl]
                     first
                       | (have h3 : m < wSl w k * w (28 + k) := by omega
                          refine ih _ (show (wS w - (k + 1)).toNat < mm by omega) (k + 1) (sF (w 0) (w 1) k) (wSl w k * w (28 + k)) _ _ (by omega) (by omega) (by omega) ?_ rfl
                          rw [foI_s _ _ hk0, ← es, if_neg (show ¬ wCb w k v ≤ m by omega), hcb]
                          exact congrArg (Prod.mk _) (by omega))
                       | (refine ih _ (show (wS w - (k + 1)).toNat < mm by omega) (k + 1) b m _ _ (by omega) (by omega) hsb ?_ rfl
                          rw [foI_s _ _ hk0, ← es, if_pos (show wCb w k v ≤ m by omega)]))
              · skip
                refine r_goto (tgt := 161) C dX0_feederOf_152 (by decide) ?_
                refine r_iinc_5 C dX0_feederOf_161 ?_
                refine r_goto (tgt := 7) C dX0_feederOf_164 (by decide) ?_
                first
                  | (exfalso; omega)
                  | (have h : ¬ sF (w 0) (w 1) k = v := c_30
                     have h2 : ¬ sT (w 0) (w 1) k = v := c_57
                     have hcb : wCb w k v = 0 := by
                       unfold wCb
                       rw [if_neg h2, if_neg h]
                     refine ih _ (show (wS w - (k + 1)).toNat < mm by omega) (k + 1) b m _ _ (by omega) (by omega) hsb ?_ rfl
                     rw [foI_s _ _ hk0, ← es, if_pos (show wCb w k v ≤ m by omega)])
                  | (have h : sF (w 0) (w 1) k = v := c_30
                     have hcb : wCb w k v = -(wSl w k * w (28 + k)) := by
                       unfold wCb
                       rw [if_neg (show ¬ sT (w 0) (w 1) k = v by omega), if_pos h, wTh_sl]
                     first
                       | (have h3 : m < -wSl w k * w (28 + k) := by omega
                          refine ih _ (show (wS w - (k + 1)).toNat < mm by omega) (k + 1) (sT (w 0) (w 1) k) (-wSl w k * w (28 + k)) _ _ (by omega) (by omega) (by omega) ?_ rfl
                          rw [foI_s _ _ hk0, ← es, if_neg (show ¬ wCb w k v ≤ m by omega), hcb, hng]
                          exact congrArg (Prod.mk _) (by omega))
                       | (refine ih _ (show (wS w - (k + 1)).toNat < mm by omega) (k + 1) b m _ _ (by omega) (by omega) hsb ?_ rfl
                          rw [foI_s _ _ hk0, ← es, if_pos (show wCb w k v ≤ m by omega)]))
                  | (have h : sT (w 0) (w 1) k = v := c_57
                     have hcb : wCb w k v = wSl w k * w (28 + k) := by
                       unfold wCb
                       rw [if_pos h, wTh_sl]
                     first
                       | (have h3 : m < wSl w k * w (28 + k) := by omega
                          refine ih _ (show (wS w - (k + 1)).toNat < mm by omega) (k + 1) (sF (w 0) (w 1) k) (wSl w k * w (28 + k)) _ _ (by omega) (by omega) (by omega) ?_ rfl
                          rw [foI_s _ _ hk0, ← es, if_neg (show ¬ wCb w k v ≤ m by omega), hcb]
                          exact congrArg (Prod.mk _) (by omega))
                       | (refine ih _ (show (wS w - (k + 1)).toNat < mm by omega) (k + 1) b m _ _ (by omega) (by omega) hsb ?_ rfl
                          rw [foI_s _ _ hk0, ← es, if_pos (show wCb w k v ≤ m by omega)]))
          · skip
            refine r_aload_0 C dX0_feederOf_91 ?_
            refine gG_is C q352 dX0_feederOf_92 ?_
            refine r_iload_5 C dX0_feederOf_95 ?_
            refine r_cV1l C (c_X4_slope_I hG hd (hW.nb hd) hX.1 hre hdr ⟨hk0, c_16⟩) (q0 := 16) rfl rfl q818 pkX4_slope dX0_feederOf_97 (fun z w h => ?_)
            obtain ⟨rfl, rfl⟩ := h
            refine r_aload_0 C dX0_feederOf_100 ?_
            refine gG_now C q346 dX0_feederOf_101 ?_
            refine gTN_width C q196 dX0_feederOf_104 ?_
            refine r_iload_5 C dX0_feederOf_107 ?_
            refine ld_n_width C dX0_feederOf_109 ?_
            refine r_topi (w (28 + k)) (hW.wd k hk0 (by omega)) ?_
            refine r_i2l C dX0_feederOf_110 ?_
            refine r_lmul C dX0_feederOf_111 ?_
            refine r_goto (tgt := 137) C dX0_feederOf_112 (by decide) ?_
            refine r_lstore_7 C dX0_feederOf_137 ?_
            refine r_iload_6 C dX0_feederOf_139 ?_
            refine r_iconst C dX0_feederOf_141 ?_
            refine r_if_icmpeq (tgt := 161) C dX0_feederOf_142 (by decide) (fun c_142 => ?_) (fun c_142 => ?_)
            · skip
              refine r_iinc_5 C dX0_feederOf_161 ?_
              refine r_goto (tgt := 7) C dX0_feederOf_164 (by decide) ?_
              first
                | (exfalso; omega)
                | (have h : ¬ sF (w 0) (w 1) k = v := c_30
                   have h2 : ¬ sT (w 0) (w 1) k = v := c_57
                   have hcb : wCb w k v = 0 := by
                     unfold wCb
                     rw [if_neg h2, if_neg h]
                   refine ih _ (show (wS w - (k + 1)).toNat < mm by omega) (k + 1) b m _ _ (by omega) (by omega) hsb ?_ rfl
                   rw [foI_s _ _ hk0, ← es, if_pos (show wCb w k v ≤ m by omega)])
                | (have h : sF (w 0) (w 1) k = v := c_30
                   have hcb : wCb w k v = -(wSl w k * w (28 + k)) := by
                     unfold wCb
                     rw [if_neg (show ¬ sT (w 0) (w 1) k = v by omega), if_pos h, wTh_sl]
                   first
                     | (have h3 : m < -wSl w k * w (28 + k) := by omega
                        refine ih _ (show (wS w - (k + 1)).toNat < mm by omega) (k + 1) (sT (w 0) (w 1) k) (-wSl w k * w (28 + k)) _ _ (by omega) (by omega) (by omega) ?_ rfl
                        rw [foI_s _ _ hk0, ← es, if_neg (show ¬ wCb w k v ≤ m by omega), hcb, hng]
                        exact congrArg (Prod.mk _) (by omega))
                     | (refine ih _ (show (wS w - (k + 1)).toNat < mm by omega) (k + 1) b m _ _ (by omega) (by omega) hsb ?_ rfl
                        rw [foI_s _ _ hk0, ← es, if_pos (show wCb w k v ≤ m by omega)]))
                | (have h : sT (w 0) (w 1) k = v := c_57
                   have hcb : wCb w k v = wSl w k * w (28 + k) := by
                     unfold wCb
                     rw [if_pos h, wTh_sl]
                   first
                     | (have h3 : m < wSl w k * w (28 + k) := by omega
                        refine ih _ (show (wS w - (k + 1)).toNat < mm by omega) (k + 1) (sF (w 0) (w 1) k) (wSl w k * w (28 + k)) _ _ (by omega) (by omega) (by omega) ?_ rfl
                        rw [foI_s _ _ hk0, ← es, if_neg (show ¬ wCb w k v ≤ m by omega), hcb]
                        exact congrArg (Prod.mk _) (by omega))
                     | (refine ih _ (show (wS w - (k + 1)).toNat < mm by omega) (k + 1) b m _ _ (by omega) (by omega) hsb ?_ rfl
                        rw [foI_s _ _ hk0, ← es, if_pos (show wCb w k v ≤ m by omega)]))
            · skip
              refine r_lload_7 C dX0_feederOf_145 ?_
              refine r_lload_3 C dX0_feederOf_147 ?_
              refine r_lcmp_ifgt (tgt := 155) C dX0_feederOf_148 dX0_feederOf_149 (by decide) (fun c_148 => ?_) (fun c_148 => ?_)
              · skip
                refine r_iload_6 C dX0_feederOf_155 ?_
                refine r_istore_2 C dX0_feederOf_157 ?_
                refine r_lload_7 C dX0_feederOf_158 ?_
                refine r_lstore_3 C dX0_feederOf_160 ?_
                refine r_iinc_5 C dX0_feederOf_161 ?_
                refine r_goto (tgt := 7) C dX0_feederOf_164 (by decide) ?_
                first
                  | (exfalso; omega)
                  | (have h : ¬ sF (w 0) (w 1) k = v := c_30
                     have h2 : ¬ sT (w 0) (w 1) k = v := c_57
                     have hcb : wCb w k v = 0 := by
                       unfold wCb
                       rw [if_neg h2, if_neg h]
                     refine ih _ (show (wS w - (k + 1)).toNat < mm by omega) (k + 1) b m _ _ (by omega) (by omega) hsb ?_ rfl
                     rw [foI_s _ _ hk0, ← es, if_pos (show wCb w k v ≤ m by omega)])
                  | (have h : sF (w 0) (w 1) k = v := c_30
                     have hcb : wCb w k v = -(wSl w k * w (28 + k)) := by
                       unfold wCb
                       rw [if_neg (show ¬ sT (w 0) (w 1) k = v by omega), if_pos h, wTh_sl]
                     first
                       | (have h3 : m < -wSl w k * w (28 + k) := by omega
                          refine ih _ (show (wS w - (k + 1)).toNat < mm by omega) (k + 1) (sT (w 0) (w 1) k) (-wSl w k * w (28 + k)) _ _ (by omega) (by omega) (by omega) ?_ rfl
                          rw [foI_s _ _ hk0, ← es, if_neg (show ¬ wCb w k v ≤ m by omega), hcb, hng]
                          exact congrArg (Prod.mk _) (by omega))
                       | (refine ih _ (show (wS w - (k + 1)).toNat < mm by omega) (k + 1) b m _ _ (by omega) (by omega) hsb ?_ rfl
                          rw [foI_s _ _ hk0, ← es, if_pos (show wCb w k v ≤ m by omega)]))
                  | (have h : sT (w 0) (w 1) k = v := c_57
                     have hcb : wCb w k v = wSl w k * w (28 + k) := by
                       unfold wCb
                       rw [if_pos h, wTh_sl]
                     first
                       | (have h3 : m < wSl w k * w (28 + k) := by omega
                          refine ih _ (show (wS w - (k + 1)).toNat < mm by omega) (k + 1) (sF (w 0) (w 1) k) (wSl w k * w (28 + k)) _ _ (by omega) (by omega) (by omega) ?_ rfl
                          rw [foI_s _ _ hk0, ← es, if_neg (show ¬ wCb w k v ≤ m by omega), hcb]
                          exact congrArg (Prod.mk _) (by omega))
                       | (refine ih _ (show (wS w - (k + 1)).toNat < mm by omega) (k + 1) b m _ _ (by omega) (by omega) hsb ?_ rfl
                          rw [foI_s _ _ hk0, ← es, if_pos (show wCb w k v ≤ m by omega)]))
              · skip
                refine r_goto (tgt := 161) C dX0_feederOf_152 (by decide) ?_
                refine r_iinc_5 C dX0_feederOf_161 ?_
                refine r_goto (tgt := 7) C dX0_feederOf_164 (by decide) ?_
                first
                  | (exfalso; omega)
                  | (have h : ¬ sF (w 0) (w 1) k = v := c_30
                     have h2 : ¬ sT (w 0) (w 1) k = v := c_57
                     have hcb : wCb w k v = 0 := by
                       unfold wCb
                       rw [if_neg h2, if_neg h]
                     refine ih _ (show (wS w - (k + 1)).toNat < mm by omega) (k + 1) b m _ _ (by omega) (by omega) hsb ?_ rfl
                     rw [foI_s _ _ hk0, ← es, if_pos (show wCb w k v ≤ m by omega)])
                  | (have h : sF (w 0) (w 1) k = v := c_30
                     have hcb : wCb w k v = -(wSl w k * w (28 + k)) := by
                       unfold wCb
                       rw [if_neg (show ¬ sT (w 0) (w 1) k = v by omega), if_pos h, wTh_sl]
                     first
                       | (have h3 : m < -wSl w k * w (28 + k) := by omega
                          refine ih _ (show (wS w - (k + 1)).toNat < mm by omega) (k + 1) (sT (w 0) (w 1) k) (-wSl w k * w (28 + k)) _ _ (by omega) (by omega) (by omega) ?_ rfl
                          rw [foI_s _ _ hk0, ← es, if_neg (show ¬ wCb w k v ≤ m by omega), hcb, hng]
                          exact congrArg (Prod.mk _) (by omega))
                       | (refine ih _ (show (wS w - (k + 1)).toNat < mm by omega) (k + 1) b m _ _ (by omega) (by omega) hsb ?_ rfl
                          rw [foI_s _ _ hk0, ← es, if_pos (show wCb w k v ≤ m by omega)]))
                  | (have h : sT (w 0) (w 1) k = v := c_57
                     have hcb : wCb w k v = wSl w k * w (28 + k) := by
                       unfold wCb
                       rw [if_pos h, wTh_sl]
                     first
                       | (have h3 : m < wSl w k * w (28 + k) := by omega
                          refine ih _ (show (wS w - (k + 1)).toNat < mm by omega) (k + 1) (sF (w 0) (w 1) k) (wSl w k * w (28 + k)) _ _ (by omega) (by omega) (by omega) ?_ rfl
                          rw [foI_s _ _ hk0, ← es, if_neg (show ¬ wCb w k v ≤ m by omega), hcb]
                          exact congrArg (Prod.mk _) (by omega))
                       | (refine ih _ (show (wS w - (k + 1)).toNat < mm by omega) (k + 1) b m _ _ (by omega) (by omega) hsb ?_ rfl
                          rw [foI_s _ _ hk0, ← es, if_pos (show wCb w k v ≤ m by omega)]))
        · skip
          refine r_aload_0 C dX0_feederOf_60 ?_
          refine gG_now C q346 dX0_feederOf_61 ?_
          refine gTN_from C q200 dX0_feederOf_64 ?_
          refine r_iload_5 C dX0_feederOf_67 ?_
          refine ld_n_from C dX0_feederOf_69 ?_
          refine r_topi (sF (w 0) (w 1) k) hek.1 ?_
          refine r_goto (tgt := 74) C dX0_feederOf_70 (by decide) ?_
          refine r_istore_6 C dX0_feederOf_74 ?_
          refine r_iload_6 C dX0_feederOf_76 ?_
          refine r_aload_0 C dX0_feederOf_78 ?_
          refine gG_now C q346 dX0_feederOf_79 ?_
          refine gTN_from C q200 dX0_feederOf_82 ?_
          refine r_iload_5 C dX0_feederOf_85 ?_
          refine ld_n_from C dX0_feederOf_87 ?_
          refine r_topi (sF (w 0) (w 1) k) hek.1 ?_
          refine r_if_icmpne (tgt := 115) C dX0_feederOf_88 (by decide) (fun c_88 => ?_) (fun c_88 => ?_)
          · skip
            refine r_aload_0 C dX0_feederOf_115 ?_
            refine gG_is C q352 dX0_feederOf_116 ?_
            refine r_iload_5 C dX0_feederOf_119 ?_
            refine r_cV1l C (c_X4_slope_I hG hd (hW.nb hd) hX.1 hre hdr ⟨hk0, c_16⟩) (q0 := 16) rfl rfl q818 pkX4_slope dX0_feederOf_121 (fun z w h => ?_)
            obtain ⟨rfl, rfl⟩ := h
            refine r_lneg C dX0_feederOf_124 ?_
            refine r_aload_0 C dX0_feederOf_125 ?_
            refine gG_now C q346 dX0_feederOf_126 ?_
            refine gTN_width C q196 dX0_feederOf_129 ?_
            refine r_iload_5 C dX0_feederOf_132 ?_
            refine ld_n_width C dX0_feederOf_134 ?_
            refine r_topi (w (28 + k)) (hW.wd k hk0 (by omega)) ?_
            refine r_i2l C dX0_feederOf_135 ?_
            refine r_lmul C dX0_feederOf_136 ?_
            refine r_lstore_7 C dX0_feederOf_137 ?_
            refine r_iload_6 C dX0_feederOf_139 ?_
            refine r_iconst C dX0_feederOf_141 ?_
            refine r_if_icmpeq (tgt := 161) C dX0_feederOf_142 (by decide) (fun c_142 => ?_) (fun c_142 => ?_)
            · skip
              refine r_iinc_5 C dX0_feederOf_161 ?_
              refine r_goto (tgt := 7) C dX0_feederOf_164 (by decide) ?_
              first
                | (exfalso; omega)
                | (have h : ¬ sF (w 0) (w 1) k = v := c_30
                   have h2 : ¬ sT (w 0) (w 1) k = v := c_57
                   have hcb : wCb w k v = 0 := by
                     unfold wCb
                     rw [if_neg h2, if_neg h]
                   refine ih _ (show (wS w - (k + 1)).toNat < mm by omega) (k + 1) b m _ _ (by omega) (by omega) hsb ?_ rfl
                   rw [foI_s _ _ hk0, ← es, if_pos (show wCb w k v ≤ m by omega)])
                | (have h : sF (w 0) (w 1) k = v := c_30
                   have hcb : wCb w k v = -(wSl w k * w (28 + k)) := by
                     unfold wCb
                     rw [if_neg (show ¬ sT (w 0) (w 1) k = v by omega), if_pos h, wTh_sl]
                   first
                     | (have h3 : m < -wSl w k * w (28 + k) := by omega
                        refine ih _ (show (wS w - (k + 1)).toNat < mm by omega) (k + 1) (sT (w 0) (w 1) k) (-wSl w k * w (28 + k)) _ _ (by omega) (by omega) (by omega) ?_ rfl
                        rw [foI_s _ _ hk0, ← es, if_neg (show ¬ wCb w k v ≤ m by omega), hcb, hng]
                        exact congrArg (Prod.mk _) (by omega))
                     | (refine ih _ (show (wS w - (k + 1)).toNat < mm by omega) (k + 1) b m _ _ (by omega) (by omega) hsb ?_ rfl
                        rw [foI_s _ _ hk0, ← es, if_pos (show wCb w k v ≤ m by omega)]))
                | (have h : sT (w 0) (w 1) k = v := c_57
                   have hcb : wCb w k v = wSl w k * w (28 + k) := by
                     unfold wCb
                     rw [if_pos h, wTh_sl]
                   first
                     | (have h3 : m < wSl w k * w (28 + k) := by omega
                        refine ih _ (show (wS w - (k + 1)).toNat < mm by omega) (k + 1) (sF (w 0) (w 1) k) (wSl w k * w (28 + k)) _ _ (by omega) (by omega) (by omega) ?_ rfl
                        rw [foI_s _ _ hk0, ← es, if_neg (show ¬ wCb w k v ≤ m by omega), hcb]
                        exact congrArg (Prod.mk _) (by omega))
                     | (refine ih _ (show (wS w - (k + 1)).toNat < mm by omega) (k + 1) b m _ _ (by omega) (by omega) hsb ?_ rfl
                        rw [foI_s _ _ hk0, ← es, if_pos (show wCb w k v ≤ m by omega)]))
            · skip
              refine r_lload_7 C dX0_feederOf_145 ?_
              refine r_lload_3 C dX0_feederOf_147 ?_
              refine r_lcmp_ifgt (tgt := 155) C dX0_feederOf_148 dX0_feederOf_149 (by decide) (fun c_148 => ?_) (fun c_148 => ?_)
              · skip
                refine r_iload_6 C dX0_feederOf_155 ?_
                refine r_istore_2 C dX0_feederOf_157 ?_
                refine r_lload_7 C dX0_feederOf_158 ?_
                refine r_lstore_3 C dX0_feederOf_160 ?_
                refine r_iinc_5 C dX0_feederOf_161 ?_
                refine r_goto (tgt := 7) C dX0_feederOf_164 (by decide) ?_
                first
                  | (exfalso; omega)
                  | (have h : ¬ sF (w 0) (w 1) k = v := c_30
                     have h2 : ¬ sT (w 0) (w 1) k = v := c_57
                     have hcb : wCb w k v = 0 := by
                       unfold wCb
                       rw [if_neg h2, if_neg h]
                     refine ih _ (show (wS w - (k + 1)).toNat < mm by omega) (k + 1) b m _ _ (by omega) (by omega) hsb ?_ rfl
                     rw [foI_s _ _ hk0, ← es, if_pos (show wCb w k v ≤ m by omega)])
                  | (have h : sF (w 0) (w 1) k = v := c_30
                     have hcb : wCb w k v = -(wSl w k * w (28 + k)) := by
                       unfold wCb
                       rw [if_neg (show ¬ sT (w 0) (w 1) k = v by omega), if_pos h, wTh_sl]
                     first
                       | (have h3 : m < -wSl w k * w (28 + k) := by omega
                          refine ih _ (show (wS w - (k + 1)).toNat < mm by omega) (k + 1) (sT (w 0) (w 1) k) (-wSl w k * w (28 + k)) _ _ (by omega) (by omega) (by omega) ?_ rfl
                          rw [foI_s _ _ hk0, ← es, if_neg (show ¬ wCb w k v ≤ m by omega), hcb, hng]
                          exact congrArg (Prod.mk _) (by omega))
                       | (refine ih _ (show (wS w - (k + 1)).toNat < mm by omega) (k + 1) b m _ _ (by omega) (by omega) hsb ?_ rfl
                          rw [foI_s _ _ hk0, ← es, if_pos (show wCb w k v ≤ m by omega)]))
                  | (have h : sT (w 0) (w 1) k = v := c_57
                     have hcb : wCb w k v = wSl w k * w (28 + k) := by
                       unfold wCb
                       rw [if_pos h, wTh_sl]
                     first
                       | (have h3 : m < wSl w k * w (28 + k) := by omega
                          refine ih _ (show (wS w - (k + 1)).toNat < mm by omega) (k + 1) (sF (w 0) (w 1) k) (wSl w k * w (28 + k)) _ _ (by omega) (by omega) (by omega) ?_ rfl
                          rw [foI_s _ _ hk0, ← es, if_neg (show ¬ wCb w k v ≤ m by omega), hcb]
                          exact congrArg (Prod.mk _) (by omega))
                       | (refine ih _ (show (wS w - (k + 1)).toNat < mm by omega) (k + 1) b m _ _ (by omega) (by omega) hsb ?_ rfl
                          rw [foI_s _ _ hk0, ← es, if_pos (show wCb w k v ≤ m by omega)]))
              · skip
                refine r_goto (tgt := 161) C dX0_feederOf_152 (by decide) ?_
                refine r_iinc_5 C dX0_feederOf_161 ?_
                refine r_goto (tgt := 7) C dX0_feederOf_164 (by decide) ?_
                first
                  | (exfalso; omega)
                  | (have h : ¬ sF (w 0) (w 1) k = v := c_30
                     have h2 : ¬ sT (w 0) (w 1) k = v := c_57
                     have hcb : wCb w k v = 0 := by
                       unfold wCb
                       rw [if_neg h2, if_neg h]
                     refine ih _ (show (wS w - (k + 1)).toNat < mm by omega) (k + 1) b m _ _ (by omega) (by omega) hsb ?_ rfl
                     rw [foI_s _ _ hk0, ← es, if_pos (show wCb w k v ≤ m by omega)])
                  | (have h : sF (w 0) (w 1) k = v := c_30
                     have hcb : wCb w k v = -(wSl w k * w (28 + k)) := by
                       unfold wCb
                       rw [if_neg (show ¬ sT (w 0) (w 1) k = v by omega), if_pos h, wTh_sl]
                     first
                       | (have h3 : m < -wSl w k * w (28 + k) := by omega
                          refine ih _ (show (wS w - (k + 1)).toNat < mm by omega) (k + 1) (sT (w 0) (w 1) k) (-wSl w k * w (28 + k)) _ _ (by omega) (by omega) (by omega) ?_ rfl
                          rw [foI_s _ _ hk0, ← es, if_neg (show ¬ wCb w k v ≤ m by omega), hcb, hng]
                          exact congrArg (Prod.mk _) (by omega))
                       | (refine ih _ (show (wS w - (k + 1)).toNat < mm by omega) (k + 1) b m _ _ (by omega) (by omega) hsb ?_ rfl
                          rw [foI_s _ _ hk0, ← es, if_pos (show wCb w k v ≤ m by omega)]))
                  | (have h : sT (w 0) (w 1) k = v := c_57
                     have hcb : wCb w k v = wSl w k * w (28 + k) := by
                       unfold wCb
                       rw [if_pos h, wTh_sl]
                     first
                       | (have h3 : m < wSl w k * w (28 + k) := by omega
                          refine ih _ (show (wS w - (k + 1)).toNat < mm by omega) (k + 1) (sF (w 0) (w 1) k) (wSl w k * w (28 + k)) _ _ (by omega) (by omega) (by omega) ?_ rfl
                          rw [foI_s _ _ hk0, ← es, if_neg (show ¬ wCb w k v ≤ m by omega), hcb]
                          exact congrArg (Prod.mk _) (by omega))
                       | (refine ih _ (show (wS w - (k + 1)).toNat < mm by omega) (k + 1) b m _ _ (by omega) (by omega) hsb ?_ rfl
                          rw [foI_s _ _ hk0, ← es, if_pos (show wCb w k v ≤ m by omega)]))
          · skip
            refine r_aload_0 C dX0_feederOf_91 ?_
            refine gG_is C q352 dX0_feederOf_92 ?_
            refine r_iload_5 C dX0_feederOf_95 ?_
            refine r_cV1l C (c_X4_slope_I hG hd (hW.nb hd) hX.1 hre hdr ⟨hk0, c_16⟩) (q0 := 16) rfl rfl q818 pkX4_slope dX0_feederOf_97 (fun z w h => ?_)
            obtain ⟨rfl, rfl⟩ := h
            refine r_aload_0 C dX0_feederOf_100 ?_
            refine gG_now C q346 dX0_feederOf_101 ?_
            refine gTN_width C q196 dX0_feederOf_104 ?_
            refine r_iload_5 C dX0_feederOf_107 ?_
            refine ld_n_width C dX0_feederOf_109 ?_
            refine r_topi (w (28 + k)) (hW.wd k hk0 (by omega)) ?_
            refine r_i2l C dX0_feederOf_110 ?_
            refine r_lmul C dX0_feederOf_111 ?_
            refine r_goto (tgt := 137) C dX0_feederOf_112 (by decide) ?_
            refine r_lstore_7 C dX0_feederOf_137 ?_
            refine r_iload_6 C dX0_feederOf_139 ?_
            refine r_iconst C dX0_feederOf_141 ?_
            refine r_if_icmpeq (tgt := 161) C dX0_feederOf_142 (by decide) (fun c_142 => ?_) (fun c_142 => ?_)
            · skip
              refine r_iinc_5 C dX0_feederOf_161 ?_
              refine r_goto (tgt := 7) C dX0_feederOf_164 (by decide) ?_
              first
                | (exfalso; omega)
                | (have h : ¬ sF (w 0) (w 1) k = v := c_30
                   have h2 : ¬ sT (w 0) (w 1) k = v := c_57
                   have hcb : wCb w k v = 0 := by
                     unfold wCb
                     rw [if_neg h2, if_neg h]
                   refine ih _ (show (wS w - (k + 1)).toNat < mm by omega) (k + 1) b m _ _ (by omega) (by omega) hsb ?_ rfl
                   rw [foI_s _ _ hk0, ← es, if_pos (show wCb w k v ≤ m by omega)])
                | (have h : sF (w 0) (w 1) k = v := c_30
                   have hcb : wCb w k v = -(wSl w k * w (28 + k)) := by
                     unfold wCb
                     rw [if_neg (show ¬ sT (w 0) (w 1) k = v by omega), if_pos h, wTh_sl]
                   first
                     | (have h3 : m < -wSl w k * w (28 + k) := by omega
                        refine ih _ (show (wS w - (k + 1)).toNat < mm by omega) (k + 1) (sT (w 0) (w 1) k) (-wSl w k * w (28 + k)) _ _ (by omega) (by omega) (by omega) ?_ rfl
                        rw [foI_s _ _ hk0, ← es, if_neg (show ¬ wCb w k v ≤ m by omega), hcb, hng]
                        exact congrArg (Prod.mk _) (by omega))
                     | (refine ih _ (show (wS w - (k + 1)).toNat < mm by omega) (k + 1) b m _ _ (by omega) (by omega) hsb ?_ rfl
                        rw [foI_s _ _ hk0, ← es, if_pos (show wCb w k v ≤ m by omega)]))
                | (have h : sT (w 0) (w 1) k = v := c_57
                   have hcb : wCb w k v = wSl w k * w (28 + k) := by
                     unfold wCb
                     rw [if_pos h, wTh_sl]
                   first
                     | (have h3 : m < wSl w k * w (28 + k) := by omega
                        refine ih _ (show (wS w - (k + 1)).toNat < mm by omega) (k + 1) (sF (w 0) (w 1) k) (wSl w k * w (28 + k)) _ _ (by omega) (by omega) (by omega) ?_ rfl
                        rw [foI_s _ _ hk0, ← es, if_neg (show ¬ wCb w k v ≤ m by omega), hcb]
                        exact congrArg (Prod.mk _) (by omega))
                     | (refine ih _ (show (wS w - (k + 1)).toNat < mm by omega) (k + 1) b m _ _ (by omega) (by omega) hsb ?_ rfl
                        rw [foI_s _ _ hk0, ← es, if_pos (show wCb w k v ≤ m by omega)]))
            · skip
              refine r_lload_7 C dX0_feederOf_145 ?_
              refine r_lload_3 C dX0_feederOf_147 ?_
              refine r_lcmp_ifgt (tgt := 155) C dX0_feederOf_148 dX0_feederOf_149 (by decide) (fun c_148 => ?_) (fun c_148 => ?_)
              · skip
                refine r_iload_6 C dX0_feederOf_155 ?_
                refine r_istore_2 C dX0_feederOf_157 ?_
                refine r_lload_7 C dX0_feederOf_158 ?_
                refine r_lstore_3 C dX0_feederOf_160 ?_
                refine r_iinc_5 C dX0_feederOf_161 ?_
                refine r_goto (tgt := 7) C dX0_feederOf_164 (by decide) ?_
                first
                  | (exfalso; omega)
                  | (have h : ¬ sF (w 0) (w 1) k = v := c_30
                     have h2 : ¬ sT (w 0) (w 1) k = v := c_57
                     have hcb : wCb w k v = 0 := by
                       unfold wCb
                       rw [if_neg h2, if_neg h]
                     refine ih _ (show (wS w - (k + 1)).toNat < mm by omega) (k + 1) b m _ _ (by omega) (by omega) hsb ?_ rfl
                     rw [foI_s _ _ hk0, ← es, if_pos (show wCb w k v ≤ m by omega)])
                  | (have h : sF (w 0) (w 1) k = v := c_30
                     have hcb : wCb w k v = -(wSl w k * w (28 + k)) := by
                       unfold wCb
                       rw [if_neg (show ¬ sT (w 0) (w 1) k = v by omega), if_pos h, wTh_sl]
                     first
                       | (have h3 : m < -wSl w k * w (28 + k) := by omega
                          refine ih _ (show (wS w - (k + 1)).toNat < mm by omega) (k + 1) (sT (w 0) (w 1) k) (-wSl w k * w (28 + k)) _ _ (by omega) (by omega) (by omega) ?_ rfl
                          rw [foI_s _ _ hk0, ← es, if_neg (show ¬ wCb w k v ≤ m by omega), hcb, hng]
                          exact congrArg (Prod.mk _) (by omega))
                       | (refine ih _ (show (wS w - (k + 1)).toNat < mm by omega) (k + 1) b m _ _ (by omega) (by omega) hsb ?_ rfl
                          rw [foI_s _ _ hk0, ← es, if_pos (show wCb w k v ≤ m by omega)]))
                  | (have h : sT (w 0) (w 1) k = v := c_57
                     have hcb : wCb w k v = wSl w k * w (28 + k) := by
                       unfold wCb
                       rw [if_pos h, wTh_sl]
                     first
                       | (have h3 : m < wSl w k * w (28 + k) := by omega
                          refine ih _ (show (wS w - (k + 1)).toNat < mm by omega) (k + 1) (sF (w 0) (w 1) k) (wSl w k * w (28 + k)) _ _ (by omega) (by omega) (by omega) ?_ rfl
                          rw [foI_s _ _ hk0, ← es, if_neg (show ¬ wCb w k v ≤ m by omega), hcb]
                          exact congrArg (Prod.mk _) (by omega))
                       | (refine ih _ (show (wS w - (k + 1)).toNat < mm by omega) (k + 1) b m _ _ (by omega) (by omega) hsb ?_ rfl
                          rw [foI_s _ _ hk0, ← es, if_pos (show wCb w k v ≤ m by omega)]))
              · skip
                refine r_goto (tgt := 161) C dX0_feederOf_152 (by decide) ?_
                refine r_iinc_5 C dX0_feederOf_161 ?_
                refine r_goto (tgt := 7) C dX0_feederOf_164 (by decide) ?_
                first
                  | (exfalso; omega)
                  | (have h : ¬ sF (w 0) (w 1) k = v := c_30
                     have h2 : ¬ sT (w 0) (w 1) k = v := c_57
                     have hcb : wCb w k v = 0 := by
                       unfold wCb
                       rw [if_neg h2, if_neg h]
                     refine ih _ (show (wS w - (k + 1)).toNat < mm by omega) (k + 1) b m _ _ (by omega) (by omega) hsb ?_ rfl
                     rw [foI_s _ _ hk0, ← es, if_pos (show wCb w k v ≤ m by omega)])
                  | (have h : sF (w 0) (w 1) k = v := c_30
                     have hcb : wCb w k v = -(wSl w k * w (28 + k)) := by
                       unfold wCb
                       rw [if_neg (show ¬ sT (w 0) (w 1) k = v by omega), if_pos h, wTh_sl]
                     first
                       | (have h3 : m < -wSl w k * w (28 + k) := by omega
                          refine ih _ (show (wS w - (k + 1)).toNat < mm by omega) (k + 1) (sT (w 0) (w 1) k) (-wSl w k * w (28 + k)) _ _ (by omega) (by omega) (by omega) ?_ rfl
                          rw [foI_s _ _ hk0, ← es, if_neg (show ¬ wCb w k v ≤ m by omega), hcb, hng]
                          exact congrArg (Prod.mk _) (by omega))
                       | (refine ih _ (show (wS w - (k + 1)).toNat < mm by omega) (k + 1) b m _ _ (by omega) (by omega) hsb ?_ rfl
                          rw [foI_s _ _ hk0, ← es, if_pos (show wCb w k v ≤ m by omega)]))
                  | (have h : sT (w 0) (w 1) k = v := c_57
                     have hcb : wCb w k v = wSl w k * w (28 + k) := by
                       unfold wCb
                       rw [if_pos h, wTh_sl]
                     first
                       | (have h3 : m < wSl w k * w (28 + k) := by omega
                          refine ih _ (show (wS w - (k + 1)).toNat < mm by omega) (k + 1) (sF (w 0) (w 1) k) (wSl w k * w (28 + k)) _ _ (by omega) (by omega) (by omega) ?_ rfl
                          rw [foI_s _ _ hk0, ← es, if_neg (show ¬ wCb w k v ≤ m by omega), hcb]
                          exact congrArg (Prod.mk _) (by omega))
                       | (refine ih _ (show (wS w - (k + 1)).toNat < mm by omega) (k + 1) b m _ _ (by omega) (by omega) hsb ?_ rfl
                          rw [foI_s _ _ hk0, ← es, if_pos (show wCb w k v ≤ m by omega)]))
      · skip
        refine r_aload_0 C dX0_feederOf_33 ?_
        refine gG_now C q346 dX0_feederOf_34 ?_
        refine gTN_to C q204 dX0_feederOf_37 ?_
        refine r_iload_5 C dX0_feederOf_40 ?_
        refine ld_n_to C dX0_feederOf_42 ?_
        refine r_topi (sT (w 0) (w 1) k) hek.2 ?_
        refine r_goto (tgt := 74) C dX0_feederOf_43 (by decide) ?_
        refine r_istore_6 C dX0_feederOf_74 ?_
        refine r_iload_6 C dX0_feederOf_76 ?_
        refine r_aload_0 C dX0_feederOf_78 ?_
        refine gG_now C q346 dX0_feederOf_79 ?_
        refine gTN_from C q200 dX0_feederOf_82 ?_
        refine r_iload_5 C dX0_feederOf_85 ?_
        refine ld_n_from C dX0_feederOf_87 ?_
        refine r_topi (sF (w 0) (w 1) k) hek.1 ?_
        refine r_if_icmpne (tgt := 115) C dX0_feederOf_88 (by decide) (fun c_88 => ?_) (fun c_88 => ?_)
        · skip
          refine r_aload_0 C dX0_feederOf_115 ?_
          refine gG_is C q352 dX0_feederOf_116 ?_
          refine r_iload_5 C dX0_feederOf_119 ?_
          refine r_cV1l C (c_X4_slope_I hG hd (hW.nb hd) hX.1 hre hdr ⟨hk0, c_16⟩) (q0 := 16) rfl rfl q818 pkX4_slope dX0_feederOf_121 (fun z w h => ?_)
          obtain ⟨rfl, rfl⟩ := h
          refine r_lneg C dX0_feederOf_124 ?_
          refine r_aload_0 C dX0_feederOf_125 ?_
          refine gG_now C q346 dX0_feederOf_126 ?_
          refine gTN_width C q196 dX0_feederOf_129 ?_
          refine r_iload_5 C dX0_feederOf_132 ?_
          refine ld_n_width C dX0_feederOf_134 ?_
          refine r_topi (w (28 + k)) (hW.wd k hk0 (by omega)) ?_
          refine r_i2l C dX0_feederOf_135 ?_
          refine r_lmul C dX0_feederOf_136 ?_
          refine r_lstore_7 C dX0_feederOf_137 ?_
          refine r_iload_6 C dX0_feederOf_139 ?_
          refine r_iconst C dX0_feederOf_141 ?_
          refine r_if_icmpeq (tgt := 161) C dX0_feederOf_142 (by decide) (fun c_142 => ?_) (fun c_142 => ?_)
          · skip
            refine r_iinc_5 C dX0_feederOf_161 ?_
            refine r_goto (tgt := 7) C dX0_feederOf_164 (by decide) ?_
            first
              | (exfalso; omega)
              | (have h : ¬ sF (w 0) (w 1) k = v := c_30
                 have h2 : ¬ sT (w 0) (w 1) k = v := c_57
                 have hcb : wCb w k v = 0 := by
                   unfold wCb
                   rw [if_neg h2, if_neg h]
                 refine ih _ (show (wS w - (k + 1)).toNat < mm by omega) (k + 1) b m _ _ (by omega) (by omega) hsb ?_ rfl
                 rw [foI_s _ _ hk0, ← es, if_pos (show wCb w k v ≤ m by omega)])
              | (have h : sF (w 0) (w 1) k = v := c_30
                 have hcb : wCb w k v = -(wSl w k * w (28 + k)) := by
                   unfold wCb
                   rw [if_neg (show ¬ sT (w 0) (w 1) k = v by omega), if_pos h, wTh_sl]
                 first
                   | (have h3 : m < -wSl w k * w (28 + k) := by omega
                      refine ih _ (show (wS w - (k + 1)).toNat < mm by omega) (k + 1) (sT (w 0) (w 1) k) (-wSl w k * w (28 + k)) _ _ (by omega) (by omega) (by omega) ?_ rfl
                      rw [foI_s _ _ hk0, ← es, if_neg (show ¬ wCb w k v ≤ m by omega), hcb, hng]
                      exact congrArg (Prod.mk _) (by omega))
                   | (refine ih _ (show (wS w - (k + 1)).toNat < mm by omega) (k + 1) b m _ _ (by omega) (by omega) hsb ?_ rfl
                      rw [foI_s _ _ hk0, ← es, if_pos (show wCb w k v ≤ m by omega)]))
              | (have h : sT (w 0) (w 1) k = v := c_57
                 have hcb : wCb w k v = wSl w k * w (28 + k) := by
                   unfold wCb
                   rw [if_pos h, wTh_sl]
                 first
                   | (have h3 : m < wSl w k * w (28 + k) := by omega
                      refine ih _ (show (wS w - (k + 1)).toNat < mm by omega) (k + 1) (sF (w 0) (w 1) k) (wSl w k * w (28 + k)) _ _ (by omega) (by omega) (by omega) ?_ rfl
                      rw [foI_s _ _ hk0, ← es, if_neg (show ¬ wCb w k v ≤ m by omega), hcb]
                      exact congrArg (Prod.mk _) (by omega))
                   | (refine ih _ (show (wS w - (k + 1)).toNat < mm by omega) (k + 1) b m _ _ (by omega) (by omega) hsb ?_ rfl
                      rw [foI_s _ _ hk0, ← es, if_pos (show wCb w k v ≤ m by omega)]))
          · skip
            refine r_lload_7 C dX0_feederOf_145 ?_
            refine r_lload_3 C dX0_feederOf_147 ?_
            refine r_lcmp_ifgt (tgt := 155) C dX0_feederOf_148 dX0_feederOf_149 (by decide) (fun c_148 => ?_) (fun c_148 => ?_)
            · skip
              refine r_iload_6 C dX0_feederOf_155 ?_
              refine r_istore_2 C dX0_feederOf_157 ?_
              refine r_lload_7 C dX0_feederOf_158 ?_
              refine r_lstore_3 C dX0_feederOf_160 ?_
              refine r_iinc_5 C dX0_feederOf_161 ?_
              refine r_goto (tgt := 7) C dX0_feederOf_164 (by decide) ?_
              first
                | (exfalso; omega)
                | (have h : ¬ sF (w 0) (w 1) k = v := c_30
                   have h2 : ¬ sT (w 0) (w 1) k = v := c_57
                   have hcb : wCb w k v = 0 := by
                     unfold wCb
                     rw [if_neg h2, if_neg h]
                   refine ih _ (show (wS w - (k + 1)).toNat < mm by omega) (k + 1) b m _ _ (by omega) (by omega) hsb ?_ rfl
                   rw [foI_s _ _ hk0, ← es, if_pos (show wCb w k v ≤ m by omega)])
                | (have h : sF (w 0) (w 1) k = v := c_30
                   have hcb : wCb w k v = -(wSl w k * w (28 + k)) := by
                     unfold wCb
                     rw [if_neg (show ¬ sT (w 0) (w 1) k = v by omega), if_pos h, wTh_sl]
                   first
                     | (have h3 : m < -wSl w k * w (28 + k) := by omega
                        refine ih _ (show (wS w - (k + 1)).toNat < mm by omega) (k + 1) (sT (w 0) (w 1) k) (-wSl w k * w (28 + k)) _ _ (by omega) (by omega) (by omega) ?_ rfl
                        rw [foI_s _ _ hk0, ← es, if_neg (show ¬ wCb w k v ≤ m by omega), hcb, hng]
                        exact congrArg (Prod.mk _) (by omega))
                     | (refine ih _ (show (wS w - (k + 1)).toNat < mm by omega) (k + 1) b m _ _ (by omega) (by omega) hsb ?_ rfl
                        rw [foI_s _ _ hk0, ← es, if_pos (show wCb w k v ≤ m by omega)]))
                | (have h : sT (w 0) (w 1) k = v := c_57
                   have hcb : wCb w k v = wSl w k * w (28 + k) := by
                     unfold wCb
                     rw [if_pos h, wTh_sl]
                   first
                     | (have h3 : m < wSl w k * w (28 + k) := by omega
                        refine ih _ (show (wS w - (k + 1)).toNat < mm by omega) (k + 1) (sF (w 0) (w 1) k) (wSl w k * w (28 + k)) _ _ (by omega) (by omega) (by omega) ?_ rfl
                        rw [foI_s _ _ hk0, ← es, if_neg (show ¬ wCb w k v ≤ m by omega), hcb]
                        exact congrArg (Prod.mk _) (by omega))
                     | (refine ih _ (show (wS w - (k + 1)).toNat < mm by omega) (k + 1) b m _ _ (by omega) (by omega) hsb ?_ rfl
                        rw [foI_s _ _ hk0, ← es, if_pos (show wCb w k v ≤ m by omega)]))
            · skip
              refine r_goto (tgt := 161) C dX0_feederOf_152 (by decide) ?_
              refine r_iinc_5 C dX0_feederOf_161 ?_
              refine r_goto (tgt := 7) C dX0_feederOf_164 (by decide) ?_
              first
                | (exfalso; omega)
                | (have h : ¬ sF (w 0) (w 1) k = v := c_30
                   have h2 : ¬ sT (w 0) (w 1) k = v := c_57
                   have hcb : wCb w k v = 0 := by
                     unfold wCb
                     rw [if_neg h2, if_neg h]
                   refine ih _ (show (wS w - (k + 1)).toNat < mm by omega) (k + 1) b m _ _ (by omega) (by omega) hsb ?_ rfl
                   rw [foI_s _ _ hk0, ← es, if_pos (show wCb w k v ≤ m by omega)])
                | (have h : sF (w 0) (w 1) k = v := c_30
                   have hcb : wCb w k v = -(wSl w k * w (28 + k)) := by
                     unfold wCb
                     rw [if_neg (show ¬ sT (w 0) (w 1) k = v by omega), if_pos h, wTh_sl]
                   first
                     | (have h3 : m < -wSl w k * w (28 + k) := by omega
                        refine ih _ (show (wS w - (k + 1)).toNat < mm by omega) (k + 1) (sT (w 0) (w 1) k) (-wSl w k * w (28 + k)) _ _ (by omega) (by omega) (by omega) ?_ rfl
                        rw [foI_s _ _ hk0, ← es, if_neg (show ¬ wCb w k v ≤ m by omega), hcb, hng]
                        exact congrArg (Prod.mk _) (by omega))
                     | (refine ih _ (show (wS w - (k + 1)).toNat < mm by omega) (k + 1) b m _ _ (by omega) (by omega) hsb ?_ rfl
                        rw [foI_s _ _ hk0, ← es, if_pos (show wCb w k v ≤ m by omega)]))
                | (have h : sT (w 0) (w 1) k = v := c_57
                   have hcb : wCb w k v = wSl w k * w (28 + k) := by
                     unfold wCb
                     rw [if_pos h, wTh_sl]
                   first
                     | (have h3 : m < wSl w k * w (28 + k) := by omega
                        refine ih _ (show (wS w - (k + 1)).toNat < mm by omega) (k + 1) (sF (w 0) (w 1) k) (wSl w k * w (28 + k)) _ _ (by omega) (by omega) (by omega) ?_ rfl
                        rw [foI_s _ _ hk0, ← es, if_neg (show ¬ wCb w k v ≤ m by omega), hcb]
                        exact congrArg (Prod.mk _) (by omega))
                     | (refine ih _ (show (wS w - (k + 1)).toNat < mm by omega) (k + 1) b m _ _ (by omega) (by omega) hsb ?_ rfl
                        rw [foI_s _ _ hk0, ← es, if_pos (show wCb w k v ≤ m by omega)]))
        · skip
          refine r_aload_0 C dX0_feederOf_91 ?_
          refine gG_is C q352 dX0_feederOf_92 ?_
          refine r_iload_5 C dX0_feederOf_95 ?_
          refine r_cV1l C (c_X4_slope_I hG hd (hW.nb hd) hX.1 hre hdr ⟨hk0, c_16⟩) (q0 := 16) rfl rfl q818 pkX4_slope dX0_feederOf_97 (fun z w h => ?_)
          obtain ⟨rfl, rfl⟩ := h
          refine r_aload_0 C dX0_feederOf_100 ?_
          refine gG_now C q346 dX0_feederOf_101 ?_
          refine gTN_width C q196 dX0_feederOf_104 ?_
          refine r_iload_5 C dX0_feederOf_107 ?_
          refine ld_n_width C dX0_feederOf_109 ?_
          refine r_topi (w (28 + k)) (hW.wd k hk0 (by omega)) ?_
          refine r_i2l C dX0_feederOf_110 ?_
          refine r_lmul C dX0_feederOf_111 ?_
          refine r_goto (tgt := 137) C dX0_feederOf_112 (by decide) ?_
          refine r_lstore_7 C dX0_feederOf_137 ?_
          refine r_iload_6 C dX0_feederOf_139 ?_
          refine r_iconst C dX0_feederOf_141 ?_
          refine r_if_icmpeq (tgt := 161) C dX0_feederOf_142 (by decide) (fun c_142 => ?_) (fun c_142 => ?_)
          · skip
            refine r_iinc_5 C dX0_feederOf_161 ?_
            refine r_goto (tgt := 7) C dX0_feederOf_164 (by decide) ?_
            first
              | (exfalso; omega)
              | (have h : ¬ sF (w 0) (w 1) k = v := c_30
                 have h2 : ¬ sT (w 0) (w 1) k = v := c_57
                 have hcb : wCb w k v = 0 := by
                   unfold wCb
                   rw [if_neg h2, if_neg h]
                 refine ih _ (show (wS w - (k + 1)).toNat < mm by omega) (k + 1) b m _ _ (by omega) (by omega) hsb ?_ rfl
                 rw [foI_s _ _ hk0, ← es, if_pos (show wCb w k v ≤ m by omega)])
              | (have h : sF (w 0) (w 1) k = v := c_30
                 have hcb : wCb w k v = -(wSl w k * w (28 + k)) := by
                   unfold wCb
                   rw [if_neg (show ¬ sT (w 0) (w 1) k = v by omega), if_pos h, wTh_sl]
                 first
                   | (have h3 : m < -wSl w k * w (28 + k) := by omega
                      refine ih _ (show (wS w - (k + 1)).toNat < mm by omega) (k + 1) (sT (w 0) (w 1) k) (-wSl w k * w (28 + k)) _ _ (by omega) (by omega) (by omega) ?_ rfl
                      rw [foI_s _ _ hk0, ← es, if_neg (show ¬ wCb w k v ≤ m by omega), hcb, hng]
                      exact congrArg (Prod.mk _) (by omega))
                   | (refine ih _ (show (wS w - (k + 1)).toNat < mm by omega) (k + 1) b m _ _ (by omega) (by omega) hsb ?_ rfl
                      rw [foI_s _ _ hk0, ← es, if_pos (show wCb w k v ≤ m by omega)]))
              | (have h : sT (w 0) (w 1) k = v := c_57
                 have hcb : wCb w k v = wSl w k * w (28 + k) := by
                   unfold wCb
                   rw [if_pos h, wTh_sl]
                 first
                   | (have h3 : m < wSl w k * w (28 + k) := by omega
                      refine ih _ (show (wS w - (k + 1)).toNat < mm by omega) (k + 1) (sF (w 0) (w 1) k) (wSl w k * w (28 + k)) _ _ (by omega) (by omega) (by omega) ?_ rfl
                      rw [foI_s _ _ hk0, ← es, if_neg (show ¬ wCb w k v ≤ m by omega), hcb]
                      exact congrArg (Prod.mk _) (by omega))
                   | (refine ih _ (show (wS w - (k + 1)).toNat < mm by omega) (k + 1) b m _ _ (by omega) (by omega) hsb ?_ rfl
                      rw [foI_s _ _ hk0, ← es, if_pos (show wCb w k v ≤ m by omega)]))
          · skip
            refine r_lload_7 C dX0_feederOf_145 ?_
            refine r_lload_3 C dX0_feederOf_147 ?_
            refine r_lcmp_ifgt (tgt := 155) C dX0_feederOf_148 dX0_feederOf_149 (by decide) (fun c_148 => ?_) (fun c_148 => ?_)
            · skip
              refine r_iload_6 C dX0_feederOf_155 ?_
              refine r_istore_2 C dX0_feederOf_157 ?_
              refine r_lload_7 C dX0_feederOf_158 ?_
              refine r_lstore_3 C dX0_feederOf_160 ?_
              refine r_iinc_5 C dX0_feederOf_161 ?_
              refine r_goto (tgt := 7) C dX0_feederOf_164 (by decide) ?_
              first
                | (exfalso; omega)
                | (have h : ¬ sF (w 0) (w 1) k = v := c_30
                   have h2 : ¬ sT (w 0) (w 1) k = v := c_57
                   have hcb : wCb w k v = 0 := by
                     unfold wCb
                     rw [if_neg h2, if_neg h]
                   refine ih _ (show (wS w - (k + 1)).toNat < mm by omega) (k + 1) b m _ _ (by omega) (by omega) hsb ?_ rfl
                   rw [foI_s _ _ hk0, ← es, if_pos (show wCb w k v ≤ m by omega)])
                | (have h : sF (w 0) (w 1) k = v := c_30
                   have hcb : wCb w k v = -(wSl w k * w (28 + k)) := by
                     unfold wCb
                     rw [if_neg (show ¬ sT (w 0) (w 1) k = v by omega), if_pos h, wTh_sl]
                   first
                     | (have h3 : m < -wSl w k * w (28 + k) := by omega
                        refine ih _ (show (wS w - (k + 1)).toNat < mm by omega) (k + 1) (sT (w 0) (w 1) k) (-wSl w k * w (28 + k)) _ _ (by omega) (by omega) (by omega) ?_ rfl
                        rw [foI_s _ _ hk0, ← es, if_neg (show ¬ wCb w k v ≤ m by omega), hcb, hng]
                        exact congrArg (Prod.mk _) (by omega))
                     | (refine ih _ (show (wS w - (k + 1)).toNat < mm by omega) (k + 1) b m _ _ (by omega) (by omega) hsb ?_ rfl
                        rw [foI_s _ _ hk0, ← es, if_pos (show wCb w k v ≤ m by omega)]))
                | (have h : sT (w 0) (w 1) k = v := c_57
                   have hcb : wCb w k v = wSl w k * w (28 + k) := by
                     unfold wCb
                     rw [if_pos h, wTh_sl]
                   first
                     | (have h3 : m < wSl w k * w (28 + k) := by omega
                        refine ih _ (show (wS w - (k + 1)).toNat < mm by omega) (k + 1) (sF (w 0) (w 1) k) (wSl w k * w (28 + k)) _ _ (by omega) (by omega) (by omega) ?_ rfl
                        rw [foI_s _ _ hk0, ← es, if_neg (show ¬ wCb w k v ≤ m by omega), hcb]
                        exact congrArg (Prod.mk _) (by omega))
                     | (refine ih _ (show (wS w - (k + 1)).toNat < mm by omega) (k + 1) b m _ _ (by omega) (by omega) hsb ?_ rfl
                        rw [foI_s _ _ hk0, ← es, if_pos (show wCb w k v ≤ m by omega)]))
            · skip
              refine r_goto (tgt := 161) C dX0_feederOf_152 (by decide) ?_
              refine r_iinc_5 C dX0_feederOf_161 ?_
              refine r_goto (tgt := 7) C dX0_feederOf_164 (by decide) ?_
              first
                | (exfalso; omega)
                | (have h : ¬ sF (w 0) (w 1) k = v := c_30
                   have h2 : ¬ sT (w 0) (w 1) k = v := c_57
                   have hcb : wCb w k v = 0 := by
                     unfold wCb
                     rw [if_neg h2, if_neg h]
                   refine ih _ (show (wS w - (k + 1)).toNat < mm by omega) (k + 1) b m _ _ (by omega) (by omega) hsb ?_ rfl
                   rw [foI_s _ _ hk0, ← es, if_pos (show wCb w k v ≤ m by omega)])
                | (have h : sF (w 0) (w 1) k = v := c_30
                   have hcb : wCb w k v = -(wSl w k * w (28 + k)) := by
                     unfold wCb
                     rw [if_neg (show ¬ sT (w 0) (w 1) k = v by omega), if_pos h, wTh_sl]
                   first
                     | (have h3 : m < -wSl w k * w (28 + k) := by omega
                        refine ih _ (show (wS w - (k + 1)).toNat < mm by omega) (k + 1) (sT (w 0) (w 1) k) (-wSl w k * w (28 + k)) _ _ (by omega) (by omega) (by omega) ?_ rfl
                        rw [foI_s _ _ hk0, ← es, if_neg (show ¬ wCb w k v ≤ m by omega), hcb, hng]
                        exact congrArg (Prod.mk _) (by omega))
                     | (refine ih _ (show (wS w - (k + 1)).toNat < mm by omega) (k + 1) b m _ _ (by omega) (by omega) hsb ?_ rfl
                        rw [foI_s _ _ hk0, ← es, if_pos (show wCb w k v ≤ m by omega)]))
                | (have h : sT (w 0) (w 1) k = v := c_57
                   have hcb : wCb w k v = wSl w k * w (28 + k) := by
                     unfold wCb
                     rw [if_pos h, wTh_sl]
                   first
                     | (have h3 : m < wSl w k * w (28 + k) := by omega
                        refine ih _ (show (wS w - (k + 1)).toNat < mm by omega) (k + 1) (sF (w 0) (w 1) k) (wSl w k * w (28 + k)) _ _ (by omega) (by omega) (by omega) ?_ rfl
                        rw [foI_s _ _ hk0, ← es, if_neg (show ¬ wCb w k v ≤ m by omega), hcb]
                        exact congrArg (Prod.mk _) (by omega))
                     | (refine ih _ (show (wS w - (k + 1)).toNat < mm by omega) (k + 1) b m _ _ (by omega) (by omega) hsb ?_ rfl
                        rw [foI_s _ _ hk0, ← es, if_pos (show wCb w k v ≤ m by omega)]))
  refine r_iconst C dX0_feederOf_0 ?_
  refine r_istore_2 C dX0_feederOf_1 ?_
  refine r_lconst0 C dX0_feederOf_2 ?_
  refine r_lstore_3 C dX0_feederOf_3 ?_
  refine r_iconst C dX0_feederOf_4 ?_
  refine r_istore_5 C dX0_feederOf_5 ?_
  exact key _ 0 (-1) 0 _ _ (by omega) (by omega) (by simp) rfl rfl
theorem c_X0_feeder (hG : Gok g) {v i : Int} {w : Int → Int} (hv : inR v) (hi : inR i) (hW : NW w n_width n_from n_to n_load n_group n_budget n_columns n_rows n_limit n_wear n_straps n_pads n_lines) : XMet g yX0_feeder cX0_feeder 5 (some .int) (6) 0 0 [.ref (σ 0), .int (jI v), .int (jI i)] (wX g σ x_tape x_taped x_faultKind x_faultPlace x_bestStarved x_bestMost x_bestWhole x_draws x_left x_mosts x_widened x_drawn x_img n_width n_from n_to n_load n_group n_budget n_columns n_rows n_limit n_wear n_straps n_pads n_lines n_mod n_asz n_el i_width i_load i_pads i_reached i_place i_table i_drop i_size i_whole t_width t_load t_pads t_reached t_place t_table t_drop t_size t_whole ++ ex) (pI (fun z ww => z = spFeeder w v i ∧ PubX g σ ex x_tape x_taped x_faultKind x_faultPlace x_img n_width n_from n_to n_load n_group n_budget n_columns n_rows n_limit n_wear n_straps n_pads n_lines n_mod n_asz n_el ww)) := by
  refine XMet.of (L := [some (.ref (σ 0)), some (.int (jI v)), some (.int (jI i)), none, none]) hG (by decide +kernel) (Nat.le_of_ble_eq_true rfl) rfl (fun K C E => ?_)
  have hn := hW.wf.n
  have hi2 := hi.2
  refine r_aload_0 C dX0_feeder_0 ?_
  refine r_iload_1 C dX0_feeder_1 ?_
  refine r_cV1i C (c_X0_isNode hG (by assumption) hW.c hW.r hn) (q0 := 0) rfl rfl q764 pkX0_isNode dX0_feeder_2 (fun z w h => ?_)
  obtain ⟨rfl, rfl⟩ := h
  refine r_ifeqB (tgt := 12) C dX0_feeder_5 (by decide) (fun c_5 => ?_) (fun c_5 => ?_)
  · skip
    refine r_bipush C dX0_feeder_12 ?_
    refine r_ireturn C E dX0_feeder_14 ?_
    refine ⟨_, rfl, ?_, PubX.mk⟩
    unfold spFeeder
    first
      | rw [if_neg (by intro h; exact c_5 h.1)]
      | rw [if_neg (by intro h; omega)]
  · skip
    refine r_iload_2 C dX0_feeder_8 ?_
    refine r_ifge (tgt := 15) C dX0_feeder_9 (by decide) (fun c_9 => ?_) (fun c_9 => ?_)
    · skip
      have hd := hW.wf.gdb c_5
      have hvv := isNb_in c_5
      have hp5 := hd.p5
      refine r_aload_0 C dX0_feeder_15 ?_
      refine r_cV0a C (c_X0_solved hG hd hW) (q0 := 0) rfl rfl q700 pkX0_solved dX0_feeder_16 (fun z w h => ?_)
      obtain ⟨rfl, sw, sl, pl, tb, dr, hX, hS, rfl⟩ := h
      refine r_pop C dX0_feeder_19 ?_
      skip
      have key : ∀ (mm : Nat), ∀ (k u : Int), (0 ≤ k) → (k ≤ i) → (u = -1 ∨ (0 ≤ u ∧ u < wN w)) → (u = wFe w v k) → (i - k).toNat = mm → AW g K (wX g σ x_tape x_taped x_faultKind x_faultPlace x_bestStarved x_bestMost x_bestWhole x_draws x_left x_mosts x_widened x_drawn x_img n_width n_from n_to n_load n_group n_budget n_columns n_rows n_limit n_wear n_straps n_pads n_lines n_mod n_asz n_el (sw) (sl) (n_pads) (wR w) (pl) (tb) (dr) (wm w) (wWh w) t_width t_load t_pads t_reached t_place t_table t_drop t_size t_whole ++ ex) 0 0 25 [some (.ref (σ 0)), some (.int (jI v)), some (.int (jI i)), some (.int (jI u)), some (.int (jI k))] [] := by
        intro mm
        induction mm using Nat.strongRecOn with
        | _ mm ih =>
        intro k u hk0 hk hu eu hm
        refine r_iload_4 C dX0_feeder_25 ?_
        refine r_iload_2 C dX0_feeder_27 ?_
        refine r_if_icmpge (tgt := 66) C dX0_feeder_28 (by decide) (fun c_28 => ?_) (fun c_28 => ?_)
        · skip
          refine r_iload_3 C dX0_feeder_66 ?_
          refine r_ireturn C E dX0_feeder_67 ?_
          refine ⟨_, rfl, ?_, PubX.mk⟩
          unfold spFeeder
          rw [if_pos ⟨c_5, by omega⟩]
          first
            | (have e : k = i := by omega
               rw [← e]; exact eu)
            | (rw [c_33, wFe_stuck (by rw [← eu]; exact c_33) hk0 hk])
        · skip
          refine r_iload_3 C dX0_feeder_31 ?_
          refine r_iconst C dX0_feeder_32 ?_
          refine r_if_icmpeq (tgt := 66) C dX0_feeder_33 (by decide) (fun c_33 => ?_) (fun c_33 => ?_) (by unfold inR; omega)
          · skip
            refine r_iload_3 C dX0_feeder_66 ?_
            refine r_ireturn C E dX0_feeder_67 ?_
            refine ⟨_, rfl, ?_, PubX.mk⟩
            unfold spFeeder
            rw [if_pos ⟨c_5, by omega⟩]
            first
              | (have e : k = i := by omega
                 rw [← e]; exact eu)
              | (rw [c_33, wFe_stuck (by rw [← eu]; exact c_33) hk0 hk])
          · skip
            have hu2 : 0 ≤ u ∧ u < wN w := by omega
            have hf := wFd_in hd hu2.1 hu2.2
            refine r_aload_0 C dX0_feeder_36 ?_
            refine gG_now C q346 dX0_feeder_37 ?_
            refine gTN_pads C q244 dX0_feeder_40 ?_
            refine r_topi (w 5) hW.pd ?_
            refine r_iload_3 C dX0_feeder_43 ?_
            refine r_cS2i C (c_X0_isOn hG (by omega) (by omega)) q778 pkX0_isOn dX0_feeder_44 (fun z w h => ?_)
            obtain ⟨rfl, rfl⟩ := h
            refine r_ifeqB (tgt := 54) C dX0_feeder_47 (by decide) (fun c_47 => ?_) (fun c_47 => ?_)
            · skip
              refine r_aload_0 C dX0_feeder_54 ?_
              refine r_iload_3 C dX0_feeder_55 ?_
              refine r_cV1i C (c_X0_feederOf hG hd hW hX rfl hS.2.2.2.2.1 hu2) (q0 := 0) rfl rfl q942 pkX0_feederOf dX0_feeder_56 (fun z w h => ?_)
              obtain ⟨rfl, rfl⟩ := h
              refine r_istore_3 C dX0_feeder_59 ?_
              refine r_iinc_4 C dX0_feeder_60 ?_
              refine r_goto (tgt := 25) C dX0_feeder_63 (by decide) ?_
              first
                | (have h : bsB (w 5) u = true := c_47
                   refine ih _ (show (i - (k + 1)).toNat < mm by omega) (k + 1) (-1) (by omega) (by omega) (Or.inl rfl) ?_ rfl
                   unfold wFe at eu ⊢
                   rw [foI_s _ _ hk0, ← eu, if_neg c_33, wFd_fo, if_pos h])
                | (rw [wFd_fo, if_neg c_47] at hf
                   refine ih _ (show (i - (k + 1)).toNat < mm by omega) (k + 1) _ (by omega) (by omega) hf ?_ rfl
                   unfold wFe at eu ⊢
                   rw [foI_s _ _ hk0, ← eu, if_neg c_33, wFd_fo, if_neg c_47])
            · skip
              refine r_iconst C dX0_feeder_50 ?_
              refine r_goto (tgt := 59) C dX0_feeder_51 (by decide) ?_
              refine r_istore_3 C dX0_feeder_59 ?_
              refine r_iinc_4 C dX0_feeder_60 ?_
              refine r_goto (tgt := 25) C dX0_feeder_63 (by decide) ?_
              first
                | (have h : bsB (w 5) u = true := c_47
                   refine ih _ (show (i - (k + 1)).toNat < mm by omega) (k + 1) (-1) (by omega) (by omega) (Or.inl rfl) ?_ rfl
                   unfold wFe at eu ⊢
                   rw [foI_s _ _ hk0, ← eu, if_neg c_33, wFd_fo, if_pos h])
                | (rw [wFd_fo, if_neg c_47] at hf
                   refine ih _ (show (i - (k + 1)).toNat < mm by omega) (k + 1) _ (by omega) (by omega) hf ?_ rfl
                   unfold wFe at eu ⊢
                   rw [foI_s _ _ hk0, ← eu, if_neg c_33, wFd_fo, if_neg c_47])
      refine r_iload_1 C dX0_feeder_20 ?_
      refine r_istore_3 C dX0_feeder_21 ?_
      refine r_iconst C dX0_feeder_22 ?_
      refine r_istore_4 C dX0_feeder_23 ?_
      exact key _ 0 v (by omega) (by omega) (Or.inr hvv) rfl rfl
    · skip
      refine r_bipush C dX0_feeder_12 ?_
      refine r_ireturn C E dX0_feeder_14 ?_
      refine ⟨_, rfl, ?_, PubX.mk⟩
      unfold spFeeder
      first
        | rw [if_neg (by intro h; exact c_5 h.1)]
        | rw [if_neg (by intro h; omega)]
theorem c_X0_reached (hG : Gok g) {v : Int} {w : Int → Int} (hv : inR v) (hW : NW w n_width n_from n_to n_load n_group n_budget n_columns n_rows n_limit n_wear n_straps n_pads n_lines) : XMet g yX0_reached cX0_reached 2 (some .int) (5) 0 0 [.ref (σ 0), .int (jI v)] (wX g σ x_tape x_taped x_faultKind x_faultPlace x_bestStarved x_bestMost x_bestWhole x_draws x_left x_mosts x_widened x_drawn x_img n_width n_from n_to n_load n_group n_budget n_columns n_rows n_limit n_wear n_straps n_pads n_lines n_mod n_asz n_el i_width i_load i_pads i_reached i_place i_table i_drop i_size i_whole t_width t_load t_pads t_reached t_place t_table t_drop t_size t_whole ++ ex) (pI (fun z ww => z = spReached w v ∧ PubX g σ ex x_tape x_taped x_faultKind x_faultPlace x_img n_width n_from n_to n_load n_group n_budget n_columns n_rows n_limit n_wear n_straps n_pads n_lines n_mod n_asz n_el ww)) := by
  refine XMet.of (L := [some (.ref (σ 0)), some (.int (jI v))]) hG (by decide +kernel) (Nat.le_of_ble_eq_true rfl) rfl (fun K C E => ?_)
  have hn := hW.wf.n
  refine r_aload_0 C dX0_reached_0 ?_
  refine r_iload_1 C dX0_reached_1 ?_
  refine r_cV1i C (c_X0_isNode hG (by assumption) hW.c hW.r hn) (q0 := 0) rfl rfl q764 pkX0_isNode dX0_reached_2 (fun z w h => ?_)
  obtain ⟨rfl, rfl⟩ := h
  refine r_ifeqB (tgt := 21) C dX0_reached_5 (by decide) (fun c_5 => ?_) (fun c_5 => ?_)
  · skip
    refine r_bipush C dX0_reached_21 ?_
    refine r_ireturn C E dX0_reached_23 ?_
    refine ⟨_, rfl, ?_, PubX.mk⟩
    unfold spReached
    first
      | rw [if_neg c_5]
      | (rw [if_pos c_5]; exact rch_cong (fun k h0 h1 => hX.1 k h0 (by unfold wS at h12; omega)))
  · skip
    have hd := hW.wf.gdb c_5
    have hvv := isNb_in c_5
    have hP := bsP_9 hvv.1 (show v < 9 by omega)
    have h12 := hd.s
    refine r_aload_0 C dX0_reached_8 ?_
    refine r_cV0a C (c_X0_solved hG hd hW) (q0 := 0) rfl rfl q700 pkX0_solved dX0_reached_9 (fun z w h => ?_)
    obtain ⟨rfl, sw, sl, pl, tb, dr, hX, hS, rfl⟩ := h
    refine r_iconst C dX0_reached_12 ?_
    refine r_iload_1 C dX0_reached_13 ?_
    refine r_ishl C (_) dX0_reached_14 (jI_shl (by omega) (by omega)) ?_
    refine r_cU1i C (c_X3_reach_I hG hd.g (hW.s hd) (hW.en hd.l.1) (fun k h0 h1 => by rw [hX.1 k h0 h1]; exact hd.wd k h0 h1) (Int.le_of_lt bsP_0) hP) (q0 := 16) rfl rfl q885 pkU_X3_reach dX0_reached_15 (fun z w h => ?_)
    obtain ⟨rfl, rfl⟩ := h
    refine r_goto (tgt := 23) C dX0_reached_18 (by decide) ?_
    refine r_ireturn C E dX0_reached_23 ?_
    refine ⟨_, rfl, ?_, PubX.mk⟩
    unfold spReached
    first
      | rw [if_neg c_5]
      | (rw [if_pos c_5]; exact rch_cong (fun k h0 h1 => hX.1 k h0 (by unfold wS at h12; omega)))
end X6

