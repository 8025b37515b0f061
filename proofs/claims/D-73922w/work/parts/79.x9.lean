section X9
variable {g : GX} {σ : Nat → Nat} {ex : va_W}
variable {x_tape : Int → Int} {x_taped : Int} {x_faultKind : Int} {x_faultPlace : Int} {x_bestStarved : Int} {x_bestMost : Int} {x_bestWhole : Int} {x_draws : Int → Int} {x_left : Int → Int} {x_mosts : Int → Int} {x_widened : Int → Int} {x_drawn : Int} {x_img : Nat → Option Nat} {n_width : Int → Int} {n_from : Int → Int} {n_to : Int → Int} {n_load : Int → Int} {n_group : Int → Int} {n_budget : Int → Int} {n_columns : Int} {n_rows : Int} {n_limit : Int} {n_wear : Int} {n_straps : Int} {n_pads : Int} {n_lines : Int} {n_mod : Int} {n_asz : Int} {n_el : Nat → Option Nat} {i_width : Int → Int} {i_load : Int → Int} {i_pads : Int} {i_reached : Int} {i_place : Int → Int} {i_table : Int → Int} {i_drop : Int → Int} {i_size : Int} {i_whole : Int} {t_width : Int → Int} {t_load : Int → Int} {t_pads : Int} {t_reached : Int} {t_place : Int → Int} {t_table : Int → Int} {t_drop : Int → Int} {t_size : Int} {t_whole : Int}
theorem c_X0_widensAll (hG : Gok g) {w : Int → Int} (hd : Gd w) (hW : NW w n_width n_from n_to n_load n_group n_budget n_columns n_rows n_limit n_wear n_straps n_pads n_lines) : XMet g yX0_widensAll cX0_widensAll 3 (some .int) (73) 0 0 [.ref (σ 0)] (wX g σ x_tape x_taped x_faultKind x_faultPlace x_bestStarved x_bestMost x_bestWhole x_draws x_left x_mosts x_widened x_drawn x_img n_width n_from n_to n_load n_group n_budget n_columns n_rows n_limit n_wear n_straps n_pads n_lines n_mod n_asz n_el i_width i_load i_pads i_reached i_place i_table i_drop i_size i_whole t_width t_load t_pads t_reached t_place t_table t_drop t_size t_whole ++ ex) (pI (fun z ww => ∃ (c bs bm bw : Int) (wi sw sl : Int → Int) (sp : Int) (pl tb dr : Int → Int), z = c ∧ WdC w c ∧ (∀ t, 0 ≤ t → t < c → wi t = wdK (wdA w t.toNat)) ∧ TS (wdA w c.toNat) sw sl sp (wR (wdA w c.toNat)) pl tb dr (wm (wdA w c.toNat)) (wWh (wdA w c.toNat)) ∧ ww = (wX g σ x_tape x_taped x_faultKind x_faultPlace (bs) (bm) (bw) x_draws x_left x_mosts (wi) x_drawn x_img n_width n_from n_to n_load n_group n_budget n_columns n_rows n_limit n_wear n_straps n_pads n_lines n_mod n_asz n_el i_width i_load i_pads i_reached i_place i_table i_drop i_size i_whole (sw) (sl) (sp) (wR (wdA w c.toNat)) (pl) (tb) (dr) (wm (wdA w c.toNat)) (wWh (wdA w c.toNat)) ++ ex))) := by
  refine XMet.of (L := [some (.ref (σ 0)), none, none]) hG (by decide +kernel) (Nat.le_of_ble_eq_true rfl) rfl (fun K C E => ?_)
  have key : ∀ (mm : Nat), ∀ (c mo bs bm bw : Int) (wi sw sl : Int → Int) (sp : Int) (pl tb dr : Int → Int), (0 ≤ c) → (c ≤ 20) → (mo = 1 ∨ (mo = 0 ∧ wdK (wdA w c.toNat) = -1)) → (∀ t, 0 ≤ t → t < c → wdK (wdA w t.toNat) ≠ -1) → (∀ t, 0 ≤ t → t < c → wi t = wdK (wdA w t.toNat)) → (TS (wdA w c.toNat) sw sl sp (wR (wdA w c.toNat)) pl tb dr (wm (wdA w c.toNat)) (wWh (wdA w c.toNat))) → (2 * (20 - c) + mo).toNat = mm → AW g K (wX g σ x_tape x_taped x_faultKind x_faultPlace (bs) (bm) (bw) x_draws x_left x_mosts (wi) x_drawn x_img n_width n_from n_to n_load n_group n_budget n_columns n_rows n_limit n_wear n_straps n_pads n_lines n_mod n_asz n_el i_width i_load i_pads i_reached i_place i_table i_drop i_size i_whole (sw) (sl) (sp) (wR (wdA w c.toNat)) (pl) (tb) (dr) (wm (wdA w c.toNat)) (wWh (wdA w c.toNat)) ++ ex) 0 0 19 [some (.ref (σ 0)), some (.int (jI c)), some (.int (jI mo))] [] := by
    intro mm
    induction mm using Nat.strongRecOn with
    | _ mm ih =>
    intro c mo bs bm bw wi sw sl sp pl tb dr hc0 hc hmo hj hwi hT hm
    obtain ⟨hdc, hag, hsc⟩ := wdA_gd hd c.toNat
    have hNc := (hW.nb hd).of (wdA_lo (w := w) c.toNat)
    have hin := wNw_in hdc
    have hs := hdc.s
    refine r_iload_2 C dX0_widensAll_19 ?_
    refine r_ifeq (tgt := 80) C dX0_widensAll_20 (by decide) (fun c_20 => ?_) (fun c_20 => ?_)
    · skip
      refine r_iload_1 C dX0_widensAll_80 ?_
      refine r_ireturn C E dX0_widensAll_81 ?_
      refine ⟨_, rfl, c, _, _, _, wi, _, _, _, _, _, _, rfl, ⟨⟨hc0, hc⟩, hj, ?_⟩, hwi, hT, rfl⟩
      first
        | (left; omega)
        | (right; unfold wdK; rw [if_pos c_36]; done)
        | (right; omega)
    · skip
      refine r_iload_1 C dX0_widensAll_23 ?_
      refine r_bipush C dX0_widensAll_24 ?_
      refine r_if_icmpge (tgt := 80) C dX0_widensAll_26 (by decide) (fun c_26 => ?_) (fun c_26 => ?_)
      · skip
        refine r_iload_1 C dX0_widensAll_80 ?_
        refine r_ireturn C E dX0_widensAll_81 ?_
        refine ⟨_, rfl, c, _, _, _, wi, _, _, _, _, _, _, rfl, ⟨⟨hc0, hc⟩, hj, ?_⟩, hwi, hT, rfl⟩
        first
          | (left; omega)
          | (right; unfold wdK; rw [if_pos c_36]; done)
          | (right; omega)
      · skip
        refine r_aload_0 C dX0_widensAll_29 ?_
        refine gG_tried C q353 dX0_widensAll_30 ?_
        refine r_cV0i C (c_X4_holds_Y hG hdc hNc rfl hT.1.2.1 rfl hT.2.2.2.2.2.1) (q0 := 31) rfl rfl q863 pkX4_holds dX0_widensAll_33 (fun z w h => ?_)
        obtain ⟨rfl, rfl⟩ := h
        refine r_ifneB (tgt := 80) C dX0_widensAll_36 (by decide) (fun c_36 => ?_) (fun c_36 => ?_)
        · skip
          refine r_iload_1 C dX0_widensAll_80 ?_
          refine r_ireturn C E dX0_widensAll_81 ?_
          refine ⟨_, rfl, c, _, _, _, wi, _, _, _, _, _, _, rfl, ⟨⟨hc0, hc⟩, hj, ?_⟩, hwi, hT, rfl⟩
          first
            | (left; omega)
            | (right; unfold wdK; rw [if_pos c_36]; done)
            | (right; omega)
        · skip
          have hK : wdK (wdA w c.toNat) = (wNw (wdA w c.toNat)).1 := by unfold wdK; rw [if_neg c_36]
          refine r_aload_0 C dX0_widensAll_39 ?_
          refine gG_widened C q360 dX0_widensAll_40 ?_
          refine r_iload_1 C dX0_widensAll_43 ?_
          refine r_aload_0 C dX0_widensAll_44 ?_
          refine r_cV0i C (c_X0_bestWider hG hdc hNc hT) (q0 := 0) rfl rfl q1046 pkX0_bestWider dX0_widensAll_45 (fun z w h => ?_)
          obtain ⟨rfl, bs, bm, bw, sw, sl, sp, pl, tb, dr, hT2, rfl⟩ := h
          refine st_x_widened C dX0_widensAll_48 ?_
          refine r_aload_0 C dX0_widensAll_49 ?_
          refine gG_widened C q360 dX0_widensAll_50 ?_
          refine r_iload_1 C dX0_widensAll_53 ?_
          refine ld_x_widened C dX0_widensAll_54 ?_
          refine r_topi (wNw (wdA w c.toNat)).1 (aset_at _ _ _) ?_
          refine r_iconst C dX0_widensAll_55 ?_
          refine r_if_icmpeq (tgt := 63) C dX0_widensAll_56 (by decide) (fun c_56 => ?_) (fun c_56 => ?_) (by unfold inR; omega)
          · skip
            refine r_iconst C dX0_widensAll_63 ?_
            refine r_istore_2 C dX0_widensAll_64 ?_
            refine r_iload_1 C dX0_widensAll_65 ?_
            refine r_iload_2 C dX0_widensAll_66 ?_
            refine r_ifeq (tgt := 74) C dX0_widensAll_67 (by decide) (fun c_67 => ?_) (fun c_67 => ?_)
            · skip
              refine r_iconst C dX0_widensAll_74 ?_
              refine r_iadd C dX0_widensAll_75 ?_
              first
                | refine r_topi c (Int.add_zero c) ?_
                | skip
              refine r_istore_1 C dX0_widensAll_76 ?_
              refine r_goto (tgt := 19) C dX0_widensAll_77 (by decide) ?_
              first
                | (have h : (wNw (wdA w c.toNat)).1 = -1 := c_56
                   rw [if_pos h] at hT2 ⊢
                   refine ih _ (show (2 * (20 - c) + 0).toNat < mm by omega) c 0 _ _ _ _ _ _ _ _ _ _ (by omega) (by omega) (Or.inr ⟨rfl, by rw [hK]; exact h⟩) hj (fun t a b => ?_) hT2 rfl
                   rw [aset_ne (by omega)]
                   exact hwi t a b)
                | (have hne : wdK (wdA w c.toNat) ≠ -1 := by rw [hK]; exact c_56
                   have ea : wdA w (c + 1).toNat = aset (wdA w c.toNat) (28 + (wNw (wdA w c.toNat)).1) (wdA w c.toNat (28 + (wNw (wdA w c.toNat)).1) + 1) := by
                     rw [show (c + 1).toNat = c.toNat + 1 by omega, wdA_s hne, hK]
                   rw [if_neg c_56, ← ea] at hT2
                   rw [if_neg c_56, ← ea]
                   refine ih _ (show (2 * (20 - (c + 1)) + 1).toNat < mm by omega) (c + 1) 1 _ _ _ _ _ _ _ _ _ _ (by omega) (by omega) (Or.inl rfl) (fun t a b => ?_) (fun t a b => ?_) hT2 rfl
                   · by_cases et : t = c
                     · rw [et]; exact hne
                     · exact hj t a (by omega)
                   · by_cases et : t = c
                     · rw [et, aset_at, hK]
                     · rw [aset_ne et]; exact hwi t a (by omega))
                | (exfalso; omega)
            · skip
              refine r_iconst C dX0_widensAll_70 ?_
              refine r_goto (tgt := 75) C dX0_widensAll_71 (by decide) ?_
              refine r_iadd C dX0_widensAll_75 ?_
              first
                | refine r_topi c (Int.add_zero c) ?_
                | skip
              refine r_istore_1 C dX0_widensAll_76 ?_
              refine r_goto (tgt := 19) C dX0_widensAll_77 (by decide) ?_
              first
                | (have h : (wNw (wdA w c.toNat)).1 = -1 := c_56
                   rw [if_pos h] at hT2 ⊢
                   refine ih _ (show (2 * (20 - c) + 0).toNat < mm by omega) c 0 _ _ _ _ _ _ _ _ _ _ (by omega) (by omega) (Or.inr ⟨rfl, by rw [hK]; exact h⟩) hj (fun t a b => ?_) hT2 rfl
                   rw [aset_ne (by omega)]
                   exact hwi t a b)
                | (have hne : wdK (wdA w c.toNat) ≠ -1 := by rw [hK]; exact c_56
                   have ea : wdA w (c + 1).toNat = aset (wdA w c.toNat) (28 + (wNw (wdA w c.toNat)).1) (wdA w c.toNat (28 + (wNw (wdA w c.toNat)).1) + 1) := by
                     rw [show (c + 1).toNat = c.toNat + 1 by omega, wdA_s hne, hK]
                   rw [if_neg c_56, ← ea] at hT2
                   rw [if_neg c_56, ← ea]
                   refine ih _ (show (2 * (20 - (c + 1)) + 1).toNat < mm by omega) (c + 1) 1 _ _ _ _ _ _ _ _ _ _ (by omega) (by omega) (Or.inl rfl) (fun t a b => ?_) (fun t a b => ?_) hT2 rfl
                   · by_cases et : t = c
                     · rw [et]; exact hne
                     · exact hj t a (by omega)
                   · by_cases et : t = c
                     · rw [et, aset_at, hK]
                     · rw [aset_ne et]; exact hwi t a (by omega))
                | (exfalso; omega)
          · skip
            refine r_iconst C dX0_widensAll_59 ?_
            refine r_goto (tgt := 64) C dX0_widensAll_60 (by decide) ?_
            refine r_istore_2 C dX0_widensAll_64 ?_
            refine r_iload_1 C dX0_widensAll_65 ?_
            refine r_iload_2 C dX0_widensAll_66 ?_
            refine r_ifeq (tgt := 74) C dX0_widensAll_67 (by decide) (fun c_67 => ?_) (fun c_67 => ?_)
            · skip
              refine r_iconst C dX0_widensAll_74 ?_
              refine r_iadd C dX0_widensAll_75 ?_
              first
                | refine r_topi c (Int.add_zero c) ?_
                | skip
              refine r_istore_1 C dX0_widensAll_76 ?_
              refine r_goto (tgt := 19) C dX0_widensAll_77 (by decide) ?_
              first
                | (have h : (wNw (wdA w c.toNat)).1 = -1 := c_56
                   rw [if_pos h] at hT2 ⊢
                   refine ih _ (show (2 * (20 - c) + 0).toNat < mm by omega) c 0 _ _ _ _ _ _ _ _ _ _ (by omega) (by omega) (Or.inr ⟨rfl, by rw [hK]; exact h⟩) hj (fun t a b => ?_) hT2 rfl
                   rw [aset_ne (by omega)]
                   exact hwi t a b)
                | (have hne : wdK (wdA w c.toNat) ≠ -1 := by rw [hK]; exact c_56
                   have ea : wdA w (c + 1).toNat = aset (wdA w c.toNat) (28 + (wNw (wdA w c.toNat)).1) (wdA w c.toNat (28 + (wNw (wdA w c.toNat)).1) + 1) := by
                     rw [show (c + 1).toNat = c.toNat + 1 by omega, wdA_s hne, hK]
                   rw [if_neg c_56, ← ea] at hT2
                   rw [if_neg c_56, ← ea]
                   refine ih _ (show (2 * (20 - (c + 1)) + 1).toNat < mm by omega) (c + 1) 1 _ _ _ _ _ _ _ _ _ _ (by omega) (by omega) (Or.inl rfl) (fun t a b => ?_) (fun t a b => ?_) hT2 rfl
                   · by_cases et : t = c
                     · rw [et]; exact hne
                     · exact hj t a (by omega)
                   · by_cases et : t = c
                     · rw [et, aset_at, hK]
                     · rw [aset_ne et]; exact hwi t a (by omega))
                | (exfalso; omega)
            · skip
              refine r_iconst C dX0_widensAll_70 ?_
              refine r_goto (tgt := 75) C dX0_widensAll_71 (by decide) ?_
              refine r_iadd C dX0_widensAll_75 ?_
              first
                | refine r_topi c (Int.add_zero c) ?_
                | skip
              refine r_istore_1 C dX0_widensAll_76 ?_
              refine r_goto (tgt := 19) C dX0_widensAll_77 (by decide) ?_
              first
                | (have h : (wNw (wdA w c.toNat)).1 = -1 := c_56
                   rw [if_pos h] at hT2 ⊢
                   refine ih _ (show (2 * (20 - c) + 0).toNat < mm by omega) c 0 _ _ _ _ _ _ _ _ _ _ (by omega) (by omega) (Or.inr ⟨rfl, by rw [hK]; exact h⟩) hj (fun t a b => ?_) hT2 rfl
                   rw [aset_ne (by omega)]
                   exact hwi t a b)
                | (have hne : wdK (wdA w c.toNat) ≠ -1 := by rw [hK]; exact c_56
                   have ea : wdA w (c + 1).toNat = aset (wdA w c.toNat) (28 + (wNw (wdA w c.toNat)).1) (wdA w c.toNat (28 + (wNw (wdA w c.toNat)).1) + 1) := by
                     rw [show (c + 1).toNat = c.toNat + 1 by omega, wdA_s hne, hK]
                   rw [if_neg c_56, ← ea] at hT2
                   rw [if_neg c_56, ← ea]
                   refine ih _ (show (2 * (20 - (c + 1)) + 1).toNat < mm by omega) (c + 1) 1 _ _ _ _ _ _ _ _ _ _ (by omega) (by omega) (Or.inl rfl) (fun t a b => ?_) (fun t a b => ?_) hT2 rfl
                   · by_cases et : t = c
                     · rw [et]; exact hne
                     · exact hj t a (by omega)
                   · by_cases et : t = c
                     · rw [et, aset_at, hK]
                     · rw [aset_ne et]; exact hwi t a (by omega))
                | (exfalso; omega)
  refine r_aload_0 C dX0_widensAll_0 ?_
  refine gG_tried C q353 dX0_widensAll_1 ?_
  refine r_cU0v C (c_X3_takes_Y hG) (q0 := 31) rfl rfl q704 pkU_X3_takes dX0_widensAll_4 (fun w h => ?_)
  subst h
  refine r_aload_0 C dX0_widensAll_7 ?_
  refine gG_tried C q353 dX0_widensAll_8 ?_
  refine r_cV0a C (c_X4_solves_Y hG hd (hW.nb hd) hW.sx) (q0 := 31) rfl rfl q713 pkX4_solves dX0_widensAll_11 (fun z w h => ?_)
  obtain ⟨rfl, pl, tb, dr, hS, rfl⟩ := h
  refine r_pop C dX0_widensAll_14 ?_
  refine r_iconst C dX0_widensAll_15 ?_
  refine r_istore_1 C dX0_widensAll_16 ?_
  refine r_iconst C dX0_widensAll_17 ?_
  refine r_istore_2 C dX0_widensAll_18 ?_
  exact key _ 0 1 _ _ _ _ _ _ _ _ _ _ (by omega) (by omega) (Or.inl rfl) (fun t _ _ => by omega) (fun t _ _ => by omega) ⟨hW.sx, hS⟩ rfl
theorem c_X0_widens (hG : Gok g) {w : Int → Int} (hW : NW w n_width n_from n_to n_load n_group n_budget n_columns n_rows n_limit n_wear n_straps n_pads n_lines) : XMet g yX0_widens cX0_widens 1 (some .int) (74) 0 0 [.ref (σ 0)] (wX g σ x_tape x_taped x_faultKind x_faultPlace x_bestStarved x_bestMost x_bestWhole x_draws x_left x_mosts x_widened x_drawn x_img n_width n_from n_to n_load n_group n_budget n_columns n_rows n_limit n_wear n_straps n_pads n_lines n_mod n_asz n_el i_width i_load i_pads i_reached i_place i_table i_drop i_size i_whole t_width t_load t_pads t_reached t_place t_table t_drop t_size t_whole ++ ex) (pI (fun z ww => z = spWidens w ∧ PubX g σ ex x_tape x_taped x_faultKind x_faultPlace x_img n_width n_from n_to n_load n_group n_budget n_columns n_rows n_limit n_wear n_straps n_pads n_lines n_mod n_asz n_el ww)) := by
  refine XMet.of (L := [some (.ref (σ 0))]) hG (by decide +kernel) (Nat.le_of_ble_eq_true rfl) rfl (fun K C E => ?_)
  refine r_aload_0 C dX0_widens_0 ?_
  refine gG_now C q346 dX0_widens_1 ?_
  refine r_cV0i C (c_X1_is hG hW.inR4) (q0 := 7) rfl rfl q696 pkX1_is dX0_widens_4 (fun z w h => ?_)
  obtain ⟨rfl, rfl⟩ := h
  refine r_ifeqB (tgt := 17) C dX0_widens_7 (by decide) (fun c_7 => ?_) (fun c_7 => ?_)
  · skip
    refine r_bipush C dX0_widens_17 ?_
    refine r_ireturn C E dX0_widens_19 ?_
    refine ⟨_, rfl, ?_, PubX.mk⟩
    unfold spWidens
    first
      | rw [if_pos c_7, hc.eq]
      | (rw [hW.ln] at c_7; rw [if_neg c_7])
  · skip
    rw [hW.ln] at c_7
    have hd := hW.wf.gd4 c_7
    refine r_aload_0 C dX0_widens_10 ?_
    refine r_cV0i C (c_X0_widensAll hG hd hW) (q0 := 0) rfl rfl q1042 pkX0_widensAll dX0_widens_11 (fun z w h => ?_)
    obtain ⟨c, bs, bm, bw, wi, sw, sl, sp, pl, tb, dr, rfl, hc, hwi, hT, rfl⟩ := h
    refine r_goto (tgt := 19) C dX0_widens_14 (by decide) ?_
    refine r_ireturn C E dX0_widens_19 ?_
    refine ⟨_, rfl, ?_, PubX.mk⟩
    unfold spWidens
    first
      | rw [if_pos c_7, hc.eq]
      | (rw [hW.ln] at c_7; rw [if_neg c_7])
theorem c_X0_widen (hG : Gok g) {i : Int} {w : Int → Int} (hi : inR i) (hW : NW w n_width n_from n_to n_load n_group n_budget n_columns n_rows n_limit n_wear n_straps n_pads n_lines) : XMet g yX0_widen cX0_widen 2 (some .int) (74) 0 0 [.ref (σ 0), .int (jI i)] (wX g σ x_tape x_taped x_faultKind x_faultPlace x_bestStarved x_bestMost x_bestWhole x_draws x_left x_mosts x_widened x_drawn x_img n_width n_from n_to n_load n_group n_budget n_columns n_rows n_limit n_wear n_straps n_pads n_lines n_mod n_asz n_el i_width i_load i_pads i_reached i_place i_table i_drop i_size i_whole t_width t_load t_pads t_reached t_place t_table t_drop t_size t_whole ++ ex) (pI (fun z ww => z = spWiden w i ∧ PubX g σ ex x_tape x_taped x_faultKind x_faultPlace x_img n_width n_from n_to n_load n_group n_budget n_columns n_rows n_limit n_wear n_straps n_pads n_lines n_mod n_asz n_el ww)) := by
  refine XMet.of (L := [some (.ref (σ 0)), some (.int (jI i))]) hG (by decide +kernel) (Nat.le_of_ble_eq_true rfl) rfl (fun K C E => ?_)
  refine r_aload_0 C dX0_widen_0 ?_
  refine gG_now C q346 dX0_widen_1 ?_
  refine r_cV0i C (c_X1_is hG hW.inR4) (q0 := 7) rfl rfl q696 pkX1_is dX0_widen_4 (fun z w h => ?_)
  obtain ⟨rfl, rfl⟩ := h
  refine r_ifeqB (tgt := 14) C dX0_widen_7 (by decide) (fun c_7 => ?_) (fun c_7 => ?_)
  · skip
    refine r_bipush C dX0_widen_14 ?_
    refine r_ireturn C E dX0_widen_16 ?_
    rw [hW.ln] at c_7
    refine ⟨_, rfl, ?_, PubX.mk⟩
    unfold spWiden
    first
      | rw [if_neg (by intro q; exact c_7 q.1)]
      | rw [if_neg (by omega)]
  · skip
    refine r_iload_1 C dX0_widen_10 ?_
    refine r_ifge (tgt := 17) C dX0_widen_11 (by decide) (fun c_11 => ?_) (fun c_11 => ?_)
    · skip
      rw [hW.ln] at c_7
      have hd := hW.wf.gd4 c_7
      refine r_iload_1 C dX0_widen_17 ?_
      refine r_aload_0 C dX0_widen_18 ?_
      refine r_cV0i C (c_X0_widensAll hG hd hW) (q0 := 0) rfl rfl q1042 pkX0_widensAll dX0_widen_19 (fun z w h => ?_)
      obtain ⟨c, bs, bm, bw, wi, sw, sl, sp, pl, tb, dr, rfl, hc, hwi, hT, rfl⟩ := h
      have hc1 := hc.1
      refine r_if_icmpge (tgt := 34) C dX0_widen_22 (by decide) (fun c_22 => ?_) (fun c_22 => ?_)
      · skip
        refine r_iconst C dX0_widen_34 ?_
        refine r_ireturn C E dX0_widen_35 ?_
        refine ⟨_, rfl, ?_, PubX.mk⟩
        unfold spWiden
        rw [if_pos (And.intro c_7 (by omega)), hc.eq]
        first
          | rw [if_pos c_22, hwi i (by omega) c_22]
          | rw [if_neg (by omega)]
      · skip
        refine r_aload_0 C dX0_widen_25 ?_
        refine gG_widened C q360 dX0_widen_26 ?_
        refine r_iload_1 C dX0_widen_29 ?_
        refine ld_x_widened C dX0_widen_30 ?_
        refine r_goto (tgt := 35) C dX0_widen_31 (by decide) ?_
        refine r_ireturn C E dX0_widen_35 ?_
        refine ⟨_, rfl, ?_, PubX.mk⟩
        unfold spWiden
        rw [if_pos (And.intro c_7 (by omega)), hc.eq]
        first
          | rw [if_pos c_22, hwi i (by omega) c_22]
          | rw [if_neg (by omega)]
    · skip
      refine r_bipush C dX0_widen_14 ?_
      refine r_ireturn C E dX0_widen_16 ?_
      rw [hW.ln] at c_7
      refine ⟨_, rfl, ?_, PubX.mk⟩
      unfold spWiden
      first
        | rw [if_neg (by intro q; exact c_7 q.1)]
        | rw [if_neg (by omega)]
theorem c_X0_wide (hG : Gok g) {w : Int → Int} (hW : NW w n_width n_from n_to n_load n_group n_budget n_columns n_rows n_limit n_wear n_straps n_pads n_lines) : XMet g yX0_wide cX0_wide 1 (some .int) (74) 0 0 [.ref (σ 0)] (wX g σ x_tape x_taped x_faultKind x_faultPlace x_bestStarved x_bestMost x_bestWhole x_draws x_left x_mosts x_widened x_drawn x_img n_width n_from n_to n_load n_group n_budget n_columns n_rows n_limit n_wear n_straps n_pads n_lines n_mod n_asz n_el i_width i_load i_pads i_reached i_place i_table i_drop i_size i_whole t_width t_load t_pads t_reached t_place t_table t_drop t_size t_whole ++ ex) (pI (fun z ww => z = spWide w ∧ PubX g σ ex x_tape x_taped x_faultKind x_faultPlace x_img n_width n_from n_to n_load n_group n_budget n_columns n_rows n_limit n_wear n_straps n_pads n_lines n_mod n_asz n_el ww)) := by
  refine XMet.of (L := [some (.ref (σ 0))]) hG (by decide +kernel) (Nat.le_of_ble_eq_true rfl) rfl (fun K C E => ?_)
  refine r_aload_0 C dX0_wide_0 ?_
  refine gG_now C q346 dX0_wide_1 ?_
  refine r_cV0i C (c_X1_is hG hW.inR4) (q0 := 7) rfl rfl q696 pkX1_is dX0_wide_4 (fun z w h => ?_)
  obtain ⟨rfl, rfl⟩ := h
  refine r_ifneB (tgt := 13) C dX0_wide_7 (by decide) (fun c_7 => ?_) (fun c_7 => ?_)
  · skip
    rw [hW.ln] at c_7
    have hd := hW.wf.gd4 c_7
    refine r_aload_0 C dX0_wide_13 ?_
    refine r_cV0i C (c_X0_widensAll hG hd hW) (q0 := 0) rfl rfl q1042 pkX0_widensAll dX0_wide_14 (fun z w h => ?_)
    obtain ⟨c, bs, bm, bw, wi, sw, sl, sp, pl, tb, dr, rfl, hc, hwi, hT, rfl⟩ := h
    obtain ⟨hdc, hag, hsc⟩ := wdA_gd hd z.toNat
    have hNc := (hW.nb hd).of (wdA_lo (w := w) z.toNat)
    refine r_pop C dX0_wide_17 ?_
    refine r_aload_0 C dX0_wide_18 ?_
    refine gG_tried C q353 dX0_wide_19 ?_
    refine r_cV0i C (c_X4_holds_Y hG hdc hNc rfl hT.1.2.1 rfl hT.2.2.2.2.2.1) (q0 := 31) rfl rfl q863 pkX4_holds dX0_wide_22 (fun z w h => ?_)
    obtain ⟨rfl, rfl⟩ := h
    refine r_ifeqB (tgt := 32) C dX0_wide_25 (by decide) (fun c_25 => ?_) (fun c_25 => ?_)
    · skip
      refine r_iconst C dX0_wide_32 ?_
      refine r_ireturn C E dX0_wide_33 ?_
      refine ⟨_, rfl, ?_, PubX.mk⟩
      unfold spWide
      rw [if_pos c_7, hc.eq]
      first
        | rw [if_pos c_25]
        | rw [if_neg c_25]
    · skip
      refine r_iconst C dX0_wide_28 ?_
      refine r_goto (tgt := 33) C dX0_wide_29 (by decide) ?_
      refine r_ireturn C E dX0_wide_33 ?_
      refine ⟨_, rfl, ?_, PubX.mk⟩
      unfold spWide
      rw [if_pos c_7, hc.eq]
      first
        | rw [if_pos c_25]
        | rw [if_neg c_25]
  · skip
    refine r_bipush C dX0_wide_10 ?_
    refine r_ireturn C E dX0_wide_12 ?_
    rw [hW.ln] at c_7
    exact ⟨_, rfl, by simp [spWide, c_7], PubX.mk⟩
theorem c_X0_canDo (hG : Gok g) : ∀ (nn : Nat) {u x_widened t_width t_load : Int → Int} {t_pads t_reached : Int} {t_place t_table t_drop : Int → Int} {t_size t_whole : Int} {step f : Int}, Gd u → NB u n_columns n_rows n_limit n_wear n_straps n_from n_to → SX u t_width t_load t_pads → nn ≤ 3 → 0 ≤ step → step + nn ≤ 3 → 0 ≤ f → f ≤ wS u → XMet g yX0_canDo cX0_canDo 6 (some .boolean) (6 + nn) 0 0 [.ref (σ 0), .int (jI step), .int (jI (step + nn)), .int (jI f)] (wX g σ x_tape x_taped x_faultKind x_faultPlace x_bestStarved x_bestMost x_bestWhole x_draws x_left x_mosts x_widened x_drawn x_img n_width n_from n_to n_load n_group n_budget n_columns n_rows n_limit n_wear n_straps n_pads n_lines n_mod n_asz n_el i_width i_load i_pads i_reached i_place i_table i_drop i_size i_whole t_width t_load t_pads t_reached t_place t_table t_drop t_size t_whole ++ ex) (pI (fun z wv => z = (if (cd nn u f).isSome = true then 1 else 0) ∧ ∃ (wi : Int → Int) (yr : Int) (yc yt yd : Int → Int) (yz yo : Int), (∀ j, j < step → wi j = x_widened j) ∧ (∀ l, cd nn u f = some l → ∀ t : Nat, t < nn → wi (step + t) = l.getD t 0) ∧ wv = (wX g σ x_tape x_taped x_faultKind x_faultPlace x_bestStarved x_bestMost x_bestWhole x_draws x_left x_mosts (wi) x_drawn x_img n_width n_from n_to n_load n_group n_budget n_columns n_rows n_limit n_wear n_straps n_pads n_lines n_mod n_asz n_el i_width i_load i_pads i_reached i_place i_table i_drop i_size i_whole t_width t_load t_pads (yr) (yc) (yt) (yd) (yz) (yo) ++ ex))) := by
  intro nn
  induction nn with
  | zero =>
    intro u x_widened t_width t_load t_pads t_reached t_place t_table t_drop t_size t_whole step f hu hN hX hn3 h0 h3 hf0 hf
    refine XMet.of (L := [some (.ref (σ 0)), some (.int (jI step)), some (.int (jI (step + (0 : Nat)))), some (.int (jI f)), none, none]) hG (by decide +kernel) (Nat.le_of_ble_eq_true rfl) rfl (fun K C E => ?_)
    refine r_iload_1 C dX0_canDo_0 ?_
    refine r_iload_2 C dX0_canDo_1 ?_
    refine r_if_icmpne (tgt := 16) C dX0_canDo_2 (by decide) (fun c_2 => ?_) (fun c_2 => ?_)
    · skip
      omega
    · skip
      refine r_aload_0 C dX0_canDo_5 ?_
      refine gG_tried C q353 dX0_canDo_6 ?_
      refine r_cV0a C (c_X4_solves_Y hG hu hN hX) (q0 := 31) rfl rfl q713 pkX4_solves dX0_canDo_9 (fun z w h => ?_)
      obtain ⟨rfl, pl, tb, dr, hS, rfl⟩ := h
      refine r_cV0i C (c_X4_holds_Y hG hu hN rfl hX.2.1 rfl hS.2.2.2.2.1) (q0 := 31) rfl rfl q863 pkX4_holds dX0_canDo_12 (fun z w h => ?_)
      obtain ⟨rfl, rfl⟩ := h
      refine r_zreturnB C E dX0_canDo_15 ?_
      refine ⟨_, rfl, ?_, x_widened, _, _, _, _, _, _, fun _ _ => rfl, fun l _ t ht => by omega, rfl⟩
      rw [cd]
      split <;> simp
  | succ nn ihn =>
    intro u x_widened t_width t_load t_pads t_reached t_place t_table t_drop t_size t_whole step f hu hN hX hn3 h0 h3 hf0 hf
    refine XMet.of (L := [some (.ref (σ 0)), some (.int (jI step)), some (.int (jI (step + (nn + 1 : Nat)))), some (.int (jI f)), none, none]) hG (by decide +kernel) (Nat.le_of_ble_eq_true rfl) rfl (fun K C E => ?_)
    have hs := hu.s
    have key : ∀ (mm : Nat), ∀ (k : Int) (wi : Int → Int) (yr : Int) (yc yt yd : Int → Int) (yz yo : Int) (l5 : Option Value), (0 ≤ k) → (k ≤ wS u) → (∀ j, j < step → wi j = x_widened j) → (cdL (cdF nn u) (wS u - k).toNat k = cd (nn + 1) u f) → (wS u - k).toNat = mm → AW g K (wX g σ x_tape x_taped x_faultKind x_faultPlace x_bestStarved x_bestMost x_bestWhole x_draws x_left x_mosts (wi) x_drawn x_img n_width n_from n_to n_load n_group n_budget n_columns n_rows n_limit n_wear n_straps n_pads n_lines n_mod n_asz n_el i_width i_load i_pads i_reached i_place i_table i_drop i_size i_whole t_width t_load t_pads (yr) (yc) (yt) (yd) (yz) (yo) ++ ex) 0 0 19 [some (.ref (σ 0)), some (.int (jI step)), some (.int (jI (step + (nn + 1 : Nat)))), some (.int (jI f)), some (.int (jI k)), l5] [] := by
      intro mm
      induction mm using Nat.strongRecOn with
      | _ mm ih =>
      intro k wi yr yc yt yd yz yo l5 hk0 hk hfo ec hm
      refine r_iload_4 C dX0_canDo_19 ?_
      refine r_aload_0 C dX0_canDo_21 ?_
      refine gG_now C q346 dX0_canDo_22 ?_
      refine gTN_straps C q239 dX0_canDo_25 ?_
      refine r_topi (wS u) hN.2.2.2.2.1 ?_
      refine r_if_icmpge (tgt := 109) C dX0_canDo_28 (by decide) (fun c_28 => ?_) (fun c_28 => ?_)
      · skip
        refine r_iconst C dX0_canDo_109 ?_
        refine r_zreturn C E dX0_canDo_110 (by first | exact Or.inl rfl | exact Or.inr rfl | omega) ?_
        rw [cdL_end c_28] at ec
        exact ⟨_, rfl, by rw [← ec]; rfl, wi, _, _, _, _, _, _, hfo, fun l hl => by rw [← ec] at hl; simp at hl, rfl⟩
      · skip
        have hwk := hu.wd k hk0 (by omega)
        unfold wWd at hwk
        have hxk := hX.1 k hk0 (by omega)
        rw [cdL_step c_28] at ec
        refine r_aload_0 C dX0_canDo_31 ?_
        refine gG_tried C q353 dX0_canDo_32 ?_
        refine gYI_width C q303 dX0_canDo_35 ?_
        refine r_iload_4 C dX0_canDo_38 ?_
        refine ld_t_width C dX0_canDo_40 ?_
        refine r_topi (u (28 + k)) hxk ?_
        refine r_iconst C dX0_canDo_41 ?_
        refine r_if_icmpne (tgt := 48) C dX0_canDo_42 (by decide) (fun c_42 => ?_) (fun c_42 => ?_)
        · skip
          have hdv := hu.wide hk0 c_28 c_42
          have hXv := hX.up hk0 (by omega)
          have hNv := hN.of (u := aset u (28 + k) (u (28 + k) + 1)) (lo_aset (by omega))
          have hsv : wS (aset u (28 + k) (u (28 + k) + 1)) = wS u := wS_aset (by omega)
          refine r_aload_0 C dX0_canDo_48 ?_
          refine gG_widened C q360 dX0_canDo_49 ?_
          refine r_iload_1 C dX0_canDo_52 ?_
          refine r_iload_4 C dX0_canDo_53 ?_
          refine st_x_widened C dX0_canDo_55 ?_
          refine r_aload_0 C dX0_canDo_56 ?_
          refine gG_tried C q353 dX0_canDo_57 ?_
          refine gYI_width C q303 dX0_canDo_60 ?_
          refine r_iload_4 C dX0_canDo_63 ?_
          refine r_dup2 C dX0_canDo_65 ?_
          refine ld_t_width C dX0_canDo_66 ?_
          refine r_iconst C dX0_canDo_67 ?_
          refine r_iadd C dX0_canDo_68 ?_
          refine st_t_width C dX0_canDo_69 ?_
          refine r_aload_0 C dX0_canDo_70 ?_
          refine r_iload_1 C dX0_canDo_71 ?_
          refine r_iconst C dX0_canDo_72 ?_
          refine r_iadd C dX0_canDo_73 ?_
          refine r_iload_2 C dX0_canDo_74 ?_
          rw [show step + ((nn + 1 : Nat) : Int) = (step + 1) + (nn : Int) by omega]
          refine r_iload_4 C dX0_canDo_75 ?_
          refine r_cV3i C (ihn (step := step + 1) (f := k) hdv hNv hXv (by omega) (by omega) (by omega) hk0 (by omega)) (q0 := 0) rfl rfl q1066 pkX0_canDo dX0_canDo_77 (fun z w h => ?_)
          obtain ⟨rfl, wi2, yr, yc, yt, yd, yz, yo, hf1, hf2, rfl⟩ := h
          rw [show (step + 1) + (nn : Int) = step + ((nn + 1 : Nat) : Int) by omega]
          refine r_istore_5 C dX0_canDo_80 ?_
          refine r_aload_0 C dX0_canDo_82 ?_
          refine gG_tried C q353 dX0_canDo_83 ?_
          refine gYI_width C q303 dX0_canDo_86 ?_
          refine r_iload_4 C dX0_canDo_89 ?_
          refine r_dup2 C dX0_canDo_91 ?_
          refine ld_t_width C dX0_canDo_92 ?_
          refine r_iconst C dX0_canDo_93 ?_
          refine r_isub C dX0_canDo_94 ?_
          refine st_t_width C dX0_canDo_95 ?_
          rw [aset_ud]
          refine r_iload_5 C dX0_canDo_96 ?_
          refine r_ifeqB (tgt := 103) C dX0_canDo_98 (by decide) (fun c_98 => ?_) (fun c_98 => ?_)
          · skip
            refine r_iinc_4 C dX0_canDo_103 ?_
            refine r_goto (tgt := 19) C dX0_canDo_106 (by decide) ?_
            first
              | (have hF : cdF nn u k = none := by unfold cdF; rw [if_pos c_42]
                 rw [hF] at ec
                 exact ih _ (show (wS u - (k + 1)).toNat < mm by omega) (k + 1) wi _ _ _ _ _ _ _ (by omega) (by omega) hfo ec rfl)
              | (have hF : cdF nn u k = none := by
                   unfold cdF
                   rw [if_neg c_42]
                   cases hc : cd nn (aset u (28 + k) (u (28 + k) + 1)) k
                   · rfl
                   · rw [hc] at c_98; simp at c_98
                 rw [hF] at ec
                 refine ih _ (show (wS u - (k + 1)).toNat < mm by omega) (k + 1) wi2 _ _ _ _ _ _ _ (by omega) (by omega) (fun j hj => ?_) ec rfl
                 rw [hf1 j (by omega), aset_ne (by omega)]
                 exact hfo j hj)
          · skip
            have hF : cdF nn u k = (cd nn (aset u (28 + k) (u (28 + k) + 1)) k).map (k :: ·) := by unfold cdF; rw [if_neg c_42]
            obtain ⟨l, hl⟩ := Option.isSome_iff_exists.mp c_98
            rw [hF, hl] at ec
            simp only [Option.map_some] at ec
            refine r_iconst C dX0_canDo_101 ?_
            refine r_zreturn C E dX0_canDo_102 (by first | exact Or.inl rfl | exact Or.inr rfl | omega) ?_
            refine ⟨_, rfl, by rw [← ec]; rfl, wi2, _, _, _, _, _, _, fun j hj => ?_, fun l' hl' t ht => ?_, rfl⟩
            · rw [hf1 j (by omega), aset_ne (by omega)]
              exact hfo j hj
            · rw [← ec] at hl'
              cases hl'
              cases t with
              | zero =>
                rw [hf1 _ (by omega)]
                simp [aset]
              | succ t =>
                rw [show step + ((t + 1 : Nat) : Int) = step + 1 + (t : Int) by omega, hf2 l hl t (by omega)]
                simp
        · skip
          refine r_goto (tgt := 103) C dX0_canDo_45 (by decide) ?_
          refine r_iinc_4 C dX0_canDo_103 ?_
          refine r_goto (tgt := 19) C dX0_canDo_106 (by decide) ?_
          first
            | (have hF : cdF nn u k = none := by unfold cdF; rw [if_pos c_42]
               rw [hF] at ec
               exact ih _ (show (wS u - (k + 1)).toNat < mm by omega) (k + 1) wi _ _ _ _ _ _ _ (by omega) (by omega) hfo ec rfl)
            | (have hF : cdF nn u k = none := by
                 unfold cdF
                 rw [if_neg c_42]
                 cases hc : cd nn (aset u (28 + k) (u (28 + k) + 1)) k
                 · rfl
                 · rw [hc] at c_98; simp at c_98
               rw [hF] at ec
               refine ih _ (show (wS u - (k + 1)).toNat < mm by omega) (k + 1) wi2 _ _ _ _ _ _ _ (by omega) (by omega) (fun j hj => ?_) ec rfl
               rw [hf1 j (by omega), aset_ne (by omega)]
               exact hfo j hj)
    refine r_iload_1 C dX0_canDo_0 ?_
    refine r_iload_2 C dX0_canDo_1 ?_
    refine r_if_icmpne (tgt := 16) C dX0_canDo_2 (by decide) (fun c_2 => ?_) (fun c_2 => ?_)
    · skip
      refine r_iload_3 C dX0_canDo_16 ?_
      refine r_istore_4 C dX0_canDo_17 ?_
      exact key _ f x_widened _ _ _ _ _ _ _ hf0 hf (fun _ _ => rfl) rfl rfl
    · skip
      omega
theorem c_X0_fewestOf (hG : Gok g) {w : Int → Int} (hd : Gd w) (hW : NW w n_width n_from n_to n_load n_group n_budget n_columns n_rows n_limit n_wear n_straps n_pads n_lines) : XMet g yX0_fewestOf cX0_fewestOf 2 (some .int) (10) 0 0 [.ref (σ 0)] (wX g σ x_tape x_taped x_faultKind x_faultPlace x_bestStarved x_bestMost x_bestWhole x_draws x_left x_mosts x_widened x_drawn x_img n_width n_from n_to n_load n_group n_budget n_columns n_rows n_limit n_wear n_straps n_pads n_lines n_mod n_asz n_el i_width i_load i_pads i_reached i_place i_table i_drop i_size i_whole t_width t_load t_pads t_reached t_place t_table t_drop t_size t_whole ++ ex) (pI (fun z ww => z = wFw w ∧ ∃ (wi : Int → Int) (yw yl : Int → Int) (yp yr : Int) (yc yt yd : Int → Int) (yz yo : Int), (0 ≤ wFw w → ∀ t : Nat, (t : Int) < wFw w → wi t = ((cd (wFw w).toNat w 0).getD []).getD t 0) ∧ ww = (wX g σ x_tape x_taped x_faultKind x_faultPlace x_bestStarved x_bestMost x_bestWhole x_draws x_left x_mosts (wi) x_drawn x_img n_width n_from n_to n_load n_group n_budget n_columns n_rows n_limit n_wear n_straps n_pads n_lines n_mod n_asz n_el i_width i_load i_pads i_reached i_place i_table i_drop i_size i_whole (yw) (yl) (yp) (yr) (yc) (yt) (yd) (yz) (yo) ++ ex))) := by
  refine XMet.of (L := [some (.ref (σ 0)), none]) hG (by decide +kernel) (Nat.le_of_ble_eq_true rfl) rfl (fun K C E => ?_)
  have hs := hd.s
  have key : ∀ (mm : Nat), ∀ (n : Int) (wi : Int → Int) (yw yl : Int → Int) (yp yr : Int) (yc yt yd : Int → Int) (yz yo : Int), (0 ≤ n) → (n ≤ 4) → (SX w yw yl yp) → (∀ j, 0 ≤ j → j < n → (cd j.toNat w 0).isSome = false) → (4 - n).toNat = mm → AW g K (wX g σ x_tape x_taped x_faultKind x_faultPlace x_bestStarved x_bestMost x_bestWhole x_draws x_left x_mosts (wi) x_drawn x_img n_width n_from n_to n_load n_group n_budget n_columns n_rows n_limit n_wear n_straps n_pads n_lines n_mod n_asz n_el i_width i_load i_pads i_reached i_place i_table i_drop i_size i_whole (yw) (yl) (yp) (yr) (yc) (yt) (yd) (yz) (yo) ++ ex) 0 0 9 [some (.ref (σ 0)), some (.int (jI n))] [] := by
    intro mm
    induction mm using Nat.strongRecOn with
    | _ mm ih =>
    intro n wi yw yl yp yr yc yt yd yz yo hn0 hn hX hj hm
    refine r_iload_1 C dX0_fewestOf_9 ?_
    refine r_iconst C dX0_fewestOf_10 ?_
    refine r_if_icmpgt (tgt := 32) C dX0_fewestOf_11 (by decide) (fun c_11 => ?_) (fun c_11 => ?_)
    · skip
      refine r_iconst C dX0_fewestOf_32 ?_
      refine r_ireturn C E dX0_fewestOf_33 ?_
      have e : wFw w = -1 := ffi_none 4 (fun j a b => hj j (by omega) (by omega))
      exact ⟨_, rfl, e.symm, wi, _, _, _, _, _, _, _, _, _, fun h => by omega, rfl⟩
    · skip
      refine r_aload_0 C dX0_fewestOf_14 ?_
      refine r_iconst C dX0_fewestOf_15 ?_
      refine r_iload_1 C dX0_fewestOf_16 ?_
      rw [show n = 0 + ((n.toNat : Nat) : Int) by omega]
      refine r_iconst C dX0_fewestOf_17 ?_
      refine r_cV3i C (c_X0_canDo hG n.toNat (step := 0) (f := 0) hd (hW.nb hd) hX (by omega) (by omega) (by omega) (by omega) (by omega)) (q0 := 0) rfl rfl q1066 pkX0_canDo dX0_fewestOf_18 (fun z w h => ?_)
      obtain ⟨rfl, wi2, yr, yc, yt, yd, yz, yo, hf1, hf2, rfl⟩ := h
      rw [show 0 + ((n.toNat : Nat) : Int) = n by omega]
      refine r_ifeqB (tgt := 26) C dX0_fewestOf_21 (by decide) (fun c_21 => ?_) (fun c_21 => ?_)
      · skip
        refine r_iinc_1 C dX0_fewestOf_26 ?_
        refine r_goto (tgt := 9) C dX0_fewestOf_29 (by decide) ?_
        refine ih _ (show (4 - (n + 1)).toNat < mm by omega) (n + 1) wi2 _ _ _ _ _ _ _ _ _ (by omega) (by omega) hX (fun j a b => ?_) rfl
        by_cases ej : j = n
        · rw [ej]; simpa using c_21
        · exact hj j a (by omega)
      · skip
        refine r_iload_1 C dX0_fewestOf_24 ?_
        refine r_ireturn C E dX0_fewestOf_25 ?_
        have e : wFw w = n := ffi_some 4 n hn0 (by omega) c_21 hj
        refine ⟨_, rfl, e.symm, wi2, _, _, _, _, _, _, _, _, _, fun _ t ht => ?_, rfl⟩
        obtain ⟨l, hl⟩ := Option.isSome_iff_exists.mp c_21
        rw [e] at ht ⊢
        rw [hl]
        have := hf2 l hl t (by omega)
        simpa using this
  refine r_aload_0 C dX0_fewestOf_0 ?_
  refine gG_tried C q353 dX0_fewestOf_1 ?_
  refine r_cU0v C (c_X3_takes_Y hG) (q0 := 31) rfl rfl q704 pkU_X3_takes dX0_fewestOf_4 (fun w h => ?_)
  subst h
  refine r_iconst C dX0_fewestOf_7 ?_
  refine r_istore_1 C dX0_fewestOf_8 ?_
  exact key _ 0 _ _ _ _ _ _ _ _ _ _ (by omega) (by omega) hW.sx (fun j _ _ => by omega) rfl
theorem c_X0_fewest (hG : Gok g) {w : Int → Int} (hW : NW w n_width n_from n_to n_load n_group n_budget n_columns n_rows n_limit n_wear n_straps n_pads n_lines) : XMet g yX0_fewest cX0_fewest 1 (some .int) (11) 0 0 [.ref (σ 0)] (wX g σ x_tape x_taped x_faultKind x_faultPlace x_bestStarved x_bestMost x_bestWhole x_draws x_left x_mosts x_widened x_drawn x_img n_width n_from n_to n_load n_group n_budget n_columns n_rows n_limit n_wear n_straps n_pads n_lines n_mod n_asz n_el i_width i_load i_pads i_reached i_place i_table i_drop i_size i_whole t_width t_load t_pads t_reached t_place t_table t_drop t_size t_whole ++ ex) (pI (fun z ww => z = spFewest w ∧ PubX g σ ex x_tape x_taped x_faultKind x_faultPlace x_img n_width n_from n_to n_load n_group n_budget n_columns n_rows n_limit n_wear n_straps n_pads n_lines n_mod n_asz n_el ww)) := by
  refine XMet.of (L := [some (.ref (σ 0))]) hG (by decide +kernel) (Nat.le_of_ble_eq_true rfl) rfl (fun K C E => ?_)
  refine r_aload_0 C dX0_fewest_0 ?_
  refine gG_now C q346 dX0_fewest_1 ?_
  refine r_cV0i C (c_X1_is hG hW.inR4) (q0 := 7) rfl rfl q696 pkX1_is dX0_fewest_4 (fun z w h => ?_)
  obtain ⟨rfl, rfl⟩ := h
  refine r_ifeqB (tgt := 17) C dX0_fewest_7 (by decide) (fun c_7 => ?_) (fun c_7 => ?_)
  · skip
    refine r_bipush C dX0_fewest_17 ?_
    refine r_ireturn C E dX0_fewest_19 ?_
    refine ⟨_, rfl, ?_, PubX.mk⟩
    unfold spFewest
    first
      | rw [if_pos c_7]
      | (rw [hW.ln] at c_7; rw [if_neg c_7])
  · skip
    rw [hW.ln] at c_7
    have hd := hW.wf.gd4 c_7
    refine r_aload_0 C dX0_fewest_10 ?_
    refine r_cV0i C (c_X0_fewestOf hG hd hW) (q0 := 0) rfl rfl q1062 pkX0_fewestOf dX0_fewest_11 (fun z w h => ?_)
    obtain ⟨rfl, wi, yw, yl, yp, yr, yc, yt, yd, yz, yo, hfo, rfl⟩ := h
    refine r_goto (tgt := 19) C dX0_fewest_14 (by decide) ?_
    refine r_ireturn C E dX0_fewest_19 ?_
    refine ⟨_, rfl, ?_, PubX.mk⟩
    unfold spFewest
    first
      | rw [if_pos c_7]
      | (rw [hW.ln] at c_7; rw [if_neg c_7])
theorem c_X0_few (hG : Gok g) {i : Int} {w : Int → Int} (hi : inR i) (hW : NW w n_width n_from n_to n_load n_group n_budget n_columns n_rows n_limit n_wear n_straps n_pads n_lines) : XMet g yX0_few cX0_few 2 (some .int) (11) 0 0 [.ref (σ 0), .int (jI i)] (wX g σ x_tape x_taped x_faultKind x_faultPlace x_bestStarved x_bestMost x_bestWhole x_draws x_left x_mosts x_widened x_drawn x_img n_width n_from n_to n_load n_group n_budget n_columns n_rows n_limit n_wear n_straps n_pads n_lines n_mod n_asz n_el i_width i_load i_pads i_reached i_place i_table i_drop i_size i_whole t_width t_load t_pads t_reached t_place t_table t_drop t_size t_whole ++ ex) (pI (fun z ww => z = spFew w i ∧ PubX g σ ex x_tape x_taped x_faultKind x_faultPlace x_img n_width n_from n_to n_load n_group n_budget n_columns n_rows n_limit n_wear n_straps n_pads n_lines n_mod n_asz n_el ww)) := by
  refine XMet.of (L := [some (.ref (σ 0)), some (.int (jI i))]) hG (by decide +kernel) (Nat.le_of_ble_eq_true rfl) rfl (fun K C E => ?_)
  refine r_aload_0 C dX0_few_0 ?_
  refine gG_now C q346 dX0_few_1 ?_
  refine r_cV0i C (c_X1_is hG hW.inR4) (q0 := 7) rfl rfl q696 pkX1_is dX0_few_4 (fun z w h => ?_)
  obtain ⟨rfl, rfl⟩ := h
  refine r_ifeqB (tgt := 14) C dX0_few_7 (by decide) (fun c_7 => ?_) (fun c_7 => ?_)
  · skip
    refine r_bipush C dX0_few_14 ?_
    refine r_ireturn C E dX0_few_16 ?_
    rw [hW.ln] at c_7
    refine ⟨_, rfl, ?_, PubX.mk⟩
    unfold spFew
    first
      | rw [if_neg (by intro q; exact c_7 q.1)]
      | rw [if_neg (by omega)]
  · skip
    refine r_iload_1 C dX0_few_10 ?_
    refine r_ifge (tgt := 17) C dX0_few_11 (by decide) (fun c_11 => ?_) (fun c_11 => ?_)
    · skip
      rw [hW.ln] at c_7
      have hd := hW.wf.gd4 c_7
      have hwf := ffi_in (p := fun n => (cd n.toNat w 0).isSome) 4
      have hwf2 : -1 ≤ wFw w ∧ wFw w < 4 := hwf
      refine r_iload_1 C dX0_few_17 ?_
      refine r_aload_0 C dX0_few_18 ?_
      refine r_cV0i C (c_X0_fewestOf hG hd hW) (q0 := 0) rfl rfl q1062 pkX0_fewestOf dX0_few_19 (fun z w h => ?_)
      obtain ⟨rfl, wi, yw, yl, yp, yr, yc, yt, yd, yz, yo, hfo, rfl⟩ := h
      refine r_if_icmpge (tgt := 34) C dX0_few_22 (by decide) (fun c_22 => ?_) (fun c_22 => ?_)
      · skip
        refine r_iconst C dX0_few_34 ?_
        refine r_ireturn C E dX0_few_35 ?_
        refine ⟨_, rfl, ?_, PubX.mk⟩
        unfold spFew
        rw [if_pos (And.intro c_7 (by omega))]
        first
          | (have := hfo (by omega) i.toNat (by omega)
             rw [show ((i.toNat : Nat) : Int) = i by omega] at this
             rw [if_pos c_22, this])
          | rw [if_neg (by omega)]
      · skip
        refine r_aload_0 C dX0_few_25 ?_
        refine gG_widened C q360 dX0_few_26 ?_
        refine r_iload_1 C dX0_few_29 ?_
        refine ld_x_widened C dX0_few_30 ?_
        refine r_goto (tgt := 35) C dX0_few_31 (by decide) ?_
        refine r_ireturn C E dX0_few_35 ?_
        refine ⟨_, rfl, ?_, PubX.mk⟩
        unfold spFew
        rw [if_pos (And.intro c_7 (by omega))]
        first
          | (have := hfo (by omega) i.toNat (by omega)
             rw [show ((i.toNat : Nat) : Int) = i by omega] at this
             rw [if_pos c_22, this])
          | rw [if_neg (by omega)]
    · skip
      refine r_bipush C dX0_few_14 ?_
      refine r_ireturn C E dX0_few_16 ?_
      rw [hW.ln] at c_7
      refine ⟨_, rfl, ?_, PubX.mk⟩
      unfold spFew
      first
        | rw [if_neg (by intro q; exact c_7 q.1)]
        | rw [if_neg (by omega)]
theorem c_X0_bestNarrower (hG : Gok g) {u : Int → Int} (hu : Gd u) (hN : NB u n_columns n_rows n_limit n_wear n_straps n_from n_to) (hX : SX u t_width t_load t_pads) : XMet g yX0_bestNarrower cX0_bestNarrower 3 (some .int) (72) 0 0 [.ref (σ 0)] (wX g σ x_tape x_taped x_faultKind x_faultPlace x_bestStarved x_bestMost x_bestWhole x_draws x_left x_mosts x_widened x_drawn x_img n_width n_from n_to n_load n_group n_budget n_columns n_rows n_limit n_wear n_straps n_pads n_lines n_mod n_asz n_el i_width i_load i_pads i_reached i_place i_table i_drop i_size i_whole t_width t_load t_pads t_reached t_place t_table t_drop t_size t_whole ++ ex) (pI (fun z ww => z = (wNs u).1 ∧ ∃ (bs bm bw : Int) (yw yl : Int → Int) (yp yr : Int) (yc yt yd : Int → Int) (yz yo : Int), SX (if (wNs u).1 = -1 then u else aset u (28 + (wNs u).1) (u (28 + (wNs u).1) - 1)) yw yl yp ∧ ww = (wX g σ x_tape x_taped x_faultKind x_faultPlace (bs) (bm) (bw) x_draws x_left x_mosts x_widened x_drawn x_img n_width n_from n_to n_load n_group n_budget n_columns n_rows n_limit n_wear n_straps n_pads n_lines n_mod n_asz n_el i_width i_load i_pads i_reached i_place i_table i_drop i_size i_whole (yw) (yl) (yp) (yr) (yc) (yt) (yd) (yz) (yo) ++ ex))) := by
  refine XMet.of (L := [some (.ref (σ 0)), none, none]) hG (by decide +kernel) (Nat.le_of_ble_eq_true rfl) rfl (fun K C E => ?_)
  have hs := hu.s
  have hstr := hN.2.2.2.2.1
  have hin := wNs_in hu
  have key : ∀ (mm : Nat), ∀ (k : Int) (s : Bst) (bs bm bw : Int) (yw yl : Int → Int) (yp yr : Int) (yc yt yd : Int → Int) (yz yo : Int), (0 ≤ k) → (k ≤ wS u) → (BsOk s) → (s = bs0 ∨ ((0 ≤ s.1 ∧ s.1 < 12) ∧ bs = s.2.1 ∧ bm = s.2.2.1 ∧ bw = s.2.2.2)) → (SX u yw yl yp) → (s = bst (fun k => !decide (u (28 + k) = 0) && wHo (aset u (28 + k) (u (28 + k) - 1))) (fun k => aset u (28 + k) (u (28 + k) - 1)) bs0 k) → (wS u - k).toNat = mm → AW g K (wX g σ x_tape x_taped x_faultKind x_faultPlace (bs) (bm) (bw) x_draws x_left x_mosts x_widened x_drawn x_img n_width n_from n_to n_load n_group n_budget n_columns n_rows n_limit n_wear n_straps n_pads n_lines n_mod n_asz n_el i_width i_load i_pads i_reached i_place i_table i_drop i_size i_whole (yw) (yl) (yp) (yr) (yc) (yt) (yd) (yz) (yo) ++ ex) 0 0 4 [some (.ref (σ 0)), some (.int (jI s.1)), some (.int (jI k))] [] := by
    intro mm
    induction mm using Nat.strongRecOn with
    | _ mm ih =>
    intro k s bs bm bw yw yl yp yr yc yt yd yz yo hk0 hk hs0 hs1 hX es hm
    have hs2 : -1 ≤ s.1 ∧ s.1 < 12 := by
      rcases hs1 with h | h
      · rw [h]; simp
      · omega
    refine r_iload_2 C dX0_bestNarrower_4 ?_
    refine r_aload_0 C dX0_bestNarrower_5 ?_
    refine gG_now C q346 dX0_bestNarrower_6 ?_
    refine gTN_straps C q239 dX0_bestNarrower_9 ?_
    refine r_topi (wS u) hstr ?_
    refine r_if_icmpge (tgt := 106) C dX0_bestNarrower_12 (by decide) (fun c_12 => ?_) (fun c_12 => ?_)
    · skip
      have ek : k = wS u := by omega
      subst ek
      obtain rfl : s = wNs u := es
      refine r_iload_1 C dX0_bestNarrower_106 ?_
      refine r_iconst C dX0_bestNarrower_107 ?_
      refine r_if_icmpeq (tgt := 124) C dX0_bestNarrower_108 (by decide) (fun c_108 => ?_) (fun c_108 => ?_)
      · skip
        refine r_iload_1 C dX0_bestNarrower_124 ?_
        refine r_ireturn C E dX0_bestNarrower_125 ?_
        first
          | (have h : (wNs u).1 = -1 := c_108
             rw [if_pos h]
             exact ⟨_, rfl, rfl, _, _, _, _, _, _, _, _, _, _, _, _, hX, rfl⟩)
          | (rw [if_neg c_108]
             exact ⟨_, rfl, rfl, _, _, _, _, _, _, _, _, _, _, _, _, hXb, rfl⟩)
      · skip
        have hin2 := hin.resolve_left c_108
        have hwb := hu.wd (wNs u).1 hin2.1 (by omega)
        unfold wWd at hwb
        have hxb := hX.1 (wNs u).1 hin2.1 (by omega)
        have hXb := hX.dn hin2.1 (show (wNs u).1 < 12 by omega)
        refine r_aload_0 C dX0_bestNarrower_111 ?_
        refine gG_tried C q353 dX0_bestNarrower_112 ?_
        refine gYI_width C q303 dX0_bestNarrower_115 ?_
        refine r_iload_1 C dX0_bestNarrower_118 ?_
        refine r_dup2 C dX0_bestNarrower_119 ?_
        refine ld_t_width C dX0_bestNarrower_120 ?_
        refine r_iconst C dX0_bestNarrower_121 ?_
        refine r_isub C dX0_bestNarrower_122 ?_
        refine st_t_width C dX0_bestNarrower_123 ?_
        refine r_iload_1 C dX0_bestNarrower_124 ?_
        refine r_ireturn C E dX0_bestNarrower_125 ?_
        first
          | (have h : (wNs u).1 = -1 := c_108
             rw [if_pos h]
             exact ⟨_, rfl, rfl, _, _, _, _, _, _, _, _, _, _, _, _, hX, rfl⟩)
          | (rw [if_neg c_108]
             exact ⟨_, rfl, rfl, _, _, _, _, _, _, _, _, _, _, _, _, hXb, rfl⟩)
    · skip
      have hwk := hu.wd k hk0 (by omega)
      unfold wWd at hwk
      have hxk := hX.1 k hk0 (by omega)
      refine r_aload_0 C dX0_bestNarrower_15 ?_
      refine gG_tried C q353 dX0_bestNarrower_16 ?_
      refine gYI_width C q303 dX0_bestNarrower_19 ?_
      refine r_iload_2 C dX0_bestNarrower_22 ?_
      refine ld_t_width C dX0_bestNarrower_23 ?_
      refine r_topi (u (28 + k)) hxk ?_
      refine r_ifne (tgt := 30) C dX0_bestNarrower_24 (by decide) (fun c_24 => ?_) (fun c_24 => ?_)
      · skip
        have hdv := hu.slim hk0 c_12 c_24
        have hXv := hX.dn hk0 (by omega)
        have hNv := hN.of (u := aset u (28 + k) (u (28 + k) - 1)) (lo_aset (by omega))
        refine r_aload_0 C dX0_bestNarrower_30 ?_
        refine gG_tried C q353 dX0_bestNarrower_31 ?_
        refine gYI_width C q303 dX0_bestNarrower_34 ?_
        refine r_iload_2 C dX0_bestNarrower_37 ?_
        refine r_dup2 C dX0_bestNarrower_38 ?_
        refine ld_t_width C dX0_bestNarrower_39 ?_
        refine r_iconst C dX0_bestNarrower_40 ?_
        refine r_isub C dX0_bestNarrower_41 ?_
        refine st_t_width C dX0_bestNarrower_42 ?_
        refine r_aload_0 C dX0_bestNarrower_43 ?_
        refine gG_tried C q353 dX0_bestNarrower_44 ?_
        refine r_cV0a C (c_X4_solves_Y hG hdv hNv hXv) (q0 := 31) rfl rfl q713 pkX4_solves dX0_bestNarrower_47 (fun z w h => ?_)
        obtain ⟨rfl, pl, tb, dr, hSv, rfl⟩ := h
        refine r_pop C dX0_bestNarrower_50 ?_
        refine r_aload_0 C dX0_bestNarrower_51 ?_
        refine gG_tried C q353 dX0_bestNarrower_52 ?_
        refine r_cV0i C (c_X4_holds_Y hG hdv hNv rfl hXv.2.1 rfl hSv.2.2.2.2.1) (q0 := 31) rfl rfl q863 pkX4_holds dX0_bestNarrower_55 (fun z w h => ?_)
        obtain ⟨rfl, rfl⟩ := h
        refine r_ifeqB (tgt := 87) C dX0_bestNarrower_58 (by decide) (fun c_58 => ?_) (fun c_58 => ?_)
        · skip
          refine r_aload_0 C dX0_bestNarrower_87 ?_
          refine gG_tried C q353 dX0_bestNarrower_88 ?_
          refine gYI_width C q303 dX0_bestNarrower_91 ?_
          refine r_iload_2 C dX0_bestNarrower_94 ?_
          refine r_dup2 C dX0_bestNarrower_95 ?_
          refine ld_t_width C dX0_bestNarrower_96 ?_
          refine r_iconst C dX0_bestNarrower_97 ?_
          refine r_iadd C dX0_bestNarrower_98 ?_
          refine st_t_width C dX0_bestNarrower_99 ?_
          first
            | rw [aset_du]
            | skip
          refine r_iinc_2 C dX0_bestNarrower_100 ?_
          refine r_goto (tgt := 4) C dX0_bestNarrower_103 (by decide) ?_
          first
            | (have h : u (28 + k) = 0 := c_24
               refine ih _ (show (wS u - (k + 1)).toNat < mm by omega) (k + 1) s _ _ _ _ _ _ _ _ _ _ _ _ (by omega) (by omega) hs0 hs1 hX ?_ rfl
               rw [bst_s hk0, ← es, bsf_no1 (by simp [h])])
            | (have h : ¬ wHo (aset u (28 + k) (u (28 + k) - 1)) = true := c_58
               refine ih _ (show (wS u - (k + 1)).toNat < mm by omega) (k + 1) s _ _ _ _ _ _ _ _ _ _ _ _ (by omega) (by omega) hs0 hs1 hX ?_ rfl
               rw [bst_s hk0, ← es, bsf_no1 (by simp [h])])
            | (have h : ¬ sc (aset u (28 + k) (u (28 + k) - 1)) s.2.1 s.2.2.1 s.2.2.2 < 0 := c_74
               refine ih _ (show (wS u - (k + 1)).toNat < mm by omega) (k + 1) s _ _ _ _ _ _ _ _ _ _ _ _ (by omega) (by omega) hs0 (Or.inr ⟨h10, rfl, rfl, rfl⟩) hX ?_ rfl
               rw [bst_s hk0, ← es, bsf_no2 (G := fun k => aset u (28 + k) (u (28 + k) - 1)) (by omega)])
            | (refine ih _ (show (wS u - (k + 1)).toNat < mm by omega) (k + 1) (k, wDl (aset u (28 + k) (u (28 + k) - 1)), wMx (aset u (28 + k) (u (28 + k) - 1)), wWh (aset u (28 + k) (u (28 + k) - 1))) _ _ _ _ _ _ _ _ _ _ _ _ (by omega) (by omega) (bs_of hdv k) (Or.inr ⟨⟨hk0, by (try simp only); omega⟩, rfl, rfl, rfl⟩) hX ?_ rfl
               rw [bst_s hk0, ← es, bsf_yes (P := fun k => !decide (u (28 + k) = 0) && wHo (aset u (28 + k) (u (28 + k) - 1))) (G := fun k => aset u (28 + k) (u (28 + k) - 1)) (by simp [c_24, c_58])]
               first
                 | exact c_74
                 | (rcases hs1 with h | h
                    · rw [h]; exact sc_10 hdv
                    · exact absurd c_63 (by omega)))
        · skip
          refine r_iload_1 C dX0_bestNarrower_61 ?_
          refine r_iconst C dX0_bestNarrower_62 ?_
          refine r_if_icmpeq (tgt := 77) C dX0_bestNarrower_63 (by decide) (fun c_63 => ?_) (fun c_63 => ?_)
          · skip
            refine r_iload_2 C dX0_bestNarrower_77 ?_
            refine r_istore_1 C dX0_bestNarrower_78 ?_
            refine r_aload_0 C dX0_bestNarrower_79 ?_
            refine r_aload_0 C dX0_bestNarrower_80 ?_
            refine gG_tried C q353 dX0_bestNarrower_81 ?_
            refine r_cV1v C (c_X0_keepsScore hG hdv hNv ⟨hXv, hSv⟩) (q0 := 0) rfl rfl q1016 pkX0_keepsScore dX0_bestNarrower_84 (fun w h => ?_)
            subst h
            refine r_aload_0 C dX0_bestNarrower_87 ?_
            refine gG_tried C q353 dX0_bestNarrower_88 ?_
            refine gYI_width C q303 dX0_bestNarrower_91 ?_
            refine r_iload_2 C dX0_bestNarrower_94 ?_
            refine r_dup2 C dX0_bestNarrower_95 ?_
            refine ld_t_width C dX0_bestNarrower_96 ?_
            refine r_iconst C dX0_bestNarrower_97 ?_
            refine r_iadd C dX0_bestNarrower_98 ?_
            refine st_t_width C dX0_bestNarrower_99 ?_
            first
              | rw [aset_du]
              | skip
            refine r_iinc_2 C dX0_bestNarrower_100 ?_
            refine r_goto (tgt := 4) C dX0_bestNarrower_103 (by decide) ?_
            first
              | (have h : u (28 + k) = 0 := c_24
                 refine ih _ (show (wS u - (k + 1)).toNat < mm by omega) (k + 1) s _ _ _ _ _ _ _ _ _ _ _ _ (by omega) (by omega) hs0 hs1 hX ?_ rfl
                 rw [bst_s hk0, ← es, bsf_no1 (by simp [h])])
              | (have h : ¬ wHo (aset u (28 + k) (u (28 + k) - 1)) = true := c_58
                 refine ih _ (show (wS u - (k + 1)).toNat < mm by omega) (k + 1) s _ _ _ _ _ _ _ _ _ _ _ _ (by omega) (by omega) hs0 hs1 hX ?_ rfl
                 rw [bst_s hk0, ← es, bsf_no1 (by simp [h])])
              | (have h : ¬ sc (aset u (28 + k) (u (28 + k) - 1)) s.2.1 s.2.2.1 s.2.2.2 < 0 := c_74
                 refine ih _ (show (wS u - (k + 1)).toNat < mm by omega) (k + 1) s _ _ _ _ _ _ _ _ _ _ _ _ (by omega) (by omega) hs0 (Or.inr ⟨h10, rfl, rfl, rfl⟩) hX ?_ rfl
                 rw [bst_s hk0, ← es, bsf_no2 (G := fun k => aset u (28 + k) (u (28 + k) - 1)) (by omega)])
              | (refine ih _ (show (wS u - (k + 1)).toNat < mm by omega) (k + 1) (k, wDl (aset u (28 + k) (u (28 + k) - 1)), wMx (aset u (28 + k) (u (28 + k) - 1)), wWh (aset u (28 + k) (u (28 + k) - 1))) _ _ _ _ _ _ _ _ _ _ _ _ (by omega) (by omega) (bs_of hdv k) (Or.inr ⟨⟨hk0, by (try simp only); omega⟩, rfl, rfl, rfl⟩) hX ?_ rfl
                 rw [bst_s hk0, ← es, bsf_yes (P := fun k => !decide (u (28 + k) = 0) && wHo (aset u (28 + k) (u (28 + k) - 1))) (G := fun k => aset u (28 + k) (u (28 + k) - 1)) (by simp [c_24, c_58])]
                 first
                   | exact c_74
                   | (rcases hs1 with h | h
                      · rw [h]; exact sc_10 hdv
                      · exact absurd c_63 (by omega)))
          · skip
            obtain ⟨h10, rfl, rfl, rfl⟩ : (0 ≤ s.1 ∧ s.1 < 12) ∧ bs = s.2.1 ∧ bm = s.2.2.1 ∧ bw = s.2.2.2 := by
              rcases hs1 with h | h
              · rw [h] at c_63; exact absurd rfl c_63
              · exact h
            refine r_aload_0 C dX0_bestNarrower_66 ?_
            refine r_aload_0 C dX0_bestNarrower_67 ?_
            refine gG_tried C q353 dX0_bestNarrower_68 ?_
            refine r_cV1i C (c_X0_isBetter hG hdv hNv ⟨hXv, hSv⟩ hs0) (q0 := 0) rfl rfl q1003 pkX0_isBetter dX0_bestNarrower_71 (fun z w h => ?_)
            obtain ⟨rfl, rfl⟩ := h
            refine r_ifeqB (tgt := 87) C dX0_bestNarrower_74 (by decide) (fun c_74 => ?_) (fun c_74 => ?_)
            · skip
              refine r_aload_0 C dX0_bestNarrower_87 ?_
              refine gG_tried C q353 dX0_bestNarrower_88 ?_
              refine gYI_width C q303 dX0_bestNarrower_91 ?_
              refine r_iload_2 C dX0_bestNarrower_94 ?_
              refine r_dup2 C dX0_bestNarrower_95 ?_
              refine ld_t_width C dX0_bestNarrower_96 ?_
              refine r_iconst C dX0_bestNarrower_97 ?_
              refine r_iadd C dX0_bestNarrower_98 ?_
              refine st_t_width C dX0_bestNarrower_99 ?_
              first
                | rw [aset_du]
                | skip
              refine r_iinc_2 C dX0_bestNarrower_100 ?_
              refine r_goto (tgt := 4) C dX0_bestNarrower_103 (by decide) ?_
              first
                | (have h : u (28 + k) = 0 := c_24
                   refine ih _ (show (wS u - (k + 1)).toNat < mm by omega) (k + 1) s _ _ _ _ _ _ _ _ _ _ _ _ (by omega) (by omega) hs0 hs1 hX ?_ rfl
                   rw [bst_s hk0, ← es, bsf_no1 (by simp [h])])
                | (have h : ¬ wHo (aset u (28 + k) (u (28 + k) - 1)) = true := c_58
                   refine ih _ (show (wS u - (k + 1)).toNat < mm by omega) (k + 1) s _ _ _ _ _ _ _ _ _ _ _ _ (by omega) (by omega) hs0 hs1 hX ?_ rfl
                   rw [bst_s hk0, ← es, bsf_no1 (by simp [h])])
                | (have h : ¬ sc (aset u (28 + k) (u (28 + k) - 1)) s.2.1 s.2.2.1 s.2.2.2 < 0 := c_74
                   refine ih _ (show (wS u - (k + 1)).toNat < mm by omega) (k + 1) s _ _ _ _ _ _ _ _ _ _ _ _ (by omega) (by omega) hs0 (Or.inr ⟨h10, rfl, rfl, rfl⟩) hX ?_ rfl
                   rw [bst_s hk0, ← es, bsf_no2 (G := fun k => aset u (28 + k) (u (28 + k) - 1)) (by omega)])
                | (refine ih _ (show (wS u - (k + 1)).toNat < mm by omega) (k + 1) (k, wDl (aset u (28 + k) (u (28 + k) - 1)), wMx (aset u (28 + k) (u (28 + k) - 1)), wWh (aset u (28 + k) (u (28 + k) - 1))) _ _ _ _ _ _ _ _ _ _ _ _ (by omega) (by omega) (bs_of hdv k) (Or.inr ⟨⟨hk0, by (try simp only); omega⟩, rfl, rfl, rfl⟩) hX ?_ rfl
                   rw [bst_s hk0, ← es, bsf_yes (P := fun k => !decide (u (28 + k) = 0) && wHo (aset u (28 + k) (u (28 + k) - 1))) (G := fun k => aset u (28 + k) (u (28 + k) - 1)) (by simp [c_24, c_58])]
                   first
                     | exact c_74
                     | (rcases hs1 with h | h
                        · rw [h]; exact sc_10 hdv
                        · exact absurd c_63 (by omega)))
            · skip
              refine r_iload_2 C dX0_bestNarrower_77 ?_
              refine r_istore_1 C dX0_bestNarrower_78 ?_
              refine r_aload_0 C dX0_bestNarrower_79 ?_
              refine r_aload_0 C dX0_bestNarrower_80 ?_
              refine gG_tried C q353 dX0_bestNarrower_81 ?_
              refine r_cV1v C (c_X0_keepsScore hG hdv hNv ⟨hXv, hSv⟩) (q0 := 0) rfl rfl q1016 pkX0_keepsScore dX0_bestNarrower_84 (fun w h => ?_)
              subst h
              refine r_aload_0 C dX0_bestNarrower_87 ?_
              refine gG_tried C q353 dX0_bestNarrower_88 ?_
              refine gYI_width C q303 dX0_bestNarrower_91 ?_
              refine r_iload_2 C dX0_bestNarrower_94 ?_
              refine r_dup2 C dX0_bestNarrower_95 ?_
              refine ld_t_width C dX0_bestNarrower_96 ?_
              refine r_iconst C dX0_bestNarrower_97 ?_
              refine r_iadd C dX0_bestNarrower_98 ?_
              refine st_t_width C dX0_bestNarrower_99 ?_
              first
                | rw [aset_du]
                | skip
              refine r_iinc_2 C dX0_bestNarrower_100 ?_
              refine r_goto (tgt := 4) C dX0_bestNarrower_103 (by decide) ?_
              first
                | (have h : u (28 + k) = 0 := c_24
                   refine ih _ (show (wS u - (k + 1)).toNat < mm by omega) (k + 1) s _ _ _ _ _ _ _ _ _ _ _ _ (by omega) (by omega) hs0 hs1 hX ?_ rfl
                   rw [bst_s hk0, ← es, bsf_no1 (by simp [h])])
                | (have h : ¬ wHo (aset u (28 + k) (u (28 + k) - 1)) = true := c_58
                   refine ih _ (show (wS u - (k + 1)).toNat < mm by omega) (k + 1) s _ _ _ _ _ _ _ _ _ _ _ _ (by omega) (by omega) hs0 hs1 hX ?_ rfl
                   rw [bst_s hk0, ← es, bsf_no1 (by simp [h])])
                | (have h : ¬ sc (aset u (28 + k) (u (28 + k) - 1)) s.2.1 s.2.2.1 s.2.2.2 < 0 := c_74
                   refine ih _ (show (wS u - (k + 1)).toNat < mm by omega) (k + 1) s _ _ _ _ _ _ _ _ _ _ _ _ (by omega) (by omega) hs0 (Or.inr ⟨h10, rfl, rfl, rfl⟩) hX ?_ rfl
                   rw [bst_s hk0, ← es, bsf_no2 (G := fun k => aset u (28 + k) (u (28 + k) - 1)) (by omega)])
                | (refine ih _ (show (wS u - (k + 1)).toNat < mm by omega) (k + 1) (k, wDl (aset u (28 + k) (u (28 + k) - 1)), wMx (aset u (28 + k) (u (28 + k) - 1)), wWh (aset u (28 + k) (u (28 + k) - 1))) _ _ _ _ _ _ _ _ _ _ _ _ (by omega) (by omega) (bs_of hdv k) (Or.inr ⟨⟨hk0, by (try simp only); omega⟩, rfl, rfl, rfl⟩) hX ?_ rfl
                   rw [bst_s hk0, ← es, bsf_yes (P := fun k => !decide (u (28 + k) = 0) && wHo (aset u (28 + k) (u (28 + k) - 1))) (G := fun k => aset u (28 + k) (u (28 + k) - 1)) (by simp [c_24, c_58])]
                   first
                     | exact c_74
                     | (rcases hs1 with h | h
                        · rw [h]; exact sc_10 hdv
                        · exact absurd c_63 (by omega)))
      · skip
        refine r_goto (tgt := 100) C dX0_bestNarrower_27 (by decide) ?_
        first
          | rw [aset_du]
          | skip
        refine r_iinc_2 C dX0_bestNarrower_100 ?_
        refine r_goto (tgt := 4) C dX0_bestNarrower_103 (by decide) ?_
        first
          | (have h : u (28 + k) = 0 := c_24
             refine ih _ (show (wS u - (k + 1)).toNat < mm by omega) (k + 1) s _ _ _ _ _ _ _ _ _ _ _ _ (by omega) (by omega) hs0 hs1 hX ?_ rfl
             rw [bst_s hk0, ← es, bsf_no1 (by simp [h])])
          | (have h : ¬ wHo (aset u (28 + k) (u (28 + k) - 1)) = true := c_58
             refine ih _ (show (wS u - (k + 1)).toNat < mm by omega) (k + 1) s _ _ _ _ _ _ _ _ _ _ _ _ (by omega) (by omega) hs0 hs1 hX ?_ rfl
             rw [bst_s hk0, ← es, bsf_no1 (by simp [h])])
          | (have h : ¬ sc (aset u (28 + k) (u (28 + k) - 1)) s.2.1 s.2.2.1 s.2.2.2 < 0 := c_74
             refine ih _ (show (wS u - (k + 1)).toNat < mm by omega) (k + 1) s _ _ _ _ _ _ _ _ _ _ _ _ (by omega) (by omega) hs0 (Or.inr ⟨h10, rfl, rfl, rfl⟩) hX ?_ rfl
             rw [bst_s hk0, ← es, bsf_no2 (G := fun k => aset u (28 + k) (u (28 + k) - 1)) (by omega)])
          | (refine ih _ (show (wS u - (k + 1)).toNat < mm by omega) (k + 1) (k, wDl (aset u (28 + k) (u (28 + k) - 1)), wMx (aset u (28 + k) (u (28 + k) - 1)), wWh (aset u (28 + k) (u (28 + k) - 1))) _ _ _ _ _ _ _ _ _ _ _ _ (by omega) (by omega) (bs_of hdv k) (Or.inr ⟨⟨hk0, by (try simp only); omega⟩, rfl, rfl, rfl⟩) hX ?_ rfl
             rw [bst_s hk0, ← es, bsf_yes (P := fun k => !decide (u (28 + k) = 0) && wHo (aset u (28 + k) (u (28 + k) - 1))) (G := fun k => aset u (28 + k) (u (28 + k) - 1)) (by simp [c_24, c_58])]
             first
               | exact c_74
               | (rcases hs1 with h | h
                  · rw [h]; exact sc_10 hdv
                  · exact absurd c_63 (by omega)))
  refine r_iconst C dX0_bestNarrower_0 ?_
  refine r_istore_1 C dX0_bestNarrower_1 ?_
  refine r_iconst C dX0_bestNarrower_2 ?_
  refine r_istore_2 C dX0_bestNarrower_3 ?_
  exact key _ 0 bs0 _ _ _ _ _ _ _ _ _ _ _ _ (by omega) (by omega) bs0_ok (Or.inl rfl) hX rfl rfl
end X9

