section X11
variable {g : GX} {σ : Nat → Nat} {ex : va_W}
variable {x_tape : Int → Int} {x_taped : Int} {x_faultKind : Int} {x_faultPlace : Int} {x_bestStarved : Int} {x_bestMost : Int} {x_bestWhole : Int} {x_draws : Int → Int} {x_left : Int → Int} {x_mosts : Int → Int} {x_widened : Int → Int} {x_drawn : Int} {x_img : Nat → Option Nat} {n_width : Int → Int} {n_from : Int → Int} {n_to : Int → Int} {n_load : Int → Int} {n_group : Int → Int} {n_budget : Int → Int} {n_columns : Int} {n_rows : Int} {n_limit : Int} {n_wear : Int} {n_straps : Int} {n_pads : Int} {n_lines : Int} {n_mod : Int} {n_asz : Int} {n_el : Nat → Option Nat} {i_width : Int → Int} {i_load : Int → Int} {i_pads : Int} {i_reached : Int} {i_place : Int → Int} {i_table : Int → Int} {i_drop : Int → Int} {i_size : Int} {i_whole : Int} {t_width : Int → Int} {t_load : Int → Int} {t_pads : Int} {t_reached : Int} {t_place : Int → Int} {t_table : Int → Int} {t_drop : Int → Int} {t_size : Int} {t_whole : Int}
theorem c_J10_ntz (hG : Gok g) {ws : va_W} {s : Int} (h0 : 0 < s) (h1 : s < 512) : XMet g yJ10_numberOfTrailingZeros cJ10_numberOfTrailingZeros 2 (some .int) 0 0 0 [.int (jI s)] ws (pI (fun z w => z = lsb s ∧ w = ws)) := by
  obtain ⟨⟨a, b⟩, hx⟩ := lsb_ok h0 h1
  rcases (show lsb s = 0 ∨ lsb s = 1 ∨ lsb s = 2 ∨ lsb s = 3 ∨ lsb s = 4 ∨ lsb s = 5 ∨ lsb s = 6 ∨ lsb s = 7 ∨ lsb s = 8 by omega) with e | e | e | e | e | e | e | e | e <;> rw [e] at hx ⊢
  · exact c_ntz0 hG hx
  · exact c_ntz1 hG hx
  · exact c_ntz2 hG hx
  · exact c_ntz3 hG hx
  · exact c_ntz4 hG hx
  · exact c_ntz5 hG hx
  · exact c_ntz6 hG hx
  · exact c_ntz7 hG hx
  · exact c_ntz8 hG hx
theorem c_X0_parts (hG : Gok g) {w : Int → Int} (hW : NW w n_width n_from n_to n_load n_group n_budget n_columns n_rows n_limit n_wear n_straps n_pads n_lines) : XMet g yX0_parts cX0_parts 3 (some .int) (5) 0 0 [.ref (σ 0)] (wX g σ x_tape x_taped x_faultKind x_faultPlace x_bestStarved x_bestMost x_bestWhole x_draws x_left x_mosts x_widened x_drawn x_img n_width n_from n_to n_load n_group n_budget n_columns n_rows n_limit n_wear n_straps n_pads n_lines n_mod n_asz n_el i_width i_load i_pads i_reached i_place i_table i_drop i_size i_whole t_width t_load t_pads t_reached t_place t_table t_drop t_size t_whole ++ ex) (pI (fun z ww => z = spParts w ∧ PubX g σ ex x_tape x_taped x_faultKind x_faultPlace x_img n_width n_from n_to n_load n_group n_budget n_columns n_rows n_limit n_wear n_straps n_pads n_lines n_mod n_asz n_el ww)) := by
  refine XMet.of (L := [some (.ref (σ 0)), none, none]) hG (by decide +kernel) (Nat.le_of_ble_eq_true rfl) rfl (fun K C E => ?_)
  refine r_aload_0 C dX0_parts_0 ?_
  refine gG_now C q346 dX0_parts_1 ?_
  refine r_cV0i C (c_X1_is hG hW.inR4) (q0 := 7) rfl rfl q696 pkX1_is dX0_parts_4 (fun z w h => ?_)
  obtain ⟨rfl, rfl⟩ := h
  refine r_ifneB (tgt := 13) C dX0_parts_7 (by decide) (fun c_7 => ?_) (fun c_7 => ?_)
  · skip
    rw [hW.ln] at c_7
    have hd := hW.wf.gd4 c_7
    have hn := hd.n
    have h12 := hd.s
    refine r_aload_0 C dX0_parts_13 ?_
    refine r_cV0a C (c_X0_solved hG hd hW) (q0 := 0) rfl rfl q700 pkX0_solved dX0_parts_14 (fun z w h => ?_)
    obtain ⟨rfl, sw, sl, pl, tb, dr, hX, hS, rfl⟩ := h
    refine r_pop C dX0_parts_17 ?_
    skip
    have key : ∀ (mm : Nat), ∀ (v s : Int), (0 ≤ v) → (v ≤ wN w) → (0 ≤ s ∧ s ≤ v) → (s = foI (fun v s => s + if lsb (cmp w v) = v then 1 else 0) 0 v) → (wN w - v).toNat = mm → AW g K (wX g σ x_tape x_taped x_faultKind x_faultPlace x_bestStarved x_bestMost x_bestWhole x_draws x_left x_mosts x_widened x_drawn x_img n_width n_from n_to n_load n_group n_budget n_columns n_rows n_limit n_wear n_straps n_pads n_lines n_mod n_asz n_el (sw) (sl) (n_pads) (wR w) (pl) (tb) (dr) (wm w) (wWh w) t_width t_load t_pads t_reached t_place t_table t_drop t_size t_whole ++ ex) 0 0 22 [some (.ref (σ 0)), some (.int (jI s)), some (.int (jI v))] [] := by
      intro mm
      induction mm using Nat.strongRecOn with
      | _ mm ih =>
      intro v s hv0 hv hs0 es hm
      refine r_iload_2 C dX0_parts_22 ?_
      refine r_aload_0 C dX0_parts_23 ?_
      refine gG_now C q346 dX0_parts_24 ?_
      refine r_cV0i C (c_X1_many hG) (q0 := 7) rfl rfl q768 pkX1_many dX0_parts_27 (fun z w h => ?_)
      obtain ⟨rfl, rfl⟩ := h
      refine r_topi (wN w) (by rw [hW.c, hW.r]; rfl) ?_
      refine r_if_icmpge (tgt := 64) C dX0_parts_30 (by decide) (fun c_30 => ?_) (fun c_30 => ?_)
      · skip
        refine r_iload_1 C dX0_parts_64 ?_
        refine r_ireturn C E dX0_parts_65 ?_
        have e : v = wN w := by omega
        subst e
        exact ⟨_, rfl, by unfold spParts; rw [if_pos c_7, es, parts_eq hd], PubX.mk⟩
      · skip
        have hP := bsP_9 hv0 (show v < 9 by omega)
        have hci := cmp_in hd hv0 c_30
        have hlb := lsb_ok hci.1 hci.2.1
        refine r_iload_1 C dX0_parts_33 ?_
        refine r_aload_0 C dX0_parts_34 ?_
        refine gG_is C q352 dX0_parts_35 ?_
        refine r_iconst C dX0_parts_38 ?_
        refine r_iload_2 C dX0_parts_39 ?_
        refine r_ishl C (_) dX0_parts_40 (jI_shl (by omega) (by omega)) ?_
        refine r_cU1i C (c_X3_reach_I hG hd.g (hW.s hd) (hW.en hd.l.1) (fun k h0 h1 => by rw [hX.1 k h0 h1]; exact hd.wd k h0 h1) (Int.le_of_lt bsP_0) hP) (q0 := 16) rfl rfl q885 pkU_X3_reach dX0_parts_41 (fun z w h => ?_)
        obtain ⟨rfl, rfl⟩ := h
        refine r_topi (cmp w v) (rch_cong (fun k h0 h1 => hX.1 k h0 (by unfold wS at h12; omega))) ?_
        refine r_cS1i C (c_J10_ntz hG hci.1 hci.2.1) q950 pkJ10_numberOfTrailingZeros dX0_parts_44 (fun z w h => ?_)
        obtain ⟨rfl, rfl⟩ := h
        refine r_iload_2 C dX0_parts_47 ?_
        refine r_if_icmpne (tgt := 55) C dX0_parts_48 (by decide) (fun c_48 => ?_) (fun c_48 => ?_)
        · skip
          refine r_iconst C dX0_parts_55 ?_
          refine r_iadd C dX0_parts_56 ?_
          refine r_istore_1 C dX0_parts_57 ?_
          refine r_iinc_2 C dX0_parts_58 ?_
          refine r_goto (tgt := 22) C dX0_parts_61 (by decide) ?_
          first
            | (have h : lsb (cmp w v) = v := c_48
               refine ih _ (show (wN w - (v + 1)).toNat < mm by omega) (v + 1) (s + 1) (by omega) (by omega) (by omega) ?_ rfl
               rw [foI_s _ _ hv0, ← es, if_pos h])
            | (refine ih _ (show (wN w - (v + 1)).toNat < mm by omega) (v + 1) (s + 0) (by omega) (by omega) (by omega) ?_ rfl
               rw [foI_s _ _ hv0, ← es, if_neg c_48])
        · skip
          refine r_iconst C dX0_parts_51 ?_
          refine r_goto (tgt := 56) C dX0_parts_52 (by decide) ?_
          refine r_iadd C dX0_parts_56 ?_
          refine r_istore_1 C dX0_parts_57 ?_
          refine r_iinc_2 C dX0_parts_58 ?_
          refine r_goto (tgt := 22) C dX0_parts_61 (by decide) ?_
          first
            | (have h : lsb (cmp w v) = v := c_48
               refine ih _ (show (wN w - (v + 1)).toNat < mm by omega) (v + 1) (s + 1) (by omega) (by omega) (by omega) ?_ rfl
               rw [foI_s _ _ hv0, ← es, if_pos h])
            | (refine ih _ (show (wN w - (v + 1)).toNat < mm by omega) (v + 1) (s + 0) (by omega) (by omega) (by omega) ?_ rfl
               rw [foI_s _ _ hv0, ← es, if_neg c_48])
    refine r_iconst C dX0_parts_18 ?_
    refine r_istore_1 C dX0_parts_19 ?_
    refine r_iconst C dX0_parts_20 ?_
    refine r_istore_2 C dX0_parts_21 ?_
    exact key _ 0 0 (by omega) (by omega) (by omega) rfl rfl
  · skip
    refine r_bipush C dX0_parts_10 ?_
    refine r_ireturn C E dX0_parts_12 ?_
    rw [hW.ln] at c_7
    exact ⟨_, rfl, by simp [spParts, c_7], PubX.mk⟩
theorem c_X0_nextOf (hG : Gok g) {nd s : Int} {w : Int → Int} (hd : Gd w) (hW : NW w n_width n_from n_to n_load n_group n_budget n_columns n_rows n_limit n_wear n_straps n_pads n_lines) (hS : SS w i_reached i_place i_table i_drop i_size i_whole) (hnd : 0 ≤ nd ∧ nd < wN w) (hs : 0 ≤ s ∧ s < 512) : XMet g yX0_nextOf cX0_nextOf 5 (some .int) (4) 0 0 [.ref (σ 0), .int (jI nd), .int (jI s)] (wX g σ x_tape x_taped x_faultKind x_faultPlace x_bestStarved x_bestMost x_bestWhole x_draws x_left x_mosts x_widened x_drawn x_img n_width n_from n_to n_load n_group n_budget n_columns n_rows n_limit n_wear n_straps n_pads n_lines n_mod n_asz n_el i_width i_load i_pads i_reached i_place i_table i_drop i_size i_whole t_width t_load t_pads t_reached t_place t_table t_drop t_size t_whole ++ ex) (pI (fun z ww => z = nxF w nd s (wN w) ∧ ww = (wX g σ x_tape x_taped x_faultKind x_faultPlace x_bestStarved x_bestMost x_bestWhole x_draws x_left x_mosts x_widened x_drawn x_img n_width n_from n_to n_load n_group n_budget n_columns n_rows n_limit n_wear n_straps n_pads n_lines n_mod n_asz n_el i_width i_load i_pads i_reached i_place i_table i_drop i_size i_whole t_width t_load t_pads t_reached t_place t_table t_drop t_size t_whole ++ ex))) := by
  refine XMet.of (L := [some (.ref (σ 0)), some (.int (jI nd)), some (.int (jI s)), none, none]) hG (by decide +kernel) (Nat.le_of_ble_eq_true rfl) rfl (fun K C E => ?_)
  have hn := hd.n
  have key : ∀ (mm : Nat), ∀ (v b : Int), (0 ≤ v) → (v ≤ wN w) → (b = -1 ∨ (0 ≤ b ∧ b < wN w)) → (b = nxF w nd s v) → (wN w - v).toNat = mm → AW g K (wX g σ x_tape x_taped x_faultKind x_faultPlace x_bestStarved x_bestMost x_bestWhole x_draws x_left x_mosts x_widened x_drawn x_img n_width n_from n_to n_load n_group n_budget n_columns n_rows n_limit n_wear n_straps n_pads n_lines n_mod n_asz n_el i_width i_load i_pads i_reached i_place i_table i_drop i_size i_whole t_width t_load t_pads t_reached t_place t_table t_drop t_size t_whole ++ ex) 0 0 5 [some (.ref (σ 0)), some (.int (jI nd)), some (.int (jI s)), some (.int (jI b)), some (.int (jI v))] [] := by
    intro mm
    induction mm using Nat.strongRecOn with
    | _ mm ih =>
    intro v b hv0 hv hb eb hm
    refine r_iload_4 C dX0_nextOf_5 ?_
    refine r_aload_0 C dX0_nextOf_7 ?_
    refine gG_now C q346 dX0_nextOf_8 ?_
    refine r_cV0i C (c_X1_many hG) (q0 := 7) rfl rfl q768 pkX1_many dX0_nextOf_11 (fun z w h => ?_)
    obtain ⟨rfl, rfl⟩ := h
    refine r_topi (wN w) (by rw [hW.c, hW.r]; rfl) ?_
    refine r_if_icmpge (tgt := 63) C dX0_nextOf_14 (by decide) (fun c_14 => ?_) (fun c_14 => ?_)
    · skip
      refine r_iload_3 C dX0_nextOf_63 ?_
      refine r_ireturn C E dX0_nextOf_64 ?_
      have e : v = wN w := by omega
      subst e
      exact ⟨_, rfl, eb, rfl⟩
    · skip
      have hmv := hd.mov hnd.1 hnd.2 hv0 c_14
      refine r_iload_2 C dX0_nextOf_17 ?_
      refine r_iload_4 C dX0_nextOf_18 ?_
      refine r_cS2i C (c_X0_isOn hG (by omega) (by omega)) q778 pkX0_isOn dX0_nextOf_20 (fun z w h => ?_)
      obtain ⟨rfl, rfl⟩ := h
      refine r_ifeqB (tgt := 57) C dX0_nextOf_23 (by decide) (fun c_23 => ?_) (fun c_23 => ?_)
      · skip
        refine r_iinc_4 C dX0_nextOf_57 ?_
        refine r_goto (tgt := 5) C dX0_nextOf_60 (by decide) ?_
        refine ih _ (show (wN w - (v + 1)).toNat < mm by omega) (v + 1) _ (by omega) (by omega) (by omega) ?_ rfl
        unfold nxF at eb ⊢
        rw [foI_s _ _ hv0, ← eb]
        first
          | (rw [if_neg (by intro h; exact c_23 h.1)])
          | (rw [if_pos (And.intro c_23 (Or.inl c_28))])
          | (rw [if_pos (And.intro c_23 (Or.inr c_50))])
          | (rw [if_neg (by rintro ⟨-, h⟩; omega)])
      · skip
        refine r_iload_3 C dX0_nextOf_26 ?_
        refine r_iconst C dX0_nextOf_27 ?_
        refine r_if_icmpeq (tgt := 54) C dX0_nextOf_28 (by decide) (fun c_28 => ?_) (fun c_28 => ?_) (by unfold inR; omega)
        · skip
          refine r_iload_4 C dX0_nextOf_54 ?_
          refine r_istore_3 C dX0_nextOf_56 ?_
          refine r_iinc_4 C dX0_nextOf_57 ?_
          refine r_goto (tgt := 5) C dX0_nextOf_60 (by decide) ?_
          refine ih _ (show (wN w - (v + 1)).toNat < mm by omega) (v + 1) _ (by omega) (by omega) (by omega) ?_ rfl
          unfold nxF at eb ⊢
          rw [foI_s _ _ hv0, ← eb]
          first
            | (rw [if_neg (by intro h; exact c_23 h.1)])
            | (rw [if_pos (And.intro c_23 (Or.inl c_28))])
            | (rw [if_pos (And.intro c_23 (Or.inr c_50))])
            | (rw [if_neg (by rintro ⟨-, h⟩; omega)])
        · skip
          have hb2 : 0 ≤ b ∧ b < wN w := by omega
          have hmb := hd.mov hnd.1 hnd.2 hb2.1 hb2.2
          refine r_aload_0 C dX0_nextOf_31 ?_
          refine gG_is C q352 dX0_nextOf_32 ?_
          refine r_iload_1 C dX0_nextOf_35 ?_
          refine r_iload_4 C dX0_nextOf_36 ?_
          refine r_cVN2l C (c_X4_moves_I hG (F := w 5) (wd := wWd w) hd.g hS.2.1 hS.2.2.1 hS.2.2.2.1 hnd ⟨hv0, c_14⟩) (q0 := 16) rfl rfl q880 pkX4_moves dX0_nextOf_38 (fun z w h => ?_)
          obtain ⟨rfl, rfl⟩ := h
          refine r_topl (wMv w nd v) rfl ?_
          refine r_aload_0 C dX0_nextOf_41 ?_
          refine gG_is C q352 dX0_nextOf_42 ?_
          refine r_iload_1 C dX0_nextOf_45 ?_
          refine r_iload_3 C dX0_nextOf_46 ?_
          refine r_cVN2l C (c_X4_moves_I hG (F := w 5) (wd := wWd w) hd.g hS.2.1 hS.2.2.1 hS.2.2.2.1 hnd hb2) (q0 := 16) rfl rfl q880 pkX4_moves dX0_nextOf_47 (fun z w h => ?_)
          obtain ⟨rfl, rfl⟩ := h
          refine r_topl (wMv w nd b) rfl ?_
          refine r_lcmp_ifle (tgt := 57) C dX0_nextOf_50 dX0_nextOf_51 (by decide) (fun c_50 => ?_) (fun c_50 => ?_)
          · skip
            refine r_iinc_4 C dX0_nextOf_57 ?_
            refine r_goto (tgt := 5) C dX0_nextOf_60 (by decide) ?_
            refine ih _ (show (wN w - (v + 1)).toNat < mm by omega) (v + 1) _ (by omega) (by omega) (by omega) ?_ rfl
            unfold nxF at eb ⊢
            rw [foI_s _ _ hv0, ← eb]
            first
              | (rw [if_neg (by intro h; exact c_23 h.1)])
              | (rw [if_pos (And.intro c_23 (Or.inl c_28))])
              | (rw [if_pos (And.intro c_23 (Or.inr c_50))])
              | (rw [if_neg (by rintro ⟨-, h⟩; omega)])
          · skip
            refine r_iload_4 C dX0_nextOf_54 ?_
            refine r_istore_3 C dX0_nextOf_56 ?_
            refine r_iinc_4 C dX0_nextOf_57 ?_
            refine r_goto (tgt := 5) C dX0_nextOf_60 (by decide) ?_
            refine ih _ (show (wN w - (v + 1)).toNat < mm by omega) (v + 1) _ (by omega) (by omega) (by omega) ?_ rfl
            unfold nxF at eb ⊢
            rw [foI_s _ _ hv0, ← eb]
            first
              | (rw [if_neg (by intro h; exact c_23 h.1)])
              | (rw [if_pos (And.intro c_23 (Or.inl c_28))])
              | (rw [if_pos (And.intro c_23 (Or.inr c_50))])
              | (rw [if_neg (by rintro ⟨-, h⟩; omega)])
  refine r_iconst C dX0_nextOf_0 ?_
  refine r_istore_3 C dX0_nextOf_1 ?_
  refine r_iconst C dX0_nextOf_2 ?_
  refine r_istore_4 C dX0_nextOf_3 ?_
  exact key _ 0 (-1) (by omega) (by omega) (by omega) rfl rfl
theorem c_X0_mostOf (hG : Gok g) {nd : Int} {w : Int → Int} (hd : Gd w) (hW : NW w n_width n_from n_to n_load n_group n_budget n_columns n_rows n_limit n_wear n_straps n_pads n_lines) (hS : SS w i_reached i_place i_table i_drop i_size i_whole) (hnd : 0 ≤ nd ∧ nd < wN w) : XMet g yX0_mostOf cX0_mostOf 7 (some .long) (5) 0 0 [.ref (σ 0), .int (jI nd)] (wX g σ x_tape x_taped x_faultKind x_faultPlace x_bestStarved x_bestMost x_bestWhole x_draws x_left x_mosts x_widened x_drawn x_img n_width n_from n_to n_load n_group n_budget n_columns n_rows n_limit n_wear n_straps n_pads n_lines n_mod n_asz n_el i_width i_load i_pads i_reached i_place i_table i_drop i_size i_whole t_width t_load t_pads t_reached t_place t_table t_drop t_size t_whole ++ ex) (pL (fun z ww => z = wMo w nd ∧ ∃ db lf, (∀ g, 0 ≤ g → g < 4 → lf g = (wDw w nd).1 g) ∧ (∀ v, 0 ≤ v → v < wN w → db v = (wDw w nd).2 v) ∧ ww = (wX g σ x_tape x_taped x_faultKind x_faultPlace x_bestStarved x_bestMost x_bestWhole (db) (lf) x_mosts x_widened x_drawn x_img n_width n_from n_to n_load n_group n_budget n_columns n_rows n_limit n_wear n_straps n_pads n_lines n_mod n_asz n_el i_width i_load i_pads i_reached i_place i_table i_drop i_size i_whole t_width t_load t_pads t_reached t_place t_table t_drop t_size t_whole ++ ex))) := by
  refine XMet.of (L := [some (.ref (σ 0)), some (.int (jI nd)), none, none, none, none, none]) hG (by decide +kernel) (Nat.le_of_ble_eq_true rfl) rfl (fun K C E => ?_)
  have hn := hd.n
  have hp5 := hd.p5
  have hr5 := hd.r
  obtain ⟨o, c, ho⟩ := exO (w := w) (nd := nd) (by omega)
  have hc := ho.1
  have hre : i_reached = wR w := hS.1
  have key2 : ∀ (mm : Nat), ∀ (i s t : Int) (db lf : Int → Int) (l5 l6 : Option Value), (0 ≤ i) → (i ≤ c) → (0 ≤ s ∧ s < 512) → (SetO o i c s) → (DrEq w (lf, db) (drF w o i)) → (DrOk w (drF w o i)) → (∀ j, i ≤ j → j < c → db (o j) = 0) → (0 ≤ t ∧ t ≤ 850403524608 * i) → (t = foI (fun v s => s + wMv w nd v * db v) 0 (wN w)) → (c - i).toNat = mm → AW g K (wX g σ x_tape x_taped x_faultKind x_faultPlace x_bestStarved x_bestMost x_bestWhole (db) (lf) x_mosts x_widened x_drawn x_img n_width n_from n_to n_load n_group n_budget n_columns n_rows n_limit n_wear n_straps n_pads n_lines n_mod n_asz n_el i_width i_load i_pads i_reached i_place i_table i_drop i_size i_whole t_width t_load t_pads t_reached t_place t_table t_drop t_size t_whole ++ ex) 0 0 68 [some (.ref (σ 0)), some (.int (jI nd)), some (.int (jI s)), some (.long (jL t)), none, l5, l6] [] := by
    intro mm
    induction mm using Nat.strongRecOn with
    | _ mm ih =>
    intro i s t db lf l5 l6 hi0 hi hs hO hE hK hz ht et hm
    refine r_iload_2 C dX0_mostOf_68 ?_
    refine r_ifeq (tgt := 214) C dX0_mostOf_69 (by decide) (fun c_69 => ?_) (fun c_69 => ?_)
    · skip
      refine r_lload_3 C dX0_mostOf_214 ?_
      refine r_lreturn C E dX0_mostOf_215 ?_
      have e : i = c := by
        by_cases q : i < c
        · exact absurd c_69 (setO_1 ho hO hi0 q)
        · omega
      subst e
      rw [← wDw_eq ho] at hE
      refine ⟨_, rfl, ?_, db, lf, hE.1, hE.2, rfl⟩
      rw [et]
      exact sum_cong hE.2
    · skip
      have hic : i < c := by
        by_cases q : i < c
        · exact q
        · exact absurd (setO_0 hO (by omega) hs.1 hs.2) c_69
      have hnx := nx_eq ho hO hi0 hic
      have hok := ho.2.2.1 i hi0 hic
      have hld := hd.ld (o i) hok.1 (by omega)
      have hgr := hd.gr (o i) hok.1 (by omega)
      have hmv := hd.mov hnd.1 hnd.2 hok.1 hok.2.1
      have hP := bsP_9 hok.1 (show o i < 9 by omega)
      have hP0 := bsP_0 (k := o i)
      have hl0 := hK.1 0 (by omega) (by omega)
      have hlg := hK.1 (w (15 + o i)) (by omega) (by omega)
      have e0 : lf 0 = _ := hE.1 0 (by omega) (by omega)
      have eg : lf (w (15 + o i)) = _ := hE.1 (w (15 + o i)) (by omega) (by omega)
      have hNe : drN w lf (o i) = _ := drN_eq hd hok.1 hok.2.1 hE.1
      have hNi := drN_in hd hok.1 hok.2.1 hK.1
      have hgx := hW.gr (o i) hok.1 (by omega)
      have hlx := hW.ld (o i) hok.1 (by omega)
      have hm0 : 0 ≤ drN w lf (o i) * wMv w nd (o i) := Int.mul_nonneg (by omega) hmv.1
      have hm1 : drN w lf (o i) * wMv w nd (o i) ≤ 99 * 8589934592 := Int.mul_le_mul (by omega) hmv.2 hmv.1 (by omega)
      have hstep : DrEq w (drT w (o i) (lf, db)) (drF w o (i + 1)) := by
        unfold drF at hE ⊢
        rw [foI_s _ _ hi0]
        exact drT_eq hd hok.1 hok.2.1 hE
      have hK' : DrOk w (drF w o (i + 1)) := by
        unfold drF at hK ⊢
        rw [foI_s _ _ hi0]
        exact drT_ok hd hok.1 hok.2.1 hK
      have hsum : t + drN w lf (o i) * wMv w nd (o i) = foI (fun v s => s + wMv w nd v * aset db (o i) (drN w lf (o i)) v) 0 (wN w) := by
        rw [sum_aset hok.1 (by omega), ← et, if_pos hok.2.1, hz i (Int.le_refl _) hic, Int.sub_zero, Int.mul_comm]
      have hz' : ∀ j, i + 1 ≤ j → j < c → aset db (o i) (drN w lf (o i)) (o j) = 0 := fun j a b => by
        have h3 := ho.2.1 i j hi0 (by omega) b
        rw [aset_ne (fun q => by rw [q] at h3; exact ahB_as h3 h3)]
        exact hz j (by omega) b
      have hs' : 0 ≤ bsD s (bsP (o i)) ∧ bsD s (bsP (o i)) < 512 := ⟨bsD_0, by have := bsD_lt (a := s) (b := bsP (o i)) (n := 9) (by have : ((2 ^ 9 : Nat) : Int) = 512 := rfl; omega); simpa using this⟩
      refine r_aload_0 C dX0_mostOf_72 ?_
      refine r_iload_1 C dX0_mostOf_73 ?_
      refine r_iload_2 C dX0_mostOf_74 ?_
      refine r_cV2i C (c_X0_nextOf hG hd hW hS hnd hs) (q0 := 0) rfl rfl q910 pkX0_nextOf dX0_mostOf_75 (fun z w h => ?_)
      obtain ⟨rfl, rfl⟩ := h
      refine r_topi (o i) hnx ?_
      refine r_istore_5 C dX0_mostOf_78 ?_
      refine r_iload_2 C dX0_mostOf_80 ?_
      refine r_iconst C dX0_mostOf_81 ?_
      refine r_iload_5 C dX0_mostOf_82 ?_
      refine r_ishl C (_) dX0_mostOf_84 (jI_shl (by omega) (by omega)) ?_
      refine r_iconst C dX0_mostOf_85 ?_
      refine r_ixor C (_) dX0_mostOf_86 (jI_not (by omega)) ?_
      refine r_iand C (_) dX0_mostOf_87 (jI_andn (by omega) (by omega)) ?_
      refine r_istore_2 C dX0_mostOf_88 ?_
      refine r_aload_0 C dX0_mostOf_89 ?_
      refine gG_now C q346 dX0_mostOf_90 ?_
      refine gTN_group C q212 dX0_mostOf_93 ?_
      refine r_iload_5 C dX0_mostOf_96 ?_
      refine ld_n_group C dX0_mostOf_98 ?_
      refine r_topi (w (15 + o i)) hgx ?_
      refine r_istore_6 C dX0_mostOf_99 ?_
      refine r_aload_0 C dX0_mostOf_101 ?_
      refine gG_draws C q357 dX0_mostOf_102 ?_
      refine r_iload_5 C dX0_mostOf_105 ?_
      refine r_aload_0 C dX0_mostOf_107 ?_
      refine gG_now C q346 dX0_mostOf_108 ?_
      refine gTN_load C q209 dX0_mostOf_111 ?_
      refine r_iload_5 C dX0_mostOf_114 ?_
      refine ld_n_load C dX0_mostOf_116 ?_
      refine r_topi (w (6 + o i)) hlx ?_
      refine r_iload_6 C dX0_mostOf_117 ?_
      refine r_ifne (tgt := 131) C dX0_mostOf_119 (by decide) (fun c_119 => ?_) (fun c_119 => ?_)
      · skip
        refine r_aload_0 C dX0_mostOf_131 ?_
        refine gG_left C q358 dX0_mostOf_132 ?_
        refine r_iconst C dX0_mostOf_135 ?_
        refine ld_x_left C dX0_mostOf_136 ?_
        refine r_aload_0 C dX0_mostOf_137 ?_
        refine gG_left C q358 dX0_mostOf_138 ?_
        refine r_iload_6 C dX0_mostOf_141 ?_
        refine ld_x_left C dX0_mostOf_143 ?_
        refine r_mmin C q769 dX0_mostOf_144 ?_ (hd := by omega) (ha := by unfold inR; rw [e0]; omega) (hb0 := by unfold inR; rw [eg]; omega)
        refine r_mmin C q769 dX0_mostOf_147 ?_ (hd := by omega) (ha := by unfold inR; omega) (hb0 := by unfold inR; first | (rw [e0, eg]; split <;> omega) | (rw [e0]; omega))
        refine r_topi (drN w lf (o i)) (by first | rfl | exact (drN_g (by omega)).symm) ?_
        refine st_x_draws C dX0_mostOf_150 ?_
        refine r_aload_0 C dX0_mostOf_151 ?_
        refine gG_left C q358 dX0_mostOf_152 ?_
        refine r_iconst C dX0_mostOf_155 ?_
        refine r_dup2 C dX0_mostOf_156 ?_
        refine ld_x_left C dX0_mostOf_157 ?_
        refine r_aload_0 C dX0_mostOf_158 ?_
        refine gG_draws C q357 dX0_mostOf_159 ?_
        refine r_iload_5 C dX0_mostOf_162 ?_
        refine ld_x_draws C dX0_mostOf_164 ?_
        refine r_topi (drN w lf (o i)) (aset_at _ _ _) ?_
        refine r_isub C dX0_mostOf_165 ?_
        refine st_x_left C dX0_mostOf_166 ?_
        refine r_iload_6 C dX0_mostOf_167 ?_
        refine r_ifle (tgt := 189) C dX0_mostOf_169 (by decide) (fun c_169 => ?_) (fun c_169 => ?_)
        · skip
          refine r_lload_3 C dX0_mostOf_189 ?_
          refine r_aload_0 C dX0_mostOf_190 ?_
          refine gG_draws C q357 dX0_mostOf_191 ?_
          refine r_iload_5 C dX0_mostOf_194 ?_
          refine ld_x_draws C dX0_mostOf_196 ?_
          refine r_topi (drN w lf (o i)) (aset_at _ _ _) ?_
          refine r_i2l C dX0_mostOf_197 ?_
          refine r_aload_0 C dX0_mostOf_198 ?_
          refine gG_is C q352 dX0_mostOf_199 ?_
          refine r_iload_1 C dX0_mostOf_202 ?_
          refine r_iload_5 C dX0_mostOf_203 ?_
          refine r_cVN2l C (c_X4_moves_I hG (F := w 5) (wd := wWd w) hd.g hS.2.1 hS.2.2.1 hS.2.2.2.1 hnd ⟨hok.1, hok.2.1⟩) (q0 := 16) rfl rfl q880 pkX4_moves dX0_mostOf_205 (fun z w h => ?_)
          obtain ⟨rfl, rfl⟩ := h
          refine r_topl (wMv w nd (o i)) rfl ?_
          refine r_lmul C dX0_mostOf_208 ?_
          refine r_ladd C dX0_mostOf_209 ?_
          refine r_lstore_3 C dX0_mostOf_210 ?_
          refine r_goto (tgt := 68) C dX0_mostOf_211 (by decide) ?_
          refine ih _ (show (c - (i + 1)).toNat < mm by omega) (i + 1) _ _ _ _ _ _ (by omega) (by omega) hs' (hO.step ho hi0 hic) ?_ hK' hz' (by omega) hsum rfl
          unfold drT drL at hstep
          first
            | (rw [if_pos (show 0 < w (15 + o i) by omega)] at hstep; exact hstep)
            | (rw [if_neg (show ¬ 0 < w (15 + o i) by omega)] at hstep; exact hstep)
        · skip
          refine r_aload_0 C dX0_mostOf_172 ?_
          refine gG_left C q358 dX0_mostOf_173 ?_
          refine r_iload_6 C dX0_mostOf_176 ?_
          refine r_dup2 C dX0_mostOf_178 ?_
          refine ld_x_left C dX0_mostOf_179 ?_
          refine r_aload_0 C dX0_mostOf_180 ?_
          refine gG_draws C q357 dX0_mostOf_181 ?_
          refine r_iload_5 C dX0_mostOf_184 ?_
          refine ld_x_draws C dX0_mostOf_186 ?_
          refine r_topi (drN w lf (o i)) (aset_at _ _ _) ?_
          refine r_isub C dX0_mostOf_187 ?_
          refine st_x_left C dX0_mostOf_188 ?_
          refine r_lload_3 C dX0_mostOf_189 ?_
          refine r_aload_0 C dX0_mostOf_190 ?_
          refine gG_draws C q357 dX0_mostOf_191 ?_
          refine r_iload_5 C dX0_mostOf_194 ?_
          refine ld_x_draws C dX0_mostOf_196 ?_
          refine r_topi (drN w lf (o i)) (aset_at _ _ _) ?_
          refine r_i2l C dX0_mostOf_197 ?_
          refine r_aload_0 C dX0_mostOf_198 ?_
          refine gG_is C q352 dX0_mostOf_199 ?_
          refine r_iload_1 C dX0_mostOf_202 ?_
          refine r_iload_5 C dX0_mostOf_203 ?_
          refine r_cVN2l C (c_X4_moves_I hG (F := w 5) (wd := wWd w) hd.g hS.2.1 hS.2.2.1 hS.2.2.2.1 hnd ⟨hok.1, hok.2.1⟩) (q0 := 16) rfl rfl q880 pkX4_moves dX0_mostOf_205 (fun z w h => ?_)
          obtain ⟨rfl, rfl⟩ := h
          refine r_topl (wMv w nd (o i)) rfl ?_
          refine r_lmul C dX0_mostOf_208 ?_
          refine r_ladd C dX0_mostOf_209 ?_
          refine r_lstore_3 C dX0_mostOf_210 ?_
          refine r_goto (tgt := 68) C dX0_mostOf_211 (by decide) ?_
          refine ih _ (show (c - (i + 1)).toNat < mm by omega) (i + 1) _ _ _ _ _ _ (by omega) (by omega) hs' (hO.step ho hi0 hic) ?_ hK' hz' (by omega) hsum rfl
          unfold drT drL at hstep
          first
            | (rw [if_pos (show 0 < w (15 + o i) by omega)] at hstep; exact hstep)
            | (rw [if_neg (show ¬ 0 < w (15 + o i) by omega)] at hstep; exact hstep)
      · skip
        refine r_aload_0 C dX0_mostOf_122 ?_
        refine gG_left C q358 dX0_mostOf_123 ?_
        refine r_iconst C dX0_mostOf_126 ?_
        refine ld_x_left C dX0_mostOf_127 ?_
        refine r_goto (tgt := 147) C dX0_mostOf_128 (by decide) ?_
        refine r_mmin C q769 dX0_mostOf_147 ?_ (hd := by omega) (ha := by unfold inR; omega) (hb0 := by unfold inR; first | (rw [e0, eg]; split <;> omega) | (rw [e0]; omega))
        refine r_topi (drN w lf (o i)) (by first | rfl | exact (drN_g (by omega)).symm) ?_
        refine st_x_draws C dX0_mostOf_150 ?_
        refine r_aload_0 C dX0_mostOf_151 ?_
        refine gG_left C q358 dX0_mostOf_152 ?_
        refine r_iconst C dX0_mostOf_155 ?_
        refine r_dup2 C dX0_mostOf_156 ?_
        refine ld_x_left C dX0_mostOf_157 ?_
        refine r_aload_0 C dX0_mostOf_158 ?_
        refine gG_draws C q357 dX0_mostOf_159 ?_
        refine r_iload_5 C dX0_mostOf_162 ?_
        refine ld_x_draws C dX0_mostOf_164 ?_
        refine r_topi (drN w lf (o i)) (aset_at _ _ _) ?_
        refine r_isub C dX0_mostOf_165 ?_
        refine st_x_left C dX0_mostOf_166 ?_
        refine r_iload_6 C dX0_mostOf_167 ?_
        refine r_ifle (tgt := 189) C dX0_mostOf_169 (by decide) (fun c_169 => ?_) (fun c_169 => ?_)
        · skip
          refine r_lload_3 C dX0_mostOf_189 ?_
          refine r_aload_0 C dX0_mostOf_190 ?_
          refine gG_draws C q357 dX0_mostOf_191 ?_
          refine r_iload_5 C dX0_mostOf_194 ?_
          refine ld_x_draws C dX0_mostOf_196 ?_
          refine r_topi (drN w lf (o i)) (aset_at _ _ _) ?_
          refine r_i2l C dX0_mostOf_197 ?_
          refine r_aload_0 C dX0_mostOf_198 ?_
          refine gG_is C q352 dX0_mostOf_199 ?_
          refine r_iload_1 C dX0_mostOf_202 ?_
          refine r_iload_5 C dX0_mostOf_203 ?_
          refine r_cVN2l C (c_X4_moves_I hG (F := w 5) (wd := wWd w) hd.g hS.2.1 hS.2.2.1 hS.2.2.2.1 hnd ⟨hok.1, hok.2.1⟩) (q0 := 16) rfl rfl q880 pkX4_moves dX0_mostOf_205 (fun z w h => ?_)
          obtain ⟨rfl, rfl⟩ := h
          refine r_topl (wMv w nd (o i)) rfl ?_
          refine r_lmul C dX0_mostOf_208 ?_
          refine r_ladd C dX0_mostOf_209 ?_
          refine r_lstore_3 C dX0_mostOf_210 ?_
          refine r_goto (tgt := 68) C dX0_mostOf_211 (by decide) ?_
          refine ih _ (show (c - (i + 1)).toNat < mm by omega) (i + 1) _ _ _ _ _ _ (by omega) (by omega) hs' (hO.step ho hi0 hic) ?_ hK' hz' (by omega) hsum rfl
          unfold drT drL at hstep
          first
            | (rw [if_pos (show 0 < w (15 + o i) by omega)] at hstep; exact hstep)
            | (rw [if_neg (show ¬ 0 < w (15 + o i) by omega)] at hstep; exact hstep)
        · skip
          refine r_aload_0 C dX0_mostOf_172 ?_
          refine gG_left C q358 dX0_mostOf_173 ?_
          refine r_iload_6 C dX0_mostOf_176 ?_
          refine r_dup2 C dX0_mostOf_178 ?_
          refine ld_x_left C dX0_mostOf_179 ?_
          refine r_aload_0 C dX0_mostOf_180 ?_
          refine gG_draws C q357 dX0_mostOf_181 ?_
          refine r_iload_5 C dX0_mostOf_184 ?_
          refine ld_x_draws C dX0_mostOf_186 ?_
          refine r_topi (drN w lf (o i)) (aset_at _ _ _) ?_
          refine r_isub C dX0_mostOf_187 ?_
          refine st_x_left C dX0_mostOf_188 ?_
          refine r_lload_3 C dX0_mostOf_189 ?_
          refine r_aload_0 C dX0_mostOf_190 ?_
          refine gG_draws C q357 dX0_mostOf_191 ?_
          refine r_iload_5 C dX0_mostOf_194 ?_
          refine ld_x_draws C dX0_mostOf_196 ?_
          refine r_topi (drN w lf (o i)) (aset_at _ _ _) ?_
          refine r_i2l C dX0_mostOf_197 ?_
          refine r_aload_0 C dX0_mostOf_198 ?_
          refine gG_is C q352 dX0_mostOf_199 ?_
          refine r_iload_1 C dX0_mostOf_202 ?_
          refine r_iload_5 C dX0_mostOf_203 ?_
          refine r_cVN2l C (c_X4_moves_I hG (F := w 5) (wd := wWd w) hd.g hS.2.1 hS.2.2.1 hS.2.2.2.1 hnd ⟨hok.1, hok.2.1⟩) (q0 := 16) rfl rfl q880 pkX4_moves dX0_mostOf_205 (fun z w h => ?_)
          obtain ⟨rfl, rfl⟩ := h
          refine r_topl (wMv w nd (o i)) rfl ?_
          refine r_lmul C dX0_mostOf_208 ?_
          refine r_ladd C dX0_mostOf_209 ?_
          refine r_lstore_3 C dX0_mostOf_210 ?_
          refine r_goto (tgt := 68) C dX0_mostOf_211 (by decide) ?_
          refine ih _ (show (c - (i + 1)).toNat < mm by omega) (i + 1) _ _ _ _ _ _ (by omega) (by omega) hs' (hO.step ho hi0 hic) ?_ hK' hz' (by omega) hsum rfl
          unfold drT drL at hstep
          first
            | (rw [if_pos (show 0 < w (15 + o i) by omega)] at hstep; exact hstep)
            | (rw [if_neg (show ¬ 0 < w (15 + o i) by omega)] at hstep; exact hstep)
  have key1 : ∀ (mm : Nat), ∀ (v s : Int) (db lf : Int → Int), (0 ≤ v) → (v ≤ wN w) → (0 ≤ s ∧ s < 512) → (∀ x, 0 ≤ x → (bsB s x = true ↔ x < v ∧ bsB (wR w) x = true)) → (∀ u, 0 ≤ u → u < v → db u = 0) → (∀ g, 0 ≤ g → g < 4 → lf g = w (24 + g)) → (wN w - v).toNat = mm → AW g K (wX g σ x_tape x_taped x_faultKind x_faultPlace x_bestStarved x_bestMost x_bestWhole (db) (lf) x_mosts x_widened x_drawn x_img n_width n_from n_to n_load n_group n_budget n_columns n_rows n_limit n_wear n_straps n_pads n_lines n_mod n_asz n_el i_width i_load i_pads i_reached i_place i_table i_drop i_size i_whole t_width t_load t_pads t_reached t_place t_table t_drop t_size t_whole ++ ex) 0 0 21 [some (.ref (σ 0)), some (.int (jI nd)), some (.int (jI s)), some (.int (jI v)), none, none, none] [] := by
    intro mm
    induction mm using Nat.strongRecOn with
    | _ mm ih =>
    intro v s db lf hv0 hv hs hb hdb hlf hm
    refine r_iload_3 C dX0_mostOf_21 ?_
    refine r_aload_0 C dX0_mostOf_22 ?_
    refine gG_now C q346 dX0_mostOf_23 ?_
    refine r_cV0i C (c_X1_many hG) (q0 := 7) rfl rfl q768 pkX1_many dX0_mostOf_26 (fun z w h => ?_)
    obtain ⟨rfl, rfl⟩ := h
    refine r_topi (wN w) (by rw [hW.c, hW.r]; rfl) ?_
    refine r_if_icmpge (tgt := 66) C dX0_mostOf_29 (by decide) (fun c_29 => ?_) (fun c_29 => ?_)
    · skip
      refine r_lconst0 C dX0_mostOf_66 ?_
      refine r_lstore_3 C dX0_mostOf_67 ?_
      have e : v = wN w := by omega
      subst e
      refine key2 _ 0 s 0 db lf _ _ (by omega) hc.1 hs (fun x hx => ?_) ⟨hlf, hdb⟩ (drF_ok hd (Int.le_refl 0) (fun i _ _ => by omega)) (fun j a b => hdb _ (ho.2.2.1 j a b).1 (ho.2.2.1 j a b).2.1) (by omega) (sum_zero (by omega) hdb).symm rfl
      rw [hb x hx]
      constructor
      · rintro ⟨q1, q2⟩; exact ho.2.2.2 x hx q1 q2
      · rintro ⟨j, j0, j1, ej⟩
        have := ho.2.2.1 j j0 j1
        rw [ej] at this
        exact ⟨this.2.1, this.2.2⟩
    · skip
      have hnb : isNb w v = true := by unfold isNb; exact decide_eq_true (by omega)
      have hP := bsP_9 hv0 (show v < 9 by omega)
      have hP0 := bsP_0 (k := v)
      refine r_aload_0 C dX0_mostOf_32 ?_
      refine gG_draws C q357 dX0_mostOf_33 ?_
      refine r_iload_3 C dX0_mostOf_36 ?_
      refine r_iconst C dX0_mostOf_37 ?_
      refine st_x_draws C dX0_mostOf_38 ?_
      refine r_iload_2 C dX0_mostOf_39 ?_
      refine r_aload_0 C dX0_mostOf_40 ?_
      refine gG_is C q352 dX0_mostOf_41 ?_
      refine r_iload_3 C dX0_mostOf_44 ?_
      refine r_cV1i C (c_X4_isLive_I hG (by unfold inR; omega) hW.c hW.r (by omega) (by omega)) (q0 := 16) rfl rfl q779 pkX4_isLive dX0_mostOf_45 (fun z w h => ?_)
      obtain ⟨rfl, rfl⟩ := h
      refine r_ifeqB (tgt := 57) C dX0_mostOf_48 (by decide) (fun c_48 => ?_) (fun c_48 => ?_)
      · skip
        refine r_iconst C dX0_mostOf_57 ?_
        refine r_ior C (_) dX0_mostOf_58 (jI_or (by omega) (by omega)) ?_
        refine r_istore_2 C dX0_mostOf_59 ?_
        refine r_iinc_3 C dX0_mostOf_60 ?_
        refine r_goto (tgt := 21) C dX0_mostOf_63 (by decide) ?_
        rw [hnb, hre, Bool.true_and] at c_48
        refine ih _ (show (wN w - (v + 1)).toNat < mm by omega) (v + 1) _ _ _ (by omega) (by omega) ⟨bsO_0, bsO_512 hs.2 (by omega)⟩ (fun x hx => ?_) (fun u a b => ?_) hlf rfl
        · first
            | (have h : bsB (wR w) v = true := c_48
               rw [bsB_O, bsB_P hv0 hx, Bool.or_eq_true, hb x hx, decide_eq_true_eq]
               constructor
               · rintro (q | q)
                 · exact ⟨by omega, q.2⟩
                 · rw [q]; exact ⟨by omega, h⟩
               · intro q
                 by_cases e : x = v
                 · exact Or.inr e
                 · exact Or.inl ⟨by omega, q.2⟩)
            | (rw [bsO_z hs.1, hb x hx]
               constructor
               · intro q; exact ⟨by omega, q.2⟩
               · intro q
                 by_cases e : x = v
                 · rw [e] at q; exact absurd q.2 c_48
                 · exact ⟨by omega, q.2⟩)
        · by_cases e : u = v
          · rw [e, aset_at]
          · rw [aset_ne e]; exact hdb u a (by omega)
      · skip
        refine r_iconst C dX0_mostOf_51 ?_
        refine r_iload_3 C dX0_mostOf_52 ?_
        refine r_ishl C (_) dX0_mostOf_53 (jI_shl (by omega) (by omega)) ?_
        refine r_goto (tgt := 58) C dX0_mostOf_54 (by decide) ?_
        refine r_ior C (_) dX0_mostOf_58 (jI_or (by omega) (by omega)) ?_
        refine r_istore_2 C dX0_mostOf_59 ?_
        refine r_iinc_3 C dX0_mostOf_60 ?_
        refine r_goto (tgt := 21) C dX0_mostOf_63 (by decide) ?_
        rw [hnb, hre, Bool.true_and] at c_48
        refine ih _ (show (wN w - (v + 1)).toNat < mm by omega) (v + 1) _ _ _ (by omega) (by omega) ⟨bsO_0, bsO_512 hs.2 (by omega)⟩ (fun x hx => ?_) (fun u a b => ?_) hlf rfl
        · first
            | (have h : bsB (wR w) v = true := c_48
               rw [bsB_O, bsB_P hv0 hx, Bool.or_eq_true, hb x hx, decide_eq_true_eq]
               constructor
               · rintro (q | q)
                 · exact ⟨by omega, q.2⟩
                 · rw [q]; exact ⟨by omega, h⟩
               · intro q
                 by_cases e : x = v
                 · exact Or.inr e
                 · exact Or.inl ⟨by omega, q.2⟩)
            | (rw [bsO_z hs.1, hb x hx]
               constructor
               · intro q; exact ⟨by omega, q.2⟩
               · intro q
                 by_cases e : x = v
                 · rw [e] at q; exact absurd q.2 c_48
                 · exact ⟨by omega, q.2⟩)
        · by_cases e : u = v
          · rw [e, aset_at]
          · rw [aset_ne e]; exact hdb u a (by omega)
  refine r_aload_0 C dX0_mostOf_0 ?_
  refine gG_now C q346 dX0_mostOf_1 ?_
  refine gTN_budget C q215 dX0_mostOf_4 ?_
  refine r_iconst C dX0_mostOf_7 ?_
  refine r_aload_0 C dX0_mostOf_8 ?_
  refine gG_left C q358 dX0_mostOf_9 ?_
  refine r_iconst C dX0_mostOf_12 ?_
  refine r_iconst C dX0_mostOf_13 ?_
  refine cp_n_budget_x_left C q909 dX0_mostOf_14 ?_
  refine r_iconst C dX0_mostOf_17 ?_
  refine r_istore_2 C dX0_mostOf_18 ?_
  refine r_iconst C dX0_mostOf_19 ?_
  refine r_istore_3 C dX0_mostOf_20 ?_
  refine key1 _ 0 0 _ _ (by omega) (by omega) (by omega) (fun x hx => ?_) (fun u _ _ => by omega) (fun g a b => (if_pos (And.intro a b)).trans (hW.bu hd.l.1 g a b)) rfl
  rw [bsB_0]
  constructor
  · intro q; simp at q
  · rintro ⟨q, -⟩; omega
theorem c_X0_most (hG : Gok g) {v p : Int} {w : Int → Int} (hv : inR v) (hp : inR p) (hW : NW w n_width n_from n_to n_load n_group n_budget n_columns n_rows n_limit n_wear n_straps n_pads n_lines) : XMet g yX0_most cX0_most 3 (some .long) (6) 0 0 [.ref (σ 0), .int (jI v), .int (jI p)] (wX g σ x_tape x_taped x_faultKind x_faultPlace x_bestStarved x_bestMost x_bestWhole x_draws x_left x_mosts x_widened x_drawn x_img n_width n_from n_to n_load n_group n_budget n_columns n_rows n_limit n_wear n_straps n_pads n_lines n_mod n_asz n_el i_width i_load i_pads i_reached i_place i_table i_drop i_size i_whole t_width t_load t_pads t_reached t_place t_table t_drop t_size t_whole ++ ex) (pL (fun z ww => z = spMost w v p ∧ PubX g σ ex x_tape x_taped x_faultKind x_faultPlace x_img n_width n_from n_to n_load n_group n_budget n_columns n_rows n_limit n_wear n_straps n_pads n_lines n_mod n_asz n_el ww)) := by
  refine XMet.of (L := [some (.ref (σ 0)), some (.int (jI v)), some (.int (jI p))]) hG (by decide +kernel) (Nat.le_of_ble_eq_true rfl) rfl (fun K C E => ?_)
  have hn := hW.wf.n
  refine r_aload_0 C dX0_most_0 ?_
  refine r_iload_1 C dX0_most_1 ?_
  refine r_cV1i C (c_X0_isNode hG (by assumption) hW.c hW.r hn) (q0 := 0) rfl rfl q764 pkX0_isNode dX0_most_2 (fun z w h => ?_)
  obtain ⟨rfl, rfl⟩ := h
  refine r_ifeqB (tgt := 15) C dX0_most_5 (by decide) (fun c_5 => ?_) (fun c_5 => ?_)
  · skip
    refine r_ldc2 C (-2) q802 dX0_most_15 ?_
    refine r_lreturn C E dX0_most_18 ?_
    exact ⟨_, rfl, by simp [spMost, *], PubX.mk⟩
  · skip
    refine r_iload_2 C dX0_most_8 ?_
    refine r_cS1i C (c_X0_isPart hG hp) q799 pkX0_isPart dX0_most_9 (fun z w h => ?_)
    obtain ⟨rfl, rfl⟩ := h
    refine r_ifneB (tgt := 19) C dX0_most_12 (by decide) (fun c_12 => ?_) (fun c_12 => ?_)
    · skip
      have hd := hW.wf.gdb c_5
      have hvv := isNb_in c_5
      have hmo := wMo_in hd (exO (w := w) (nd := v) (by omega)) hvv.1 hvv.2
      have hw := hd.who
      have hr5 := hd.r
      have hp5 := hd.p5
      refine r_aload_0 C dX0_most_19 ?_
      refine r_cV0a C (c_X0_solved hG hd hW) (q0 := 0) rfl rfl q700 pkX0_solved dX0_most_20 (fun z w h => ?_)
      obtain ⟨rfl, sw, sl, pl, tb, dr, hX, hS, rfl⟩ := h
      refine r_iload_1 C dX0_most_23 ?_
      refine r_cV1i C (c_X4_isLive_I hG hv hW.c hW.r hn (by omega)) (q0 := 16) rfl rfl q779 pkX4_isLive dX0_most_24 (fun z w h => ?_)
      obtain ⟨rfl, rfl⟩ := h
      refine r_ifeqB (tgt := 49) C dX0_most_27 (by decide) (fun c_27 => ?_) (fun c_27 => ?_)
      · skip
        refine r_ldc2 C (-1) q812 dX0_most_49 ?_
        refine r_lreturn C E dX0_most_52 ?_
        rw [c_5, Bool.true_and] at c_27
        refine ⟨_, rfl, ?_, PubX.mk⟩
        simp [spMost, *]
      · skip
        refine r_aload_0 C dX0_most_30 ?_
        refine r_iload_1 C dX0_most_31 ?_
        refine r_cV1l C (c_X0_mostOf hG hd hW hS hvv) (q0 := 0) rfl rfl q905 pkX0_mostOf dX0_most_32 (fun z w h => ?_)
        obtain ⟨rfl, db, lf, hlf, hdb, rfl⟩ := h
        refine r_aload_0 C dX0_most_35 ?_
        refine gG_is C q352 dX0_most_36 ?_
        refine gIN_whole C q298 dX0_most_39 ?_
        refine r_iload_2 C dX0_most_42 ?_
        refine r_cS3l C (c_X0_part hG (by omega) (by omega) hp (by omega)) q803 pkX0_part dX0_most_43 (fun z w h => ?_)
        obtain ⟨rfl, rfl⟩ := h
        refine r_goto (tgt := 52) C dX0_most_46 (by decide) ?_
        refine r_lreturn C E dX0_most_52 ?_
        rw [c_5, Bool.true_and] at c_27
        refine ⟨_, rfl, ?_, PubX.mk⟩
        simp [spMost, *]
    · skip
      refine r_ldc2 C (-2) q802 dX0_most_15 ?_
      refine r_lreturn C E dX0_most_18 ?_
      exact ⟨_, rfl, by simp [spMost, *], PubX.mk⟩
theorem c_X0_drawn (hG : Gok g) {v u : Int} {w : Int → Int} (hv : inR v) (hu : inR u) (hW : NW w n_width n_from n_to n_load n_group n_budget n_columns n_rows n_limit n_wear n_straps n_pads n_lines) : XMet g yX0_drawn cX0_drawn 3 (some .int) (6) 0 0 [.ref (σ 0), .int (jI v), .int (jI u)] (wX g σ x_tape x_taped x_faultKind x_faultPlace x_bestStarved x_bestMost x_bestWhole x_draws x_left x_mosts x_widened x_drawn x_img n_width n_from n_to n_load n_group n_budget n_columns n_rows n_limit n_wear n_straps n_pads n_lines n_mod n_asz n_el i_width i_load i_pads i_reached i_place i_table i_drop i_size i_whole t_width t_load t_pads t_reached t_place t_table t_drop t_size t_whole ++ ex) (pI (fun z ww => z = spDrawn w v u ∧ PubX g σ ex x_tape x_taped x_faultKind x_faultPlace x_img n_width n_from n_to n_load n_group n_budget n_columns n_rows n_limit n_wear n_straps n_pads n_lines n_mod n_asz n_el ww)) := by
  refine XMet.of (L := [some (.ref (σ 0)), some (.int (jI v)), some (.int (jI u))]) hG (by decide +kernel) (Nat.le_of_ble_eq_true rfl) rfl (fun K C E => ?_)
  have hn := hW.wf.n
  refine r_aload_0 C dX0_drawn_0 ?_
  refine r_iload_1 C dX0_drawn_1 ?_
  refine r_cV1i C (c_X0_isNode hG (by assumption) hW.c hW.r hn) (q0 := 0) rfl rfl q764 pkX0_isNode dX0_drawn_2 (fun z w h => ?_)
  obtain ⟨rfl, rfl⟩ := h
  refine r_ifeqB (tgt := 16) C dX0_drawn_5 (by decide) (fun c_5 => ?_) (fun c_5 => ?_)
  · skip
    refine r_bipush C dX0_drawn_16 ?_
    refine r_ireturn C E dX0_drawn_18 ?_
    exact ⟨_, rfl, by simp [spDrawn, *], PubX.mk⟩
  · skip
    refine r_aload_0 C dX0_drawn_8 ?_
    refine r_iload_2 C dX0_drawn_9 ?_
    refine r_cV1i C (c_X0_isNode hG (by assumption) hW.c hW.r hn) (q0 := 0) rfl rfl q764 pkX0_isNode dX0_drawn_10 (fun z w h => ?_)
    obtain ⟨rfl, rfl⟩ := h
    refine r_ifneB (tgt := 19) C dX0_drawn_13 (by decide) (fun c_13 => ?_) (fun c_13 => ?_)
    · skip
      have hd := hW.wf.gdb c_5
      have hvv := isNb_in c_5
      have huu := isNb_in c_13
      have hr5 := hd.r
      have hp5 := hd.p5
      refine r_aload_0 C dX0_drawn_19 ?_
      refine r_cV0a C (c_X0_solved hG hd hW) (q0 := 0) rfl rfl q700 pkX0_solved dX0_drawn_20 (fun z w h => ?_)
      obtain ⟨rfl, sw, sl, pl, tb, dr, hX, hS, rfl⟩ := h
      refine r_iload_1 C dX0_drawn_23 ?_
      refine r_cV1i C (c_X4_isLive_I hG hv hW.c hW.r hn (by omega)) (q0 := 16) rfl rfl q779 pkX4_isLive dX0_drawn_24 (fun z w h => ?_)
      obtain ⟨rfl, rfl⟩ := h
      refine r_ifneB (tgt := 32) C dX0_drawn_27 (by decide) (fun c_27 => ?_) (fun c_27 => ?_)
      · skip
        refine r_aload_0 C dX0_drawn_32 ?_
        refine r_iload_1 C dX0_drawn_33 ?_
        refine r_cV1l C (c_X0_mostOf hG hd hW hS hvv) (q0 := 0) rfl rfl q905 pkX0_mostOf dX0_drawn_34 (fun z w h => ?_)
        obtain ⟨rfl, db, lf, hlf, hdb, rfl⟩ := h
        have hdu := hdb u huu.1 huu.2
        refine r_pop2 C dX0_drawn_37 ?_
        refine r_aload_0 C dX0_drawn_38 ?_
        refine gG_draws C q357 dX0_drawn_39 ?_
        refine r_iload_2 C dX0_drawn_42 ?_
        refine ld_x_draws C dX0_drawn_43 ?_
        refine r_ireturn C E dX0_drawn_44 ?_
        rw [c_5, Bool.true_and] at c_27
        refine ⟨_, rfl, ?_, PubX.mk⟩
        rw [hdu]
        simp [spDrawn, c_5, c_13, c_27]
      · skip
        refine r_iconst C dX0_drawn_30 ?_
        refine r_ireturn C E dX0_drawn_31 ?_
        rw [c_5, Bool.true_and] at c_27
        exact ⟨_, rfl, by simp [spDrawn, *], PubX.mk⟩
    · skip
      refine r_bipush C dX0_drawn_16 ?_
      refine r_ireturn C E dX0_drawn_18 ?_
      exact ⟨_, rfl, by simp [spDrawn, *], PubX.mk⟩
theorem c_X0_tight (hG : Gok g) {v : Int} {w : Int → Int} (hv : inR v) (hW : NW w n_width n_from n_to n_load n_group n_budget n_columns n_rows n_limit n_wear n_straps n_pads n_lines) : XMet g yX0_tight cX0_tight 4 (some .int) (6) 0 0 [.ref (σ 0), .int (jI v)] (wX g σ x_tape x_taped x_faultKind x_faultPlace x_bestStarved x_bestMost x_bestWhole x_draws x_left x_mosts x_widened x_drawn x_img n_width n_from n_to n_load n_group n_budget n_columns n_rows n_limit n_wear n_straps n_pads n_lines n_mod n_asz n_el i_width i_load i_pads i_reached i_place i_table i_drop i_size i_whole t_width t_load t_pads t_reached t_place t_table t_drop t_size t_whole ++ ex) (pI (fun z ww => z = spTight w v ∧ PubX g σ ex x_tape x_taped x_faultKind x_faultPlace x_img n_width n_from n_to n_load n_group n_budget n_columns n_rows n_limit n_wear n_straps n_pads n_lines n_mod n_asz n_el ww)) := by
  refine XMet.of (L := [some (.ref (σ 0)), some (.int (jI v)), none, none]) hG (by decide +kernel) (Nat.le_of_ble_eq_true rfl) rfl (fun K C E => ?_)
  have hn := hW.wf.n
  refine r_aload_0 C dX0_tight_0 ?_
  refine r_iload_1 C dX0_tight_1 ?_
  refine r_cV1i C (c_X0_isNode hG (by assumption) hW.c hW.r hn) (q0 := 0) rfl rfl q764 pkX0_isNode dX0_tight_2 (fun z w h => ?_)
  obtain ⟨rfl, rfl⟩ := h
  refine r_ifneB (tgt := 11) C dX0_tight_5 (by decide) (fun c_5 => ?_) (fun c_5 => ?_)
  · skip
    have hd := hW.wf.gdb c_5
    have hvv := isNb_in c_5
    have hr5 := hd.r
    have hp5 := hd.p5
    have hk := (exO (w := w) (nd := v) (by omega)).ok hd
    refine r_aload_0 C dX0_tight_11 ?_
    refine r_cV0a C (c_X0_solved hG hd hW) (q0 := 0) rfl rfl q700 pkX0_solved dX0_tight_12 (fun z w h => ?_)
    obtain ⟨rfl, sw, sl, pl, tb, dr, hX, hS, rfl⟩ := h
    refine r_iload_1 C dX0_tight_15 ?_
    refine r_cV1i C (c_X4_isLive_I hG hv hW.c hW.r hn (by omega)) (q0 := 16) rfl rfl q779 pkX4_isLive dX0_tight_16 (fun z w h => ?_)
    obtain ⟨rfl, rfl⟩ := h
    refine r_ifneB (tgt := 24) C dX0_tight_19 (by decide) (fun c_19 => ?_) (fun c_19 => ?_)
    · skip
      refine r_aload_0 C dX0_tight_24 ?_
      refine r_iload_1 C dX0_tight_25 ?_
      refine r_cV1l C (c_X0_mostOf hG hd hW hS hvv) (q0 := 0) rfl rfl q905 pkX0_mostOf dX0_tight_26 (fun z w h => ?_)
      obtain ⟨rfl, db, lf, hlf, hdb, rfl⟩ := h
      refine r_pop2 C dX0_tight_29 ?_
      rw [c_5, Bool.true_and] at c_19
      have key : ∀ (mm : Nat), ∀ (k s : Int), (0 ≤ k) → (k ≤ 4) → (0 ≤ s ∧ s < 512) → (s = wTi w v k) → (4 - k).toNat = mm → AW g K (wX g σ x_tape x_taped x_faultKind x_faultPlace x_bestStarved x_bestMost x_bestWhole (db) (lf) x_mosts x_widened x_drawn x_img n_width n_from n_to n_load n_group n_budget n_columns n_rows n_limit n_wear n_straps n_pads n_lines n_mod n_asz n_el (sw) (sl) (n_pads) (wR w) (pl) (tb) (dr) (wm w) (wWh w) t_width t_load t_pads t_reached t_place t_table t_drop t_size t_whole ++ ex) 0 0 34 [some (.ref (σ 0)), some (.int (jI v)), some (.int (jI s)), some (.int (jI k))] [] := by
        intro mm
        induction mm using Nat.strongRecOn with
        | _ mm ih =>
        intro k s hk0 hk4 hs0 es hm
        refine r_iload_3 C dX0_tight_34 ?_
        refine r_iconst C dX0_tight_35 ?_
        refine r_if_icmpgt (tgt := 64) C dX0_tight_36 (by decide) (fun c_36 => ?_) (fun c_36 => ?_)
        · skip
          refine r_iload_2 C dX0_tight_64 ?_
          refine r_ireturn C E dX0_tight_65 ?_
          have e : k = 4 := by omega
          subst e
          exact ⟨_, rfl, by unfold spTight; rw [if_pos c_5, if_pos c_19, es], PubX.mk⟩
        · skip
          have hk3 : k < 4 := by omega
          have hkk := hk.1 k hk0 hk3
          have hP := bsP_9 hk0 (show k < 9 by omega)
          have hP0 := bsP_0 (k := k)
          refine r_iload_2 C dX0_tight_39 ?_
          refine r_aload_0 C dX0_tight_40 ?_
          refine gG_left C q358 dX0_tight_41 ?_
          refine r_iload_3 C dX0_tight_44 ?_
          refine ld_x_left C dX0_tight_45 ?_
          refine r_topi ((wDw w v).1 k) (hlf k hk0 hk3) ?_
          refine r_ifne (tgt := 55) C dX0_tight_46 (by decide) (fun c_46 => ?_) (fun c_46 => ?_)
          · skip
            refine r_iconst C dX0_tight_55 ?_
            refine r_ior C (_) dX0_tight_56 (jI_or (by omega) (by omega)) ?_
            refine r_istore_2 C dX0_tight_57 ?_
            refine r_iinc_3 C dX0_tight_58 ?_
            refine r_goto (tgt := 34) C dX0_tight_61 (by decide) ?_
            refine ih _ (show (4 - (k + 1)).toNat < mm by omega) (k + 1) _ (by omega) (by omega) ⟨bsO_0, bsO_512 hs0.2 (by omega)⟩ ?_ rfl
            unfold wTi at es ⊢
            rw [foI_s _ _ hk0, ← es]
            first
              | rw [if_pos c_46]
              | rw [if_neg c_46, bsO_z hs0.1]
          · skip
            refine r_iconst C dX0_tight_49 ?_
            refine r_iload_3 C dX0_tight_50 ?_
            refine r_ishl C (_) dX0_tight_51 (jI_shl (by omega) (by omega)) ?_
            refine r_goto (tgt := 56) C dX0_tight_52 (by decide) ?_
            refine r_ior C (_) dX0_tight_56 (jI_or (by omega) (by omega)) ?_
            refine r_istore_2 C dX0_tight_57 ?_
            refine r_iinc_3 C dX0_tight_58 ?_
            refine r_goto (tgt := 34) C dX0_tight_61 (by decide) ?_
            refine ih _ (show (4 - (k + 1)).toNat < mm by omega) (k + 1) _ (by omega) (by omega) ⟨bsO_0, bsO_512 hs0.2 (by omega)⟩ ?_ rfl
            unfold wTi at es ⊢
            rw [foI_s _ _ hk0, ← es]
            first
              | rw [if_pos c_46]
              | rw [if_neg c_46, bsO_z hs0.1]
      refine r_iconst C dX0_tight_30 ?_
      refine r_istore_2 C dX0_tight_31 ?_
      refine r_iconst C dX0_tight_32 ?_
      refine r_istore_3 C dX0_tight_33 ?_
      exact key _ 0 0 (by omega) (by omega) (by omega) rfl rfl
    · skip
      refine r_iconst C dX0_tight_22 ?_
      refine r_ireturn C E dX0_tight_23 ?_
      rw [c_5, Bool.true_and] at c_19
      exact ⟨_, rfl, by simp [spTight, *], PubX.mk⟩
  · skip
    refine r_bipush C dX0_tight_8 ?_
    refine r_ireturn C E dX0_tight_10 ?_
    exact ⟨_, rfl, by simp [spTight, c_5], PubX.mk⟩
theorem c_X0_laysMosts (hG : Gok g) {w : Int → Int} (hd : Gd w) (hW : NW w n_width n_from n_to n_load n_group n_budget n_columns n_rows n_limit n_wear n_straps n_pads n_lines) : XMet g yX0_laysMosts cX0_laysMosts 2 none (6) 0 0 [.ref (σ 0)] (wX g σ x_tape x_taped x_faultKind x_faultPlace x_bestStarved x_bestMost x_bestWhole x_draws x_left x_mosts x_widened x_drawn x_img n_width n_from n_to n_load n_group n_budget n_columns n_rows n_limit n_wear n_straps n_pads n_lines n_mod n_asz n_el i_width i_load i_pads i_reached i_place i_table i_drop i_size i_whole t_width t_load t_pads t_reached t_place t_table t_drop t_size t_whole ++ ex) (pV (fun ww => ∃ sw sl pl tb dr db lf mo, SX w sw sl n_pads ∧ SS w (wR w) pl tb dr (wm w) (wWh w) ∧ (∀ v, 0 ≤ v → v < wN w → mo v = if bsB (wR w) v = true then wMo w v else -1) ∧ ww = (wX g σ x_tape x_taped x_faultKind x_faultPlace x_bestStarved x_bestMost x_bestWhole (db) (lf) (mo) x_widened x_drawn x_img n_width n_from n_to n_load n_group n_budget n_columns n_rows n_limit n_wear n_straps n_pads n_lines n_mod n_asz n_el (sw) (sl) (n_pads) (wR w) (pl) (tb) (dr) (wm w) (wWh w) t_width t_load t_pads t_reached t_place t_table t_drop t_size t_whole ++ ex))) := by
  refine XMet.of (L := [some (.ref (σ 0)), none]) hG (by decide +kernel) (Nat.le_of_ble_eq_true rfl) rfl (fun K C E => ?_)
  have hn := hd.n
  have hr5 := hd.r
  have hp5 := hd.p5
  refine r_aload_0 C dX0_laysMosts_0 ?_
  refine r_cV0a C (c_X0_solved hG hd hW) (q0 := 0) rfl rfl q700 pkX0_solved dX0_laysMosts_1 (fun z w h => ?_)
  obtain ⟨rfl, sw, sl, pl, tb, dr, hX, hS, rfl⟩ := h
  refine r_pop C dX0_laysMosts_4 ?_
  skip
  have key : ∀ (mm : Nat), ∀ (v : Int) (db lf mo : Int → Int), (0 ≤ v) → (v ≤ wN w) → (∀ u, 0 ≤ u → u < v → mo u = if bsB (wR w) u = true then wMo w u else -1) → (wN w - v).toNat = mm → AW g K (wX g σ x_tape x_taped x_faultKind x_faultPlace x_bestStarved x_bestMost x_bestWhole (db) (lf) (mo) x_widened x_drawn x_img n_width n_from n_to n_load n_group n_budget n_columns n_rows n_limit n_wear n_straps n_pads n_lines n_mod n_asz n_el (sw) (sl) (n_pads) (wR w) (pl) (tb) (dr) (wm w) (wWh w) t_width t_load t_pads t_reached t_place t_table t_drop t_size t_whole ++ ex) 0 0 7 [some (.ref (σ 0)), some (.int (jI v))] [] := by
    intro mm
    induction mm using Nat.strongRecOn with
    | _ mm ih =>
    intro v db lf mo hv0 hv hmo hm
    refine r_iload_1 C dX0_laysMosts_7 ?_
    refine r_aload_0 C dX0_laysMosts_8 ?_
    refine gG_now C q346 dX0_laysMosts_9 ?_
    refine r_cV0i C (c_X1_many hG) (q0 := 7) rfl rfl q768 pkX1_many dX0_laysMosts_12 (fun z w h => ?_)
    obtain ⟨rfl, rfl⟩ := h
    refine r_topi (wN w) (by rw [hW.c, hW.r]; rfl) ?_
    refine r_if_icmpge (tgt := 52) C dX0_laysMosts_15 (by decide) (fun c_15 => ?_) (fun c_15 => ?_)
    · skip
      refine r_return C E dX0_laysMosts_52 ?_
      have e : v = wN w := by omega
      subst e
      exact ⟨rfl, sw, sl, pl, tb, dr, db, lf, mo, hX, hS, hmo, rfl⟩
    · skip
      have hnb : isNb w v = true := by unfold isNb; exact decide_eq_true (by omega)
      refine r_aload_0 C dX0_laysMosts_18 ?_
      refine gG_mosts C q359 dX0_laysMosts_19 ?_
      refine r_iload_1 C dX0_laysMosts_22 ?_
      refine r_aload_0 C dX0_laysMosts_23 ?_
      refine gG_is C q352 dX0_laysMosts_24 ?_
      refine r_iload_1 C dX0_laysMosts_27 ?_
      refine r_cV1i C (c_X4_isLive_I hG (by unfold inR; omega) hW.c hW.r (by omega) (by omega)) (q0 := 16) rfl rfl q779 pkX4_isLive dX0_laysMosts_28 (fun z w h => ?_)
      obtain ⟨rfl, rfl⟩ := h
      refine r_ifeqB (tgt := 42) C dX0_laysMosts_31 (by decide) (fun c_31 => ?_) (fun c_31 => ?_)
      · skip
        refine r_ldc2 C (-1) q812 dX0_laysMosts_42 ?_
        refine st_x_mosts C dX0_laysMosts_45 ?_
        refine r_iinc_1 C dX0_laysMosts_46 ?_
        refine r_goto (tgt := 7) C dX0_laysMosts_49 (by decide) ?_
        rw [hnb, Bool.true_and] at c_31
        refine ih _ (show (wN w - (v + 1)).toNat < mm by omega) (v + 1) _ _ _ (by omega) (by omega) (fun u a b => ?_) rfl
        by_cases e : u = v
        · rw [e, aset_at]
          first
            | rw [if_pos c_31]
            | rw [if_neg c_31]
        · rw [aset_ne e]; exact hmo u a (by omega)
      · skip
        refine r_aload_0 C dX0_laysMosts_34 ?_
        refine r_iload_1 C dX0_laysMosts_35 ?_
        refine r_cV1l C (c_X0_mostOf hG hd hW hS ⟨hv0, c_15⟩) (q0 := 0) rfl rfl q905 pkX0_mostOf dX0_laysMosts_36 (fun z w h => ?_)
        obtain ⟨rfl, db, lf, hlf, hdb, rfl⟩ := h
        refine r_goto (tgt := 45) C dX0_laysMosts_39 (by decide) ?_
        refine st_x_mosts C dX0_laysMosts_45 ?_
        refine r_iinc_1 C dX0_laysMosts_46 ?_
        refine r_goto (tgt := 7) C dX0_laysMosts_49 (by decide) ?_
        rw [hnb, Bool.true_and] at c_31
        refine ih _ (show (wN w - (v + 1)).toNat < mm by omega) (v + 1) _ _ _ (by omega) (by omega) (fun u a b => ?_) rfl
        by_cases e : u = v
        · rw [e, aset_at]
          first
            | rw [if_pos c_31]
            | rw [if_neg c_31]
        · rw [aset_ne e]; exact hmo u a (by omega)
  refine r_iconst C dX0_laysMosts_5 ?_
  refine r_istore_1 C dX0_laysMosts_6 ?_
  exact key _ 0 _ _ _ (by omega) (by omega) (fun u _ _ => by omega) rfl
theorem c_X0_foe (hG : Gok g) {w : Int → Int} (hW : NW w n_width n_from n_to n_load n_group n_budget n_columns n_rows n_limit n_wear n_straps n_pads n_lines) : XMet g yX0_foe cX0_foe 3 (some .int) (7) 0 0 [.ref (σ 0)] (wX g σ x_tape x_taped x_faultKind x_faultPlace x_bestStarved x_bestMost x_bestWhole x_draws x_left x_mosts x_widened x_drawn x_img n_width n_from n_to n_load n_group n_budget n_columns n_rows n_limit n_wear n_straps n_pads n_lines n_mod n_asz n_el i_width i_load i_pads i_reached i_place i_table i_drop i_size i_whole t_width t_load t_pads t_reached t_place t_table t_drop t_size t_whole ++ ex) (pI (fun z ww => z = spFoe w ∧ PubX g σ ex x_tape x_taped x_faultKind x_faultPlace x_img n_width n_from n_to n_load n_group n_budget n_columns n_rows n_limit n_wear n_straps n_pads n_lines n_mod n_asz n_el ww)) := by
  refine XMet.of (L := [some (.ref (σ 0)), none, none]) hG (by decide +kernel) (Nat.le_of_ble_eq_true rfl) rfl (fun K C E => ?_)
  refine r_aload_0 C dX0_foe_0 ?_
  refine gG_now C q346 dX0_foe_1 ?_
  refine r_cV0i C (c_X1_is hG hW.inR4) (q0 := 7) rfl rfl q696 pkX1_is dX0_foe_4 (fun z w h => ?_)
  obtain ⟨rfl, rfl⟩ := h
  refine r_ifneB (tgt := 13) C dX0_foe_7 (by decide) (fun c_7 => ?_) (fun c_7 => ?_)
  · skip
    rw [hW.ln] at c_7
    have hd := hW.wf.gd4 c_7
    have hn := hd.n
    have hMo : ∀ v, 0 ≤ v → v < wN w → 0 ≤ wMo w v ∧ wMo w v ≤ 7653631721472 := fun v a b => wMo_in hd (exO (w := w) (nd := v) (by omega)) a b
    refine r_aload_0 C dX0_foe_13 ?_
    refine r_cV0v C (c_X0_laysMosts hG hd hW) (q0 := 0) rfl rfl q922 pkX0_laysMosts dX0_foe_14 (fun w h => ?_)
    obtain ⟨sw, sl, pl, tb, dr, db, lf, mo, hX, hS, hmo, rfl⟩ := h
    skip
    have key : ∀ (mm : Nat), ∀ (v b : Int), (0 ≤ v) → (v ≤ wN w) → (b = -1 ∨ (0 ≤ b ∧ b < wN w ∧ bsB (wR w) b = true)) → ((b, if b = -1 then -1 else wMo w b) = wFo w v) → (wN w - v).toNat = mm → AW g K (wX g σ x_tape x_taped x_faultKind x_faultPlace x_bestStarved x_bestMost x_bestWhole (db) (lf) (mo) x_widened x_drawn x_img n_width n_from n_to n_load n_group n_budget n_columns n_rows n_limit n_wear n_straps n_pads n_lines n_mod n_asz n_el (sw) (sl) (n_pads) (wR w) (pl) (tb) (dr) (wm w) (wWh w) t_width t_load t_pads t_reached t_place t_table t_drop t_size t_whole ++ ex) 0 0 21 [some (.ref (σ 0)), some (.int (jI b)), some (.int (jI v))] [] := by
      intro mm
      induction mm using Nat.strongRecOn with
      | _ mm ih =>
      intro v b hv0 hv hb es hm
      refine r_iload_2 C dX0_foe_21 ?_
      refine r_aload_0 C dX0_foe_22 ?_
      refine gG_now C q346 dX0_foe_23 ?_
      refine r_cV0i C (c_X1_many hG) (q0 := 7) rfl rfl q768 pkX1_many dX0_foe_26 (fun z w h => ?_)
      obtain ⟨rfl, rfl⟩ := h
      refine r_topi (wN w) (by rw [hW.c, hW.r]; rfl) ?_
      refine r_if_icmpge (tgt := 67) C dX0_foe_29 (by decide) (fun c_29 => ?_) (fun c_29 => ?_)
      · skip
        refine r_iload_1 C dX0_foe_67 ?_
        refine r_ireturn C E dX0_foe_68 ?_
        have e : v = wN w := by omega
        subst e
        exact ⟨_, rfl, by unfold spFoe; rw [if_pos c_7, ← es], PubX.mk⟩
      · skip
        have hmv := hMo v hv0 c_29
        have hif : -1 ≤ (if bsB (wR w) v = true then wMo w v else -1) ∧ (if bsB (wR w) v = true then wMo w v else -1) ≤ 7653631721472 := by split <;> omega
        refine r_aload_0 C dX0_foe_32 ?_
        refine gG_mosts C q359 dX0_foe_33 ?_
        refine r_iload_2 C dX0_foe_36 ?_
        refine ld_x_mosts C dX0_foe_37 ?_
        refine r_topl (if bsB (wR w) v = true then wMo w v else -1) (hmo v hv0 c_29) ?_
        refine r_iload_1 C dX0_foe_38 ?_
        refine r_iconst C dX0_foe_39 ?_
        refine r_if_icmpne (tgt := 49) C dX0_foe_40 (by decide) (fun c_40 => ?_) (fun c_40 => ?_) (by unfold inR; omega)
        · skip
          have hb2 : 0 ≤ b ∧ b < wN w ∧ bsB (wR w) b = true := hb.resolve_left c_40
          have hmb := hMo b hb2.1 hb2.2.1
          refine r_aload_0 C dX0_foe_49 ?_
          refine gG_mosts C q359 dX0_foe_50 ?_
          refine r_iload_1 C dX0_foe_53 ?_
          refine ld_x_mosts C dX0_foe_54 ?_
          first
            | refine r_topl (wMo w b) (by rw [hmo b hb2.1 hb2.2.1, if_pos hb2.2.2]) ?_
            | skip
          refine r_lcmp_ifle (tgt := 61) C dX0_foe_55 dX0_foe_56 (by decide) (fun c_55 => ?_) (fun c_55 => ?_)
          · skip
            refine r_iinc_2 C dX0_foe_61 ?_
            refine r_goto (tgt := 21) C dX0_foe_64 (by decide) ?_
            first
              | (have h : (if bsB (wR w) v = true then wMo w v else -1) ≤ -1 := c_55
                 have h40 : b = -1 := c_40
                 refine ih _ (show (wN w - (v + 1)).toNat < mm by omega) (v + 1) b (by omega) (by omega) hb ?_ rfl
                 unfold wFo at es ⊢
                 rw [foI_s _ _ hv0, ← es, if_pos h40, if_neg (fun q => by rw [if_pos q.1] at h; omega)])
              | (have h : (if bsB (wR w) v = true then wMo w v else -1) ≤ wMo w b := c_55
                 refine ih _ (show (wN w - (v + 1)).toNat < mm by omega) (v + 1) b (by omega) (by omega) hb ?_ rfl
                 unfold wFo at es ⊢
                 rw [foI_s _ _ hv0, ← es, if_neg c_40, if_neg (fun q => by rw [if_pos q.1] at h; have := q.2; omega)])
              | (have hl : bsB (wR w) v = true := by
                   by_cases q : bsB (wR w) v = true
                   · exact q
                   · rw [if_neg q] at c_55; omega
                 rw [if_pos hl] at c_55
                 refine ih _ (show (wN w - (v + 1)).toNat < mm by omega) (v + 1) v (by omega) (by omega) (Or.inr ⟨hv0, c_29, hl⟩) ?_ rfl
                 unfold wFo at es ⊢
                 rw [foI_s _ _ hv0, ← es, if_neg (show ¬ v = -1 by omega)]
                 first
                   | rw [if_pos c_40, if_pos (And.intro hl c_55)]
                   | rw [if_neg c_40, if_pos (And.intro hl c_55)])
          · skip
            refine r_iload_2 C dX0_foe_59 ?_
            refine r_istore_1 C dX0_foe_60 ?_
            refine r_iinc_2 C dX0_foe_61 ?_
            refine r_goto (tgt := 21) C dX0_foe_64 (by decide) ?_
            first
              | (have h : (if bsB (wR w) v = true then wMo w v else -1) ≤ -1 := c_55
                 have h40 : b = -1 := c_40
                 refine ih _ (show (wN w - (v + 1)).toNat < mm by omega) (v + 1) b (by omega) (by omega) hb ?_ rfl
                 unfold wFo at es ⊢
                 rw [foI_s _ _ hv0, ← es, if_pos h40, if_neg (fun q => by rw [if_pos q.1] at h; omega)])
              | (have h : (if bsB (wR w) v = true then wMo w v else -1) ≤ wMo w b := c_55
                 refine ih _ (show (wN w - (v + 1)).toNat < mm by omega) (v + 1) b (by omega) (by omega) hb ?_ rfl
                 unfold wFo at es ⊢
                 rw [foI_s _ _ hv0, ← es, if_neg c_40, if_neg (fun q => by rw [if_pos q.1] at h; have := q.2; omega)])
              | (have hl : bsB (wR w) v = true := by
                   by_cases q : bsB (wR w) v = true
                   · exact q
                   · rw [if_neg q] at c_55; omega
                 rw [if_pos hl] at c_55
                 refine ih _ (show (wN w - (v + 1)).toNat < mm by omega) (v + 1) v (by omega) (by omega) (Or.inr ⟨hv0, c_29, hl⟩) ?_ rfl
                 unfold wFo at es ⊢
                 rw [foI_s _ _ hv0, ← es, if_neg (show ¬ v = -1 by omega)]
                 first
                   | rw [if_pos c_40, if_pos (And.intro hl c_55)]
                   | rw [if_neg c_40, if_pos (And.intro hl c_55)])
        · skip
          refine r_ldc2 C (-1) q812 dX0_foe_43 ?_
          refine r_goto (tgt := 55) C dX0_foe_46 (by decide) ?_
          first
            | refine r_topl (wMo w b) (by rw [hmo b hb2.1 hb2.2.1, if_pos hb2.2.2]) ?_
            | skip
          refine r_lcmp_ifle (tgt := 61) C dX0_foe_55 dX0_foe_56 (by decide) (fun c_55 => ?_) (fun c_55 => ?_)
          · skip
            refine r_iinc_2 C dX0_foe_61 ?_
            refine r_goto (tgt := 21) C dX0_foe_64 (by decide) ?_
            first
              | (have h : (if bsB (wR w) v = true then wMo w v else -1) ≤ -1 := c_55
                 have h40 : b = -1 := c_40
                 refine ih _ (show (wN w - (v + 1)).toNat < mm by omega) (v + 1) b (by omega) (by omega) hb ?_ rfl
                 unfold wFo at es ⊢
                 rw [foI_s _ _ hv0, ← es, if_pos h40, if_neg (fun q => by rw [if_pos q.1] at h; omega)])
              | (have h : (if bsB (wR w) v = true then wMo w v else -1) ≤ wMo w b := c_55
                 refine ih _ (show (wN w - (v + 1)).toNat < mm by omega) (v + 1) b (by omega) (by omega) hb ?_ rfl
                 unfold wFo at es ⊢
                 rw [foI_s _ _ hv0, ← es, if_neg c_40, if_neg (fun q => by rw [if_pos q.1] at h; have := q.2; omega)])
              | (have hl : bsB (wR w) v = true := by
                   by_cases q : bsB (wR w) v = true
                   · exact q
                   · rw [if_neg q] at c_55; omega
                 rw [if_pos hl] at c_55
                 refine ih _ (show (wN w - (v + 1)).toNat < mm by omega) (v + 1) v (by omega) (by omega) (Or.inr ⟨hv0, c_29, hl⟩) ?_ rfl
                 unfold wFo at es ⊢
                 rw [foI_s _ _ hv0, ← es, if_neg (show ¬ v = -1 by omega)]
                 first
                   | rw [if_pos c_40, if_pos (And.intro hl c_55)]
                   | rw [if_neg c_40, if_pos (And.intro hl c_55)])
          · skip
            refine r_iload_2 C dX0_foe_59 ?_
            refine r_istore_1 C dX0_foe_60 ?_
            refine r_iinc_2 C dX0_foe_61 ?_
            refine r_goto (tgt := 21) C dX0_foe_64 (by decide) ?_
            first
              | (have h : (if bsB (wR w) v = true then wMo w v else -1) ≤ -1 := c_55
                 have h40 : b = -1 := c_40
                 refine ih _ (show (wN w - (v + 1)).toNat < mm by omega) (v + 1) b (by omega) (by omega) hb ?_ rfl
                 unfold wFo at es ⊢
                 rw [foI_s _ _ hv0, ← es, if_pos h40, if_neg (fun q => by rw [if_pos q.1] at h; omega)])
              | (have h : (if bsB (wR w) v = true then wMo w v else -1) ≤ wMo w b := c_55
                 refine ih _ (show (wN w - (v + 1)).toNat < mm by omega) (v + 1) b (by omega) (by omega) hb ?_ rfl
                 unfold wFo at es ⊢
                 rw [foI_s _ _ hv0, ← es, if_neg c_40, if_neg (fun q => by rw [if_pos q.1] at h; have := q.2; omega)])
              | (have hl : bsB (wR w) v = true := by
                   by_cases q : bsB (wR w) v = true
                   · exact q
                   · rw [if_neg q] at c_55; omega
                 rw [if_pos hl] at c_55
                 refine ih _ (show (wN w - (v + 1)).toNat < mm by omega) (v + 1) v (by omega) (by omega) (Or.inr ⟨hv0, c_29, hl⟩) ?_ rfl
                 unfold wFo at es ⊢
                 rw [foI_s _ _ hv0, ← es, if_neg (show ¬ v = -1 by omega)]
                 first
                   | rw [if_pos c_40, if_pos (And.intro hl c_55)]
                   | rw [if_neg c_40, if_pos (And.intro hl c_55)])
    refine r_iconst C dX0_foe_17 ?_
    refine r_istore_1 C dX0_foe_18 ?_
    refine r_iconst C dX0_foe_19 ?_
    refine r_istore_2 C dX0_foe_20 ?_
    exact key _ 0 (-1) (by omega) (by omega) (Or.inl rfl) rfl rfl
  · skip
    refine r_bipush C dX0_foe_10 ?_
    refine r_ireturn C E dX0_foe_12 ?_
    rw [hW.ln] at c_7
    exact ⟨_, rfl, by simp [spFoe, c_7], PubX.mk⟩
theorem c_X4_overM_I (hG : Gok g) {w f : Int → Int} (hd : Gd w) (hN : NB w n_columns n_rows n_limit n_wear n_straps n_from n_to) (hre : i_reached = wR w) (hwo : i_whole = wWh w) (hf : ∀ v, 0 ≤ v → v < wN w → inL (f v)) (hdr : ∀ v, 0 ≤ v → v < wN w → x_mosts v = f v) : XMet g yX4_over cX4_over 4 (some .int) (4) 0 0 [.ref (σ 16), .ref (σ 5)] (wX g σ x_tape x_taped x_faultKind x_faultPlace x_bestStarved x_bestMost x_bestWhole x_draws x_left x_mosts x_widened x_drawn x_img n_width n_from n_to n_load n_group n_budget n_columns n_rows n_limit n_wear n_straps n_pads n_lines n_mod n_asz n_el i_width i_load i_pads i_reached i_place i_table i_drop i_size i_whole t_width t_load t_pads t_reached t_place t_table t_drop t_size t_whole ++ ex) (pI (fun z ww => z = setF (ovB w f) (wN w) ∧ ww = (wX g σ x_tape x_taped x_faultKind x_faultPlace x_bestStarved x_bestMost x_bestWhole x_draws x_left x_mosts x_widened x_drawn x_img n_width n_from n_to n_load n_group n_budget n_columns n_rows n_limit n_wear n_straps n_pads n_lines n_mod n_asz n_el i_width i_load i_pads i_reached i_place i_table i_drop i_size i_whole t_width t_load t_pads t_reached t_place t_table t_drop t_size t_whole ++ ex))) := by
  refine XMet.of (L := [some (.ref (σ 16)), some (.ref (σ 5)), none, none]) hG (by decide +kernel) (Nat.le_of_ble_eq_true rfl) rfl (fun K C E => ?_)
  obtain ⟨hc, hr, hlm, -⟩ := hN
  have hn := hd.n
  have h5 := hd.r
  have hp := hd.p5
  have hli := lim_in hd
  have hl2 := hd.lim
  have key : ∀ (mm : Nat), ∀ (v s : Int), (0 ≤ v) → (v ≤ wN w) → (0 ≤ s ∧ s < 512) → (s = setF (ovB w f) v) → (wN w - v).toNat = mm → AW g K (wX g σ x_tape x_taped x_faultKind x_faultPlace x_bestStarved x_bestMost x_bestWhole x_draws x_left x_mosts x_widened x_drawn x_img n_width n_from n_to n_load n_group n_budget n_columns n_rows n_limit n_wear n_straps n_pads n_lines n_mod n_asz n_el i_width i_load i_pads i_reached i_place i_table i_drop i_size i_whole t_width t_load t_pads t_reached t_place t_table t_drop t_size t_whole ++ ex) 0 0 4 [some (.ref (σ 16)), some (.ref (σ 5)), some (.int (jI s)), some (.int (jI v))] [] := by
    intro mm
    induction mm using Nat.strongRecOn with
    | _ mm ih =>
    intro v s hv0 hv hs0 es hm
    refine r_iload_3 C dX4_over_4 ?_
    refine r_aload_0 C dX4_over_5 ?_
    refine r_cU0i C (c_X2_many_I hG) (q0 := 16) rfl rfl q728 pkU_X2_many dX4_over_6 (fun z w h => ?_)
    obtain ⟨rfl, rfl⟩ := h
    refine r_topi (wN w) (by rw [hc, hr]; rfl) ?_
    refine r_if_icmpge (tgt := 59) C dX4_over_9 (by decide) (fun c_9 => ?_) (fun c_9 => ?_)
    · skip
      refine r_iload_2 C dX4_over_59 ?_
      refine r_ireturn C E dX4_over_60 ?_
      have e : v = wN w := by omega
      subst e
      exact ⟨_, rfl, es, rfl⟩
    · skip
      have hnb : isNb w v = true := by unfold isNb; exact decide_eq_true (by omega)
      have h1 := hf v hv0 c_9
      have hP := bsP_9 hv0 (show v < 9 by omega)
      have hP0 := bsP_0 (k := v)
      refine r_iload_2 C dX4_over_12 ?_
      refine r_aload_0 C dX4_over_13 ?_
      refine r_iload_3 C dX4_over_14 ?_
      refine r_cV1i C (c_X4_isLive_I hG (by unfold inR; omega) hc hr (by omega) (by omega)) (q0 := 16) rfl rfl q822 pkX4_isLive dX4_over_15 (fun z w h => ?_)
      obtain ⟨rfl, rfl⟩ := h
      refine r_ifeqB (tgt := 50) C dX4_over_18 (by decide) (fun c_18 => ?_) (fun c_18 => ?_)
      · skip
        refine r_iconst C dX4_over_50 ?_
        refine r_ior C (_) dX4_over_51 (jI_or (by omega) (by omega)) ?_
        refine r_istore_2 C dX4_over_52 ?_
        refine r_iinc_3 C dX4_over_53 ?_
        refine r_goto (tgt := 4) C dX4_over_56 (by decide) ?_
        refine ih _ (show (wN w - (v + 1)).toNat < mm by omega) (v + 1) _ (by omega) (by omega) ⟨bsO_0, bsO_512 hs0.2 (by omega)⟩ ?_ rfl
        rw [setF_s hv0, ← es]
        rw [hnb, hre, Bool.true_and] at c_18
        first
          | rw [if_pos (show ovB w f v = true by unfold ovB; rw [c_18, decide_eq_true c_40]; rfl)]
          | rw [if_neg (show ¬ ovB w f v = true by unfold ovB; rw [decide_eq_false (show ¬ w 2 * wWh w < f v by omega)]; simp), bsO_z hs0.1]
          | rw [if_neg (show ¬ ovB w f v = true by unfold ovB; simp [c_18]), bsO_z hs0.1]
      · skip
        refine r_aload_1 C dX4_over_21 ?_
        refine r_iload_3 C dX4_over_22 ?_
        refine ld_x_mosts C dX4_over_23 ?_
        refine r_topl (f v) (hdr v hv0 c_9) ?_
        refine r_aload_0 C dX4_over_24 ?_
        refine gI_this011 C q299 dX4_over_25 ?_
        refine gGN_now C q345 dX4_over_28 ?_
        refine gTN_limit C q229 dX4_over_31 ?_
        refine r_topi (w 2) hlm ?_
        refine r_i2l C dX4_over_34 ?_
        refine r_aload_0 C dX4_over_35 ?_
        refine gI_whole C q297 dX4_over_36 ?_
        refine r_topl (wWh w) hwo ?_
        refine r_lmul C dX4_over_39 ?_
        refine r_lcmp_ifle (tgt := 50) C dX4_over_40 dX4_over_41 (by decide) (fun c_40 => ?_) (fun c_40 => ?_)
        · skip
          refine r_iconst C dX4_over_50 ?_
          refine r_ior C (_) dX4_over_51 (jI_or (by omega) (by omega)) ?_
          refine r_istore_2 C dX4_over_52 ?_
          refine r_iinc_3 C dX4_over_53 ?_
          refine r_goto (tgt := 4) C dX4_over_56 (by decide) ?_
          refine ih _ (show (wN w - (v + 1)).toNat < mm by omega) (v + 1) _ (by omega) (by omega) ⟨bsO_0, bsO_512 hs0.2 (by omega)⟩ ?_ rfl
          rw [setF_s hv0, ← es]
          rw [hnb, hre, Bool.true_and] at c_18
          first
            | rw [if_pos (show ovB w f v = true by unfold ovB; rw [c_18, decide_eq_true c_40]; rfl)]
            | rw [if_neg (show ¬ ovB w f v = true by unfold ovB; rw [decide_eq_false (show ¬ w 2 * wWh w < f v by omega)]; simp), bsO_z hs0.1]
            | rw [if_neg (show ¬ ovB w f v = true by unfold ovB; simp [c_18]), bsO_z hs0.1]
        · skip
          refine r_iconst C dX4_over_44 ?_
          refine r_iload_3 C dX4_over_45 ?_
          refine r_ishl C (_) dX4_over_46 (jI_shl (by omega) (by omega)) ?_
          refine r_goto (tgt := 51) C dX4_over_47 (by decide) ?_
          refine r_ior C (_) dX4_over_51 (jI_or (by omega) (by omega)) ?_
          refine r_istore_2 C dX4_over_52 ?_
          refine r_iinc_3 C dX4_over_53 ?_
          refine r_goto (tgt := 4) C dX4_over_56 (by decide) ?_
          refine ih _ (show (wN w - (v + 1)).toNat < mm by omega) (v + 1) _ (by omega) (by omega) ⟨bsO_0, bsO_512 hs0.2 (by omega)⟩ ?_ rfl
          rw [setF_s hv0, ← es]
          rw [hnb, hre, Bool.true_and] at c_18
          first
            | rw [if_pos (show ovB w f v = true by unfold ovB; rw [c_18, decide_eq_true c_40]; rfl)]
            | rw [if_neg (show ¬ ovB w f v = true by unfold ovB; rw [decide_eq_false (show ¬ w 2 * wWh w < f v by omega)]; simp), bsO_z hs0.1]
            | rw [if_neg (show ¬ ovB w f v = true by unfold ovB; simp [c_18]), bsO_z hs0.1]
  refine r_iconst C dX4_over_0 ?_
  refine r_istore_2 C dX4_over_1 ?_
  refine r_iconst C dX4_over_2 ?_
  refine r_istore_3 C dX4_over_3 ?_
  exact key _ 0 0 (by omega) (by omega) (by omega) rfl rfl

theorem c_X4_overM_Y (hG : Gok g) {w f : Int → Int} (hd : Gd w) (hN : NB w n_columns n_rows n_limit n_wear n_straps n_from n_to) (hre : t_reached = wR w) (hwo : t_whole = wWh w) (hf : ∀ v, 0 ≤ v → v < wN w → inL (f v)) (hdr : ∀ v, 0 ≤ v → v < wN w → x_mosts v = f v) : XMet g yX4_over cX4_over 4 (some .int) (4) 0 0 [.ref (σ 31), .ref (σ 5)] (wX g σ x_tape x_taped x_faultKind x_faultPlace x_bestStarved x_bestMost x_bestWhole x_draws x_left x_mosts x_widened x_drawn x_img n_width n_from n_to n_load n_group n_budget n_columns n_rows n_limit n_wear n_straps n_pads n_lines n_mod n_asz n_el i_width i_load i_pads i_reached i_place i_table i_drop i_size i_whole t_width t_load t_pads t_reached t_place t_table t_drop t_size t_whole ++ ex) (pI (fun z ww => z = setF (ovB w f) (wN w) ∧ ww = (wX g σ x_tape x_taped x_faultKind x_faultPlace x_bestStarved x_bestMost x_bestWhole x_draws x_left x_mosts x_widened x_drawn x_img n_width n_from n_to n_load n_group n_budget n_columns n_rows n_limit n_wear n_straps n_pads n_lines n_mod n_asz n_el i_width i_load i_pads i_reached i_place i_table i_drop i_size i_whole t_width t_load t_pads t_reached t_place t_table t_drop t_size t_whole ++ ex))) := by
  refine XMet.of (L := [some (.ref (σ 31)), some (.ref (σ 5)), none, none]) hG (by decide +kernel) (Nat.le_of_ble_eq_true rfl) rfl (fun K C E => ?_)
  obtain ⟨hc, hr, hlm, -⟩ := hN
  have hn := hd.n
  have h5 := hd.r
  have hp := hd.p5
  have hli := lim_in hd
  have hl2 := hd.lim
  have key : ∀ (mm : Nat), ∀ (v s : Int), (0 ≤ v) → (v ≤ wN w) → (0 ≤ s ∧ s < 512) → (s = setF (ovB w f) v) → (wN w - v).toNat = mm → AW g K (wX g σ x_tape x_taped x_faultKind x_faultPlace x_bestStarved x_bestMost x_bestWhole x_draws x_left x_mosts x_widened x_drawn x_img n_width n_from n_to n_load n_group n_budget n_columns n_rows n_limit n_wear n_straps n_pads n_lines n_mod n_asz n_el i_width i_load i_pads i_reached i_place i_table i_drop i_size i_whole t_width t_load t_pads t_reached t_place t_table t_drop t_size t_whole ++ ex) 0 0 4 [some (.ref (σ 31)), some (.ref (σ 5)), some (.int (jI s)), some (.int (jI v))] [] := by
    intro mm
    induction mm using Nat.strongRecOn with
    | _ mm ih =>
    intro v s hv0 hv hs0 es hm
    refine r_iload_3 C dX4_over_4 ?_
    refine r_aload_0 C dX4_over_5 ?_
    refine r_cU0i C (c_X2_many_Y hG) (q0 := 31) rfl rfl q728 pkU_X2_many dX4_over_6 (fun z w h => ?_)
    obtain ⟨rfl, rfl⟩ := h
    refine r_topi (wN w) (by rw [hc, hr]; rfl) ?_
    refine r_if_icmpge (tgt := 59) C dX4_over_9 (by decide) (fun c_9 => ?_) (fun c_9 => ?_)
    · skip
      refine r_iload_2 C dX4_over_59 ?_
      refine r_ireturn C E dX4_over_60 ?_
      have e : v = wN w := by omega
      subst e
      exact ⟨_, rfl, es, rfl⟩
    · skip
      have hnb : isNb w v = true := by unfold isNb; exact decide_eq_true (by omega)
      have h1 := hf v hv0 c_9
      have hP := bsP_9 hv0 (show v < 9 by omega)
      have hP0 := bsP_0 (k := v)
      refine r_iload_2 C dX4_over_12 ?_
      refine r_aload_0 C dX4_over_13 ?_
      refine r_iload_3 C dX4_over_14 ?_
      refine r_cV1i C (c_X4_isLive_Y hG (by unfold inR; omega) hc hr (by omega) (by omega)) (q0 := 31) rfl rfl q822 pkX4_isLive dX4_over_15 (fun z w h => ?_)
      obtain ⟨rfl, rfl⟩ := h
      refine r_ifeqB (tgt := 50) C dX4_over_18 (by decide) (fun c_18 => ?_) (fun c_18 => ?_)
      · skip
        refine r_iconst C dX4_over_50 ?_
        refine r_ior C (_) dX4_over_51 (jI_or (by omega) (by omega)) ?_
        refine r_istore_2 C dX4_over_52 ?_
        refine r_iinc_3 C dX4_over_53 ?_
        refine r_goto (tgt := 4) C dX4_over_56 (by decide) ?_
        refine ih _ (show (wN w - (v + 1)).toNat < mm by omega) (v + 1) _ (by omega) (by omega) ⟨bsO_0, bsO_512 hs0.2 (by omega)⟩ ?_ rfl
        rw [setF_s hv0, ← es]
        rw [hnb, hre, Bool.true_and] at c_18
        first
          | rw [if_pos (show ovB w f v = true by unfold ovB; rw [c_18, decide_eq_true c_40]; rfl)]
          | rw [if_neg (show ¬ ovB w f v = true by unfold ovB; rw [decide_eq_false (show ¬ w 2 * wWh w < f v by omega)]; simp), bsO_z hs0.1]
          | rw [if_neg (show ¬ ovB w f v = true by unfold ovB; simp [c_18]), bsO_z hs0.1]
      · skip
        refine r_aload_1 C dX4_over_21 ?_
        refine r_iload_3 C dX4_over_22 ?_
        refine ld_x_mosts C dX4_over_23 ?_
        refine r_topl (f v) (hdr v hv0 c_9) ?_
        refine r_aload_0 C dX4_over_24 ?_
        refine gY_this011 C q299 dX4_over_25 ?_
        refine gGN_now C q345 dX4_over_28 ?_
        refine gTN_limit C q229 dX4_over_31 ?_
        refine r_topi (w 2) hlm ?_
        refine r_i2l C dX4_over_34 ?_
        refine r_aload_0 C dX4_over_35 ?_
        refine gY_whole C q297 dX4_over_36 ?_
        refine r_topl (wWh w) hwo ?_
        refine r_lmul C dX4_over_39 ?_
        refine r_lcmp_ifle (tgt := 50) C dX4_over_40 dX4_over_41 (by decide) (fun c_40 => ?_) (fun c_40 => ?_)
        · skip
          refine r_iconst C dX4_over_50 ?_
          refine r_ior C (_) dX4_over_51 (jI_or (by omega) (by omega)) ?_
          refine r_istore_2 C dX4_over_52 ?_
          refine r_iinc_3 C dX4_over_53 ?_
          refine r_goto (tgt := 4) C dX4_over_56 (by decide) ?_
          refine ih _ (show (wN w - (v + 1)).toNat < mm by omega) (v + 1) _ (by omega) (by omega) ⟨bsO_0, bsO_512 hs0.2 (by omega)⟩ ?_ rfl
          rw [setF_s hv0, ← es]
          rw [hnb, hre, Bool.true_and] at c_18
          first
            | rw [if_pos (show ovB w f v = true by unfold ovB; rw [c_18, decide_eq_true c_40]; rfl)]
            | rw [if_neg (show ¬ ovB w f v = true by unfold ovB; rw [decide_eq_false (show ¬ w 2 * wWh w < f v by omega)]; simp), bsO_z hs0.1]
            | rw [if_neg (show ¬ ovB w f v = true by unfold ovB; simp [c_18]), bsO_z hs0.1]
        · skip
          refine r_iconst C dX4_over_44 ?_
          refine r_iload_3 C dX4_over_45 ?_
          refine r_ishl C (_) dX4_over_46 (jI_shl (by omega) (by omega)) ?_
          refine r_goto (tgt := 51) C dX4_over_47 (by decide) ?_
          refine r_ior C (_) dX4_over_51 (jI_or (by omega) (by omega)) ?_
          refine r_istore_2 C dX4_over_52 ?_
          refine r_iinc_3 C dX4_over_53 ?_
          refine r_goto (tgt := 4) C dX4_over_56 (by decide) ?_
          refine ih _ (show (wN w - (v + 1)).toNat < mm by omega) (v + 1) _ (by omega) (by omega) ⟨bsO_0, bsO_512 hs0.2 (by omega)⟩ ?_ rfl
          rw [setF_s hv0, ← es]
          rw [hnb, hre, Bool.true_and] at c_18
          first
            | rw [if_pos (show ovB w f v = true by unfold ovB; rw [c_18, decide_eq_true c_40]; rfl)]
            | rw [if_neg (show ¬ ovB w f v = true by unfold ovB; rw [decide_eq_false (show ¬ w 2 * wWh w < f v by omega)]; simp), bsO_z hs0.1]
            | rw [if_neg (show ¬ ovB w f v = true by unfold ovB; simp [c_18]), bsO_z hs0.1]
  refine r_iconst C dX4_over_0 ?_
  refine r_istore_2 C dX4_over_1 ?_
  refine r_iconst C dX4_over_2 ?_
  refine r_istore_3 C dX4_over_3 ?_
  exact key _ 0 0 (by omega) (by omega) (by omega) rfl rfl

theorem c_X0_unsafe (hG : Gok g) {w : Int → Int} (hW : NW w n_width n_from n_to n_load n_group n_budget n_columns n_rows n_limit n_wear n_straps n_pads n_lines) : XMet g yX0_unsafe cX0_unsafe 1 (some .int) (7) 0 0 [.ref (σ 0)] (wX g σ x_tape x_taped x_faultKind x_faultPlace x_bestStarved x_bestMost x_bestWhole x_draws x_left x_mosts x_widened x_drawn x_img n_width n_from n_to n_load n_group n_budget n_columns n_rows n_limit n_wear n_straps n_pads n_lines n_mod n_asz n_el i_width i_load i_pads i_reached i_place i_table i_drop i_size i_whole t_width t_load t_pads t_reached t_place t_table t_drop t_size t_whole ++ ex) (pI (fun z ww => z = spUnsa w ∧ PubX g σ ex x_tape x_taped x_faultKind x_faultPlace x_img n_width n_from n_to n_load n_group n_budget n_columns n_rows n_limit n_wear n_straps n_pads n_lines n_mod n_asz n_el ww)) := by
  refine XMet.of (L := [some (.ref (σ 0))]) hG (by decide +kernel) (Nat.le_of_ble_eq_true rfl) rfl (fun K C E => ?_)
  refine r_aload_0 C dX0_unsafe_0 ?_
  refine gG_now C q346 dX0_unsafe_1 ?_
  refine r_cV0i C (c_X1_is hG hW.inR4) (q0 := 7) rfl rfl q696 pkX1_is dX0_unsafe_4 (fun z w h => ?_)
  obtain ⟨rfl, rfl⟩ := h
  refine r_ifneB (tgt := 13) C dX0_unsafe_7 (by decide) (fun c_7 => ?_) (fun c_7 => ?_)
  · skip
    rw [hW.ln] at c_7
    have hd := hW.wf.gd4 c_7
    have hn := hd.n
    refine r_aload_0 C dX0_unsafe_13 ?_
    refine r_cV0v C (c_X0_laysMosts hG hd hW) (q0 := 0) rfl rfl q922 pkX0_laysMosts dX0_unsafe_14 (fun w h => ?_)
    obtain ⟨sw, sl, pl, tb, dr, db, lf, mo, hX, hS, hmo, rfl⟩ := h
    refine r_aload_0 C dX0_unsafe_17 ?_
    refine gG_is C q352 dX0_unsafe_18 ?_
    refine r_aload_0 C dX0_unsafe_21 ?_
    refine gG_mosts C q359 dX0_unsafe_22 ?_
    refine r_cV1i C (c_X4_overM_I hG (f := fun v => if bsB (wR w) v = true then wMo w v else -1) hd (hW.nb hd) rfl rfl (fun v a b => by have := wMo_in hd (exO (w := w) (nd := v) (by omega)) a b; unfold inL; (try simp only); split <;> omega) hmo) (q0 := 16) rfl rfl q855 pkX4_over dX0_unsafe_25 (fun z w h => ?_)
    obtain ⟨rfl, rfl⟩ := h
    refine r_ireturn C E dX0_unsafe_28 ?_
    refine ⟨_, rfl, ?_, PubX.mk⟩
    unfold spUnsa wUn
    rw [if_pos c_7]
    unfold setF
    refine foI_cong (fun v s a b => ?_)
    unfold ovB
    by_cases hl : bsB (wR w) v = true
    · simp [hl]
    · simp [hl]
  · skip
    refine r_bipush C dX0_unsafe_10 ?_
    refine r_ireturn C E dX0_unsafe_12 ?_
    rw [hW.ln] at c_7
    exact ⟨_, rfl, by simp [spUnsa, c_7], PubX.mk⟩
end X11

