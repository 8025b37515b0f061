section X2
variable {g : GX} {σ : Nat → Nat} {ex : va_W}
variable {x_tape : Int → Int} {x_taped : Int} {x_faultKind : Int} {x_faultPlace : Int} {x_bestStarved : Int} {x_bestMost : Int} {x_bestWhole : Int} {x_draws : Int → Int} {x_left : Int → Int} {x_mosts : Int → Int} {x_widened : Int → Int} {x_drawn : Int} {x_img : Nat → Option Nat} {n_width : Int → Int} {n_from : Int → Int} {n_to : Int → Int} {n_load : Int → Int} {n_group : Int → Int} {n_budget : Int → Int} {n_columns : Int} {n_rows : Int} {n_limit : Int} {n_wear : Int} {n_straps : Int} {n_pads : Int} {n_lines : Int} {n_mod : Int} {n_asz : Int} {n_el : Nat → Option Nat} {i_width : Int → Int} {i_load : Int → Int} {i_pads : Int} {i_reached : Int} {i_place : Int → Int} {i_table : Int → Int} {i_drop : Int → Int} {i_size : Int} {i_whole : Int} {t_width : Int → Int} {t_load : Int → Int} {t_pads : Int} {t_reached : Int} {t_place : Int → Int} {t_table : Int → Int} {t_drop : Int → Int} {t_size : Int} {t_whole : Int}
theorem c_X4_ties_I (hG : Gok g) {i j x : Int} (hi : i = -1 ∨ (0 ≤ i ∧ i < 9)) (hj : j = -1 ∨ (0 ≤ j ∧ j < 9)) (hx : inR x) : XMet g yX4_ties cX4_ties 4 none 0 0 0 [.ref (σ 16), .int (jI i), .int (jI j), .int (jI x)] (wX g σ x_tape x_taped x_faultKind x_faultPlace x_bestStarved x_bestMost x_bestWhole x_draws x_left x_mosts x_widened x_drawn x_img n_width n_from n_to n_load n_group n_budget n_columns n_rows n_limit n_wear n_straps n_pads n_lines n_mod n_asz n_el i_width i_load i_pads i_reached i_place i_table i_drop i_size i_whole t_width t_load t_pads t_reached t_place t_table t_drop t_size t_whole ++ ex) (pV (fun w => w = (wX g σ x_tape x_taped x_faultKind x_faultPlace x_bestStarved x_bestMost x_bestWhole x_draws x_left x_mosts x_widened x_drawn x_img n_width n_from n_to n_load n_group n_budget n_columns n_rows n_limit n_wear n_straps n_pads n_lines n_mod n_asz n_el i_width i_load i_pads i_reached i_place (tieF i_table i j x) i_drop i_size i_whole t_width t_load t_pads t_reached t_place t_table t_drop t_size t_whole ++ ex))) := by
  refine XMet.of (L := [some (.ref (σ 16)), some (.int (jI i)), some (.int (jI j)), some (.int (jI x))]) hG (by decide +kernel) (Nat.le_of_ble_eq_true rfl) rfl (fun K C E => ?_)
  refine r_iload_1 C dX4_ties_0 ?_
  refine r_iconst C dX4_ties_1 ?_
  refine r_if_icmpne (tgt := 6) C dX4_ties_2 (by decide) (fun c_2 => ?_) (fun c_2 => ?_) (by unfold inR; omega)
  · skip
    refine r_aload_0 C dX4_ties_6 ?_
    refine gI_table C q293 dX4_ties_7 ?_
    refine r_iload_1 C dX4_ties_10 ?_
    refine ld_i_tab C dX4_ties_11 ?_
    refine r_iload_1 C dX4_ties_12 ?_
    refine r_dup2 C dX4_ties_13 ?_
    refine ld_i_row C dX4_ties_14 ?_
    refine r_iload_3 C dX4_ties_15 ?_
    refine r_i2l C dX4_ties_16 ?_
    refine r_ladd C dX4_ties_17 ?_
    refine st_i_row C dX4_ties_18 ?_
    refine r_iload_2 C dX4_ties_19 ?_
    refine r_iconst C dX4_ties_20 ?_
    refine r_if_icmpeq (tgt := 37) C dX4_ties_21 (by decide) (fun c_21 => ?_) (fun c_21 => ?_) (by unfold inR; omega)
    · skip
      refine r_return C E dX4_ties_37 ?_
      refine ⟨rfl, ?_⟩
      unfold tieF
      first
        | rw [if_pos c_2]
        | rw [if_neg c_2, if_pos c_21]
        | rw [if_neg c_2, if_neg c_21]
    · skip
      refine r_aload_0 C dX4_ties_24 ?_
      refine gI_table C q293 dX4_ties_25 ?_
      refine r_iload_1 C dX4_ties_28 ?_
      refine ld_i_tab C dX4_ties_29 ?_
      refine r_iload_2 C dX4_ties_30 ?_
      refine r_dup2 C dX4_ties_31 ?_
      refine ld_i_row C dX4_ties_32 ?_
      refine r_iload_3 C dX4_ties_33 ?_
      refine r_i2l C dX4_ties_34 ?_
      refine r_lsub C dX4_ties_35 ?_
      refine st_i_row C dX4_ties_36 ?_
      refine r_return C E dX4_ties_37 ?_
      refine ⟨rfl, ?_⟩
      unfold tieF
      first
        | rw [if_pos c_2]
        | rw [if_neg c_2, if_pos c_21]
        | rw [if_neg c_2, if_neg c_21]
  · skip
    refine r_return C E dX4_ties_5 ?_
    refine ⟨rfl, ?_⟩
    unfold tieF
    first
      | rw [if_pos c_2]
      | rw [if_neg c_2, if_pos c_21]
      | rw [if_neg c_2, if_neg c_21]
theorem c_X4_turns_I (hG : Gok g) {A : Int → Int → Int} (hm9 : 0 ≤ i_size ∧ i_size ≤ 9) (hR0 : RepX i_table i_size (bT A 0)) (hok : BrOk A i_size) : XMet g yX4_turns cX4_turns 10 none 0 0 0 [.ref (σ 16)] (wX g σ x_tape x_taped x_faultKind x_faultPlace x_bestStarved x_bestMost x_bestWhole x_draws x_left x_mosts x_widened x_drawn x_img n_width n_from n_to n_load n_group n_budget n_columns n_rows n_limit n_wear n_straps n_pads n_lines n_mod n_asz n_el i_width i_load i_pads i_reached i_place i_table i_drop i_size i_whole t_width t_load t_pads t_reached t_place t_table t_drop t_size t_whole ++ ex) (pV (fun w => ∃ tb, RepX tb i_size (bT A (i_size).toNat) ∧ w = (wX g σ x_tape x_taped x_faultKind x_faultPlace x_bestStarved x_bestMost x_bestWhole x_draws x_left x_mosts x_widened x_drawn x_img n_width n_from n_to n_load n_group n_budget n_columns n_rows n_limit n_wear n_straps n_pads n_lines n_mod n_asz n_el i_width i_load i_pads i_reached i_place (tb) i_drop i_size (bV A (i_size).toNat) t_width t_load t_pads t_reached t_place t_table t_drop t_size t_whole ++ ex))) := by
  refine XMet.of (L := [some (.ref (σ 16)), none, none, none, none, none, none, none, none, none]) hG (by decide +kernel) (Nat.le_of_ble_eq_true rfl) rfl (fun K C E => ?_)
  have hcm : ∀ x, 0 ≤ x → x < 2 * i_size → 0 ≤ cm i_size x ∧ cm i_size x < 18 := by
    intro x h0 h1
    unfold cm
    split <;> omega
  have hcl : ∀ x, x < i_size → cm i_size x = x := fun x h => if_pos h
  have key : ∀ (mm : Nat), ∀ (q : Int) (tb : Int → Int) (l4 l5 l6 l7 l8 l9 : Option Value), (0 ≤ q) → (q ≤ i_size) → (RepX tb i_size (bT A q.toNat)) → (lo_n2 (some l5) = true) → (lo_n2 (some l6) = true) → (lo_n2 (some l8) = true) → (i_size - q).toNat = mm → AW g K (wX g σ x_tape x_taped x_faultKind x_faultPlace x_bestStarved x_bestMost x_bestWhole x_draws x_left x_mosts x_widened x_drawn x_img n_width n_from n_to n_load n_group n_budget n_columns n_rows n_limit n_wear n_straps n_pads n_lines n_mod n_asz n_el i_width i_load i_pads i_reached i_place (tb) i_drop i_size i_whole t_width t_load t_pads t_reached t_place t_table t_drop t_size t_whole ++ ex) 0 0 4 [some (.ref (σ 16)), some (.long (jL (bV A q.toNat))), none, some (.int (jI q)), l4, l5, l6, l7, l8, l9] [] := by
    intro mm
    induction mm using Nat.strongRecOn with
    | _ mm ih =>
    intro q tb l4 l5 l6 l7 l8 l9 hq0 hq hR hn5 hn6 hn8 hm
    have eq : ((q.toNat : Nat) : Int) = q := by omega
    have hnew : ∀ i x : Int, bT A (q + 1).toNat i x = if i = q then bT A q.toNat i x else Int.tdiv (bT A q.toNat i x * bT A q.toNat q q - bT A q.toNat q x * bT A q.toNat i q) (bV A q.toNat) := by
      intro i x
      rw [show (q + 1).toNat = q.toNat + 1 by omega, bT_s, eq]
    have hvq := hok.2 q.toNat (by omega)
    have hup : q < i_size → ∀ (mm2 : Nat) (u : Int) (tb : Int → Int) (l7 l8 l9 : Option Value), 0 ≤ u → u ≤ i_size → RepG tb i_size (fun i x => if i < u then bT A (q + 1).toNat i (cm i_size x) else bT A q.toNat i (cm i_size x)) → lo_n2 (some l8) = true → (i_size - u).toNat = mm2 → AW g K (wX g σ x_tape x_taped x_faultKind x_faultPlace x_bestStarved x_bestMost x_bestWhole x_draws x_left x_mosts x_widened x_drawn x_img n_width n_from n_to n_load n_group n_budget n_columns n_rows n_limit n_wear n_straps n_pads n_lines n_mod n_asz n_el i_width i_load i_pads i_reached i_place (tb) i_drop i_size i_whole t_width t_load t_pads t_reached t_place t_table t_drop t_size t_whole ++ ex) 0 0 25 [some (.ref (σ 16)), some (.long (jL (bV A q.toNat))), none, some (.int (jI q)), some (.long (jL (bT A q.toNat q q))), none, some (.int (jI u)), l7, l8, l9] [] := by
      intro hlt mm2
      induction mm2 using Nat.strongRecOn with
      | _ mm2 ih2 =>
      intro u tb l7 l8 l9 hu0 hu hR hn8 hm2
      have hcol : u < i_size → ∀ (mm3 : Nat) (x : Int) (tb : Int → Int), 0 ≤ x → x ≤ 2 * i_size → RepG tb i_size (fun i y => if i < u ∨ (i = u ∧ y < x ∧ u ≠ q) then bT A (q + 1).toNat i (cm i_size y) else bT A q.toNat i (cm i_size y)) → (2 * i_size - x).toNat = mm3 → AW g K (wX g σ x_tape x_taped x_faultKind x_faultPlace x_bestStarved x_bestMost x_bestWhole x_draws x_left x_mosts x_widened x_drawn x_img n_width n_from n_to n_load n_group n_budget n_columns n_rows n_limit n_wear n_straps n_pads n_lines n_mod n_asz n_el i_width i_load i_pads i_reached i_place (tb) i_drop i_size i_whole t_width t_load t_pads t_reached t_place t_table t_drop t_size t_whole ++ ex) 0 0 48 [some (.ref (σ 16)), some (.long (jL (bV A q.toNat))), none, some (.int (jI q)), some (.long (jL (bT A q.toNat q q))), none, some (.int (jI u)), some (.long (jL (bT A q.toNat u q))), none, some (.int (jI x))] [] := by
        intro hult mm3
        induction mm3 using Nat.strongRecOn with
        | _ mm3 ih3 =>
        intro x tb hx0 hx hR hm3
        refine r_iload_9 C dX4_turns_48 ?_
        refine r_iconst C dX4_turns_50 ?_
        refine r_aload_0 C dX4_turns_51 ?_
        refine gI_size C q296 dX4_turns_52 ?_
        refine r_imul C dX4_turns_55 ?_
        refine r_if_icmpge (tgt := 109) C dX4_turns_56 (by decide) (fun c_56 => ?_) (fun c_56 => ?_)
        · skip
          have hR' : RepG tb i_size (fun i x => if i < u + 1 then bT A (q + 1).toNat i (cm i_size x) else bT A q.toNat i (cm i_size x)) := hR.cong (fun i y h1 h2 h3 h4 => by
            by_cases e : i = u
            · subst e
              rw [if_pos (show i < i + 1 by omega)]
              by_cases e2 : i = q
              · rw [if_neg (by omega), hnew, if_pos e2]
              · rw [if_pos (by omega)]
            · by_cases e2 : i < u
              · rw [if_pos (Or.inl e2), if_pos (show i < u + 1 by omega)]
              · rw [if_neg (by omega), if_neg (show ¬ i < u + 1 by omega)])
          refine r_iinc_6 C dX4_turns_109 ?_
          refine r_goto (tgt := 25) C dX4_turns_112 (by decide) ?_
          exact ih2 _ (show (i_size - (u + 1)).toNat < mm2 by omega) (u + 1) tb _ _ _ (by omega) (by omega) hR' rfl rfl
        · skip
          refine r_iload_6 C dX4_turns_59 ?_
          refine r_iload_3 C dX4_turns_61 ?_
          refine r_if_icmpeq (tgt := 109) C dX4_turns_62 (by decide) (fun c_62 => ?_) (fun c_62 => ?_)
          · skip
            have hR' : RepG tb i_size (fun i x => if i < u + 1 then bT A (q + 1).toNat i (cm i_size x) else bT A q.toNat i (cm i_size x)) := hR.cong (fun i y h1 h2 h3 h4 => by
              by_cases e : i = u
              · subst e
                rw [if_pos (show i < i + 1 by omega)]
                by_cases e2 : i = q
                · rw [if_neg (by omega), hnew, if_pos e2]
                · rw [if_pos (by omega)]
              · by_cases e2 : i < u
                · rw [if_pos (Or.inl e2), if_pos (show i < u + 1 by omega)]
                · rw [if_neg (by omega), if_neg (show ¬ i < u + 1 by omega)])
            refine r_iinc_6 C dX4_turns_109 ?_
            refine r_goto (tgt := 25) C dX4_turns_112 (by decide) ?_
            exact ih2 _ (show (i_size - (u + 1)).toNat < mm2 by omega) (u + 1) tb _ _ _ (by omega) (by omega) hR' rfl rfl
          · skip
            have hcx := hcm x hx0 c_56
            refine r_aload_0 C dX4_turns_65 ?_
            refine gI_table C q293 dX4_turns_66 ?_
            refine r_iload_6 C dX4_turns_69 ?_
            refine ld_i_tab C dX4_turns_71 ?_
            refine r_iload_9 C dX4_turns_72 ?_
            refine r_aload_0 C dX4_turns_74 ?_
            refine gI_table C q293 dX4_turns_75 ?_
            refine r_iload_6 C dX4_turns_78 ?_
            refine ld_i_tab C dX4_turns_80 ?_
            refine r_iload_9 C dX4_turns_81 ?_
            refine ld_i_row C dX4_turns_83 ?_
            have e1 := hR u x hu0 hult hx0 c_56
            simp only [] at e1
            rw [if_neg (by omega)] at e1
            refine r_topl (bT A q.toNat u (cm i_size x)) e1 ?_
            refine r_lload_4 C dX4_turns_84 ?_
            refine r_lmul C dX4_turns_86 ?_
            refine r_lload_7 C dX4_turns_87 ?_
            refine r_aload_0 C dX4_turns_89 ?_
            refine gI_table C q293 dX4_turns_90 ?_
            refine r_iload_3 C dX4_turns_93 ?_
            refine ld_i_tab C dX4_turns_94 ?_
            refine r_iload_9 C dX4_turns_95 ?_
            refine ld_i_row C dX4_turns_97 ?_
            have e2 := hR q x hq0 hlt hx0 c_56
            have e3 : (if q < u ∨ (q = u ∧ x < x ∧ u ≠ q) then bT A (q + 1).toNat q (cm i_size x) else bT A q.toNat q (cm i_size x)) = bT A q.toNat q (cm i_size x) := by
              split
              · rw [hnew, if_pos rfl]
              · rfl
            refine r_topl (bT A q.toNat q (cm i_size x)) (e2.trans e3) ?_
            refine r_lmul C dX4_turns_98 ?_
            refine r_topl (bT A q.toNat q (cm i_size x) * bT A q.toNat u q) (Int.mul_comm _ _) ?_
            refine r_lsub C dX4_turns_99 ?_
            refine r_lload_1 C dX4_turns_100 ?_
            have hin := hok.1 q.toNat (by omega) u (cm i_size x) hu0 hult hcx.1 hcx.2
            rw [eq] at hin
            refine r_ldiv C dX4_turns_101 ?_ hin hvq.2 hvq.1
            refine st_i_row C dX4_turns_102 ?_
            refine r_iinc_9 C dX4_turns_103 ?_
            refine r_goto (tgt := 48) C dX4_turns_106 (by decide) ?_
            refine ih3 _ (show (2 * i_size - (x + 1)).toNat < mm3 by omega) (x + 1) _ (by omega) (by omega) ?_ rfl
            refine (hR.set hm9.2 hx0 (by omega)).cong (fun i y h1 h2 h3 h4 => ?_)
            by_cases e : i = u ∧ y = x
            · obtain ⟨rfl, rfl⟩ := e
              rw [if_pos ⟨rfl, rfl⟩, if_pos (by omega), hnew, if_neg c_62]
            · rw [if_neg e]
              by_cases e2 : i < u ∨ (i = u ∧ y < x ∧ u ≠ q)
              · rw [if_pos e2, if_pos (by omega)]
              · rw [if_neg e2, if_neg (by omega)]
      refine r_iload_6 C dX4_turns_25 ?_
      refine r_aload_0 C dX4_turns_27 ?_
      refine gI_size C q296 dX4_turns_28 ?_
      refine r_if_icmpge (tgt := 115) C dX4_turns_31 (by decide) (fun c_31 => ?_) (fun c_31 => ?_)
      · skip
        refine r_lload_4 C dX4_turns_115 ?_
        refine r_lstore_1 C dX4_turns_117 ?_
        refine r_iinc_3 C dX4_turns_118 ?_
        refine r_goto (tgt := 4) C dX4_turns_121 (by decide) ?_
        have eu : u = i_size := by omega
        have ev : bT A q.toNat q q = bV A (q + 1).toNat := by rw [show (q + 1).toNat = q.toNat + 1 by omega, bV_s, eq]
        rw [ev]
        refine ih _ (show (i_size - (q + 1)).toNat < mm by omega) (q + 1) tb _ _ _ _ _ _ (by omega) (by omega) ?_ rfl rfl hn8 rfl
        refine hR.cong (fun i y h1 h2 h3 h4 => ?_)
        rw [if_pos (by omega)]
      · skip
        refine r_aload_0 C dX4_turns_34 ?_
        refine gI_table C q293 dX4_turns_35 ?_
        refine r_iload_6 C dX4_turns_38 ?_
        refine ld_i_tab C dX4_turns_40 ?_
        refine r_iload_3 C dX4_turns_41 ?_
        refine ld_i_row C dX4_turns_42 ?_
        have e1 := hR u q hu0 c_31 hq0 (by omega)
        simp only [] at e1
        rw [if_neg (by omega), hcl q hlt] at e1
        refine r_topl (bT A q.toNat u q) e1 ?_
        refine r_lstore_7 C dX4_turns_43 ?_
        refine r_iconst C dX4_turns_45 ?_
        refine r_istore_9 C dX4_turns_46 ?_
        refine hcol c_31 _ 0 tb (by omega) (by omega) ?_ rfl
        refine hR.cong (fun i y h1 h2 h3 h4 => ?_)
        by_cases e2 : i < u
        · rw [if_pos e2, if_pos (Or.inl e2)]
        · rw [if_neg e2, if_neg (by omega)]
    refine r_iload_3 C dX4_turns_4 ?_
    refine r_aload_0 C dX4_turns_5 ?_
    refine gI_size C q296 dX4_turns_6 ?_
    refine r_if_icmpge (tgt := 124) C dX4_turns_9 (by decide) (fun c_9 => ?_) (fun c_9 => ?_)
    · skip
      refine r_aload_0 C dX4_turns_124 ?_
      refine r_lload_1 C dX4_turns_125 ?_
      refine pI_whole C q297 dX4_turns_126 ?_
      refine r_return C E dX4_turns_129 ?_
      have e : q = i_size := by omega
      subst e
      exact ⟨rfl, tb, hR, rfl⟩
    · skip
      refine r_aload_0 C dX4_turns_12 ?_
      refine gI_table C q293 dX4_turns_13 ?_
      refine r_iload_3 C dX4_turns_16 ?_
      refine ld_i_tab C dX4_turns_17 ?_
      refine r_iload_3 C dX4_turns_18 ?_
      refine ld_i_row C dX4_turns_19 ?_
      have e1 := hR q q hq0 c_9 hq0 (by omega)
      simp only [] at e1
      rw [hcl q c_9] at e1
      refine r_topl (bT A q.toNat q q) e1 ?_
      refine r_lstore_4 C dX4_turns_20 ?_
      refine r_iconst C dX4_turns_22 ?_
      refine r_istore_6 C dX4_turns_23 ?_
      refine hup c_9 _ 0 tb _ _ _ (by omega) (by omega) ?_ hn8 rfl
      refine hR.cong (fun i y h1 h2 h3 h4 => ?_)
      rw [if_neg (by omega)]
  refine r_lconst1 C dX4_turns_0 ?_
  refine r_lstore_1 C dX4_turns_1 ?_
  refine r_iconst C dX4_turns_2 ?_
  refine r_istore_3 C dX4_turns_3 ?_
  exact key _ 0 i_table _ _ _ _ _ _ (by omega) (by omega) hR0 rfl rfl rfl rfl
theorem c_X4_moves_I (hG : Gok g) {v u c r F : Int} {wd : Int → Int} (hg : GW c r) (hp : ∀ v, 0 ≤ v → v < c * r → i_place v = gx c r wd F v) (hsz : i_size = gm c r wd F) (hR : RepX i_table (gm c r wd F) (bT (gA c r wd F) (gm c r wd F).toNat)) (hv : 0 ≤ v ∧ v < c * r) (hu : 0 ≤ u ∧ u < c * r) : XMet g yX4_moves cX4_moves 3 (some .long) 0 0 0 [.ref (σ 16), .int (jI v), .int (jI u)] (wX g σ x_tape x_taped x_faultKind x_faultPlace x_bestStarved x_bestMost x_bestWhole x_draws x_left x_mosts x_widened x_drawn x_img n_width n_from n_to n_load n_group n_budget n_columns n_rows n_limit n_wear n_straps n_pads n_lines n_mod n_asz n_el i_width i_load i_pads i_reached i_place i_table i_drop i_size i_whole t_width t_load t_pads t_reached t_place t_table t_drop t_size t_whole ++ ex) (pL (fun z w => z = mv c r wd F v u ∧ w = (wX g σ x_tape x_taped x_faultKind x_faultPlace x_bestStarved x_bestMost x_bestWhole x_draws x_left x_mosts x_widened x_drawn x_img n_width n_from n_to n_load n_group n_budget n_columns n_rows n_limit n_wear n_straps n_pads n_lines n_mod n_asz n_el i_width i_load i_pads i_reached i_place i_table i_drop i_size i_whole t_width t_load t_pads t_reached t_place t_table t_drop t_size t_whole ++ ex))) := by
  refine XMet.of (L := [some (.ref (σ 16)), some (.int (jI v)), some (.int (jI u))]) hG (by decide +kernel) (Nat.le_of_ble_eq_true rfl) rfl (fun K C E => ?_)
  have hn := hg.2.2
  have hm := gm_in (wd := wd) (F := F) hg
  have e1 := hp v hv.1 hv.2
  have e2 := hp u hu.1 hu.2
  have i1 := gx_in (c := c) (r := r) (wd := wd) (F := F) hv.1 hv.2
  have i2 := gx_in (c := c) (r := r) (wd := wd) (F := F) hu.1 hu.2
  rw [← e1] at i1
  rw [← e2] at i2
  refine r_aload_0 C dX4_moves_0 ?_
  refine gI_place C q292 dX4_moves_1 ?_
  refine r_iload_1 C dX4_moves_4 ?_
  refine ld_i_place C dX4_moves_5 ?_
  refine r_iconst C dX4_moves_6 ?_
  refine r_if_icmpeq (tgt := 20) C dX4_moves_7 (by decide) (fun c_7 => ?_) (fun c_7 => ?_)
  · skip
    refine r_lconst0 C dX4_moves_20 ?_
    refine r_goto (tgt := 47) C dX4_moves_21 (by decide) ?_
    refine r_lreturn C E dX4_moves_47 ?_
    refine ⟨_, rfl, ?_, rfl⟩
    first
      | exact hc.symm
      | (unfold mv
         rw [← e1, ← e2, if_pos (by omega)])
  · skip
    refine r_aload_0 C dX4_moves_10 ?_
    refine gI_place C q292 dX4_moves_11 ?_
    refine r_iload_2 C dX4_moves_14 ?_
    refine ld_i_place C dX4_moves_15 ?_
    refine r_iconst C dX4_moves_16 ?_
    refine r_if_icmpne (tgt := 24) C dX4_moves_17 (by decide) (fun c_17 => ?_) (fun c_17 => ?_)
    · skip
      refine r_aload_0 C dX4_moves_24 ?_
      refine gI_table C q293 dX4_moves_25 ?_
      refine r_aload_0 C dX4_moves_28 ?_
      refine gI_place C q292 dX4_moves_29 ?_
      refine r_iload_1 C dX4_moves_32 ?_
      refine ld_i_place C dX4_moves_33 ?_
      refine ld_i_tab C dX4_moves_34 ?_
      refine r_aload_0 C dX4_moves_35 ?_
      refine gI_size C q296 dX4_moves_36 ?_
      refine r_aload_0 C dX4_moves_39 ?_
      refine gI_place C q292 dX4_moves_40 ?_
      refine r_iload_2 C dX4_moves_43 ?_
      refine ld_i_place C dX4_moves_44 ?_
      refine r_iadd C dX4_moves_45 ?_
      have hc : mv c r wd F v u = i_table (18 * i_place v + (i_size + i_place u)) := by
        unfold mv
        rw [← e1, ← e2, if_neg (by omega)]
        have := hR (i_place v) (gm c r wd F + i_place u) (by omega) (by omega) (by omega) (by omega)
        simp only [] at this
        rw [hsz, this]
        unfold cm
        rw [if_neg (by omega), show gm c r wd F + i_place u - gm c r wd F = i_place u by omega]
      refine ld_i_row C dX4_moves_46 ?_
      refine r_lreturn C E dX4_moves_47 ?_
      refine ⟨_, rfl, ?_, rfl⟩
      first
        | exact hc.symm
        | (unfold mv
           rw [← e1, ← e2, if_pos (by omega)])
    · skip
      refine r_lconst0 C dX4_moves_20 ?_
      refine r_goto (tgt := 47) C dX4_moves_21 (by decide) ?_
      refine r_lreturn C E dX4_moves_47 ?_
      refine ⟨_, rfl, ?_, rfl⟩
      first
        | exact hc.symm
        | (unfold mv
           rw [← e1, ← e2, if_pos (by omega)])
theorem c_X4_isLive_I (hG : Gok g) {v : Int} {w : Int → Int} (hv : inR v) (hc : n_columns = w 0) (hr : n_rows = w 1) (hn : 0 ≤ wN w ∧ wN w ≤ 9) (hre : 0 ≤ i_reached ∧ i_reached < 512) : XMet g yX4_isLive cX4_isLive 2 (some .boolean) 3 0 0 [.ref (σ 16), .int (jI v)] (wX g σ x_tape x_taped x_faultKind x_faultPlace x_bestStarved x_bestMost x_bestWhole x_draws x_left x_mosts x_widened x_drawn x_img n_width n_from n_to n_load n_group n_budget n_columns n_rows n_limit n_wear n_straps n_pads n_lines n_mod n_asz n_el i_width i_load i_pads i_reached i_place i_table i_drop i_size i_whole t_width t_load t_pads t_reached t_place t_table t_drop t_size t_whole ++ ex) (pI (fun z ww => z = (if (isNb w v && bsB i_reached v) = true then 1 else 0) ∧ ww = (wX g σ x_tape x_taped x_faultKind x_faultPlace x_bestStarved x_bestMost x_bestWhole x_draws x_left x_mosts x_widened x_drawn x_img n_width n_from n_to n_load n_group n_budget n_columns n_rows n_limit n_wear n_straps n_pads n_lines n_mod n_asz n_el i_width i_load i_pads i_reached i_place i_table i_drop i_size i_whole t_width t_load t_pads t_reached t_place t_table t_drop t_size t_whole ++ ex))) := by
  refine XMet.of (L := [some (.ref (σ 16)), some (.int (jI v))]) hG (by decide +kernel) (Nat.le_of_ble_eq_true rfl) rfl (fun K C E => ?_)
  refine r_aload_0 C dX4_isLive_0 ?_
  refine r_iload_1 C dX4_isLive_1 ?_
  refine r_supLive C (c_X2_isLive_I hG hv hc hr hn) (q0 := 16) rfl q783 dX4_isLive_2 (fun z w h => ?_)
  obtain ⟨rfl, rfl⟩ := h
  refine r_ifeqB (tgt := 23) C dX4_isLive_5 (by decide) (fun c_5 => ?_) (fun c_5 => ?_)
  · skip
    refine r_iconst C dX4_isLive_23 ?_
    refine r_zreturn C E dX4_isLive_24 (by first | exact Or.inl rfl | exact Or.inr rfl | omega) ?_
    refine ⟨_, rfl, ?_, rfl⟩
    simp_all
  · skip
    have hvv := isNb_in c_5
    refine r_aload_0 C dX4_isLive_8 ?_
    refine gII_reached C q312 dX4_isLive_9 ?_
    refine r_iload_1 C dX4_isLive_12 ?_
    refine r_cSN2i C (c_X0_isOn hG (by omega) (by omega)) q735 pkX0_isOn dX4_isLive_13 (fun z w h => ?_)
    obtain ⟨rfl, rfl⟩ := h
    refine r_ifeqB (tgt := 23) C dX4_isLive_16 (by decide) (fun c_16 => ?_) (fun c_16 => ?_)
    · skip
      refine r_iconst C dX4_isLive_23 ?_
      refine r_zreturn C E dX4_isLive_24 (by first | exact Or.inl rfl | exact Or.inr rfl | omega) ?_
      refine ⟨_, rfl, ?_, rfl⟩
      simp_all
    · skip
      refine r_iconst C dX4_isLive_19 ?_
      refine r_goto (tgt := 24) C dX4_isLive_20 (by decide) ?_
      refine r_zreturn C E dX4_isLive_24 (by first | exact Or.inl rfl | exact Or.inr rfl | omega) ?_
      refine ⟨_, rfl, ?_, rfl⟩
      simp_all

theorem c_X4_ties_Y (hG : Gok g) {i j x : Int} (hi : i = -1 ∨ (0 ≤ i ∧ i < 9)) (hj : j = -1 ∨ (0 ≤ j ∧ j < 9)) (hx : inR x) : XMet g yX4_ties cX4_ties 4 none 0 0 0 [.ref (σ 31), .int (jI i), .int (jI j), .int (jI x)] (wX g σ x_tape x_taped x_faultKind x_faultPlace x_bestStarved x_bestMost x_bestWhole x_draws x_left x_mosts x_widened x_drawn x_img n_width n_from n_to n_load n_group n_budget n_columns n_rows n_limit n_wear n_straps n_pads n_lines n_mod n_asz n_el i_width i_load i_pads i_reached i_place i_table i_drop i_size i_whole t_width t_load t_pads t_reached t_place t_table t_drop t_size t_whole ++ ex) (pV (fun w => w = (wX g σ x_tape x_taped x_faultKind x_faultPlace x_bestStarved x_bestMost x_bestWhole x_draws x_left x_mosts x_widened x_drawn x_img n_width n_from n_to n_load n_group n_budget n_columns n_rows n_limit n_wear n_straps n_pads n_lines n_mod n_asz n_el i_width i_load i_pads i_reached i_place i_table i_drop i_size i_whole t_width t_load t_pads t_reached t_place (tieF t_table i j x) t_drop t_size t_whole ++ ex))) := by
  refine XMet.of (L := [some (.ref (σ 31)), some (.int (jI i)), some (.int (jI j)), some (.int (jI x))]) hG (by decide +kernel) (Nat.le_of_ble_eq_true rfl) rfl (fun K C E => ?_)
  refine r_iload_1 C dX4_ties_0 ?_
  refine r_iconst C dX4_ties_1 ?_
  refine r_if_icmpne (tgt := 6) C dX4_ties_2 (by decide) (fun c_2 => ?_) (fun c_2 => ?_) (by unfold inR; omega)
  · skip
    refine r_aload_0 C dX4_ties_6 ?_
    refine gY_table C q293 dX4_ties_7 ?_
    refine r_iload_1 C dX4_ties_10 ?_
    refine ld_t_tab C dX4_ties_11 ?_
    refine r_iload_1 C dX4_ties_12 ?_
    refine r_dup2 C dX4_ties_13 ?_
    refine ld_t_row C dX4_ties_14 ?_
    refine r_iload_3 C dX4_ties_15 ?_
    refine r_i2l C dX4_ties_16 ?_
    refine r_ladd C dX4_ties_17 ?_
    refine st_t_row C dX4_ties_18 ?_
    refine r_iload_2 C dX4_ties_19 ?_
    refine r_iconst C dX4_ties_20 ?_
    refine r_if_icmpeq (tgt := 37) C dX4_ties_21 (by decide) (fun c_21 => ?_) (fun c_21 => ?_) (by unfold inR; omega)
    · skip
      refine r_return C E dX4_ties_37 ?_
      refine ⟨rfl, ?_⟩
      unfold tieF
      first
        | rw [if_pos c_2]
        | rw [if_neg c_2, if_pos c_21]
        | rw [if_neg c_2, if_neg c_21]
    · skip
      refine r_aload_0 C dX4_ties_24 ?_
      refine gY_table C q293 dX4_ties_25 ?_
      refine r_iload_1 C dX4_ties_28 ?_
      refine ld_t_tab C dX4_ties_29 ?_
      refine r_iload_2 C dX4_ties_30 ?_
      refine r_dup2 C dX4_ties_31 ?_
      refine ld_t_row C dX4_ties_32 ?_
      refine r_iload_3 C dX4_ties_33 ?_
      refine r_i2l C dX4_ties_34 ?_
      refine r_lsub C dX4_ties_35 ?_
      refine st_t_row C dX4_ties_36 ?_
      refine r_return C E dX4_ties_37 ?_
      refine ⟨rfl, ?_⟩
      unfold tieF
      first
        | rw [if_pos c_2]
        | rw [if_neg c_2, if_pos c_21]
        | rw [if_neg c_2, if_neg c_21]
  · skip
    refine r_return C E dX4_ties_5 ?_
    refine ⟨rfl, ?_⟩
    unfold tieF
    first
      | rw [if_pos c_2]
      | rw [if_neg c_2, if_pos c_21]
      | rw [if_neg c_2, if_neg c_21]
theorem c_X4_turns_Y (hG : Gok g) {A : Int → Int → Int} (hm9 : 0 ≤ t_size ∧ t_size ≤ 9) (hR0 : RepX t_table t_size (bT A 0)) (hok : BrOk A t_size) : XMet g yX4_turns cX4_turns 10 none 0 0 0 [.ref (σ 31)] (wX g σ x_tape x_taped x_faultKind x_faultPlace x_bestStarved x_bestMost x_bestWhole x_draws x_left x_mosts x_widened x_drawn x_img n_width n_from n_to n_load n_group n_budget n_columns n_rows n_limit n_wear n_straps n_pads n_lines n_mod n_asz n_el i_width i_load i_pads i_reached i_place i_table i_drop i_size i_whole t_width t_load t_pads t_reached t_place t_table t_drop t_size t_whole ++ ex) (pV (fun w => ∃ tb, RepX tb t_size (bT A (t_size).toNat) ∧ w = (wX g σ x_tape x_taped x_faultKind x_faultPlace x_bestStarved x_bestMost x_bestWhole x_draws x_left x_mosts x_widened x_drawn x_img n_width n_from n_to n_load n_group n_budget n_columns n_rows n_limit n_wear n_straps n_pads n_lines n_mod n_asz n_el i_width i_load i_pads i_reached i_place i_table i_drop i_size i_whole t_width t_load t_pads t_reached t_place (tb) t_drop t_size (bV A (t_size).toNat) ++ ex))) := by
  refine XMet.of (L := [some (.ref (σ 31)), none, none, none, none, none, none, none, none, none]) hG (by decide +kernel) (Nat.le_of_ble_eq_true rfl) rfl (fun K C E => ?_)
  have hcm : ∀ x, 0 ≤ x → x < 2 * t_size → 0 ≤ cm t_size x ∧ cm t_size x < 18 := by
    intro x h0 h1
    unfold cm
    split <;> omega
  have hcl : ∀ x, x < t_size → cm t_size x = x := fun x h => if_pos h
  have key : ∀ (mm : Nat), ∀ (q : Int) (tb : Int → Int) (l4 l5 l6 l7 l8 l9 : Option Value), (0 ≤ q) → (q ≤ t_size) → (RepX tb t_size (bT A q.toNat)) → (lo_n2 (some l5) = true) → (lo_n2 (some l6) = true) → (lo_n2 (some l8) = true) → (t_size - q).toNat = mm → AW g K (wX g σ x_tape x_taped x_faultKind x_faultPlace x_bestStarved x_bestMost x_bestWhole x_draws x_left x_mosts x_widened x_drawn x_img n_width n_from n_to n_load n_group n_budget n_columns n_rows n_limit n_wear n_straps n_pads n_lines n_mod n_asz n_el i_width i_load i_pads i_reached i_place i_table i_drop i_size i_whole t_width t_load t_pads t_reached t_place (tb) t_drop t_size t_whole ++ ex) 0 0 4 [some (.ref (σ 31)), some (.long (jL (bV A q.toNat))), none, some (.int (jI q)), l4, l5, l6, l7, l8, l9] [] := by
    intro mm
    induction mm using Nat.strongRecOn with
    | _ mm ih =>
    intro q tb l4 l5 l6 l7 l8 l9 hq0 hq hR hn5 hn6 hn8 hm
    have eq : ((q.toNat : Nat) : Int) = q := by omega
    have hnew : ∀ i x : Int, bT A (q + 1).toNat i x = if i = q then bT A q.toNat i x else Int.tdiv (bT A q.toNat i x * bT A q.toNat q q - bT A q.toNat q x * bT A q.toNat i q) (bV A q.toNat) := by
      intro i x
      rw [show (q + 1).toNat = q.toNat + 1 by omega, bT_s, eq]
    have hvq := hok.2 q.toNat (by omega)
    have hup : q < t_size → ∀ (mm2 : Nat) (u : Int) (tb : Int → Int) (l7 l8 l9 : Option Value), 0 ≤ u → u ≤ t_size → RepG tb t_size (fun i x => if i < u then bT A (q + 1).toNat i (cm t_size x) else bT A q.toNat i (cm t_size x)) → lo_n2 (some l8) = true → (t_size - u).toNat = mm2 → AW g K (wX g σ x_tape x_taped x_faultKind x_faultPlace x_bestStarved x_bestMost x_bestWhole x_draws x_left x_mosts x_widened x_drawn x_img n_width n_from n_to n_load n_group n_budget n_columns n_rows n_limit n_wear n_straps n_pads n_lines n_mod n_asz n_el i_width i_load i_pads i_reached i_place i_table i_drop i_size i_whole t_width t_load t_pads t_reached t_place (tb) t_drop t_size t_whole ++ ex) 0 0 25 [some (.ref (σ 31)), some (.long (jL (bV A q.toNat))), none, some (.int (jI q)), some (.long (jL (bT A q.toNat q q))), none, some (.int (jI u)), l7, l8, l9] [] := by
      intro hlt mm2
      induction mm2 using Nat.strongRecOn with
      | _ mm2 ih2 =>
      intro u tb l7 l8 l9 hu0 hu hR hn8 hm2
      have hcol : u < t_size → ∀ (mm3 : Nat) (x : Int) (tb : Int → Int), 0 ≤ x → x ≤ 2 * t_size → RepG tb t_size (fun i y => if i < u ∨ (i = u ∧ y < x ∧ u ≠ q) then bT A (q + 1).toNat i (cm t_size y) else bT A q.toNat i (cm t_size y)) → (2 * t_size - x).toNat = mm3 → AW g K (wX g σ x_tape x_taped x_faultKind x_faultPlace x_bestStarved x_bestMost x_bestWhole x_draws x_left x_mosts x_widened x_drawn x_img n_width n_from n_to n_load n_group n_budget n_columns n_rows n_limit n_wear n_straps n_pads n_lines n_mod n_asz n_el i_width i_load i_pads i_reached i_place i_table i_drop i_size i_whole t_width t_load t_pads t_reached t_place (tb) t_drop t_size t_whole ++ ex) 0 0 48 [some (.ref (σ 31)), some (.long (jL (bV A q.toNat))), none, some (.int (jI q)), some (.long (jL (bT A q.toNat q q))), none, some (.int (jI u)), some (.long (jL (bT A q.toNat u q))), none, some (.int (jI x))] [] := by
        intro hult mm3
        induction mm3 using Nat.strongRecOn with
        | _ mm3 ih3 =>
        intro x tb hx0 hx hR hm3
        refine r_iload_9 C dX4_turns_48 ?_
        refine r_iconst C dX4_turns_50 ?_
        refine r_aload_0 C dX4_turns_51 ?_
        refine gY_size C q296 dX4_turns_52 ?_
        refine r_imul C dX4_turns_55 ?_
        refine r_if_icmpge (tgt := 109) C dX4_turns_56 (by decide) (fun c_56 => ?_) (fun c_56 => ?_)
        · skip
          have hR' : RepG tb t_size (fun i x => if i < u + 1 then bT A (q + 1).toNat i (cm t_size x) else bT A q.toNat i (cm t_size x)) := hR.cong (fun i y h1 h2 h3 h4 => by
            by_cases e : i = u
            · subst e
              rw [if_pos (show i < i + 1 by omega)]
              by_cases e2 : i = q
              · rw [if_neg (by omega), hnew, if_pos e2]
              · rw [if_pos (by omega)]
            · by_cases e2 : i < u
              · rw [if_pos (Or.inl e2), if_pos (show i < u + 1 by omega)]
              · rw [if_neg (by omega), if_neg (show ¬ i < u + 1 by omega)])
          refine r_iinc_6 C dX4_turns_109 ?_
          refine r_goto (tgt := 25) C dX4_turns_112 (by decide) ?_
          exact ih2 _ (show (t_size - (u + 1)).toNat < mm2 by omega) (u + 1) tb _ _ _ (by omega) (by omega) hR' rfl rfl
        · skip
          refine r_iload_6 C dX4_turns_59 ?_
          refine r_iload_3 C dX4_turns_61 ?_
          refine r_if_icmpeq (tgt := 109) C dX4_turns_62 (by decide) (fun c_62 => ?_) (fun c_62 => ?_)
          · skip
            have hR' : RepG tb t_size (fun i x => if i < u + 1 then bT A (q + 1).toNat i (cm t_size x) else bT A q.toNat i (cm t_size x)) := hR.cong (fun i y h1 h2 h3 h4 => by
              by_cases e : i = u
              · subst e
                rw [if_pos (show i < i + 1 by omega)]
                by_cases e2 : i = q
                · rw [if_neg (by omega), hnew, if_pos e2]
                · rw [if_pos (by omega)]
              · by_cases e2 : i < u
                · rw [if_pos (Or.inl e2), if_pos (show i < u + 1 by omega)]
                · rw [if_neg (by omega), if_neg (show ¬ i < u + 1 by omega)])
            refine r_iinc_6 C dX4_turns_109 ?_
            refine r_goto (tgt := 25) C dX4_turns_112 (by decide) ?_
            exact ih2 _ (show (t_size - (u + 1)).toNat < mm2 by omega) (u + 1) tb _ _ _ (by omega) (by omega) hR' rfl rfl
          · skip
            have hcx := hcm x hx0 c_56
            refine r_aload_0 C dX4_turns_65 ?_
            refine gY_table C q293 dX4_turns_66 ?_
            refine r_iload_6 C dX4_turns_69 ?_
            refine ld_t_tab C dX4_turns_71 ?_
            refine r_iload_9 C dX4_turns_72 ?_
            refine r_aload_0 C dX4_turns_74 ?_
            refine gY_table C q293 dX4_turns_75 ?_
            refine r_iload_6 C dX4_turns_78 ?_
            refine ld_t_tab C dX4_turns_80 ?_
            refine r_iload_9 C dX4_turns_81 ?_
            refine ld_t_row C dX4_turns_83 ?_
            have e1 := hR u x hu0 hult hx0 c_56
            simp only [] at e1
            rw [if_neg (by omega)] at e1
            refine r_topl (bT A q.toNat u (cm t_size x)) e1 ?_
            refine r_lload_4 C dX4_turns_84 ?_
            refine r_lmul C dX4_turns_86 ?_
            refine r_lload_7 C dX4_turns_87 ?_
            refine r_aload_0 C dX4_turns_89 ?_
            refine gY_table C q293 dX4_turns_90 ?_
            refine r_iload_3 C dX4_turns_93 ?_
            refine ld_t_tab C dX4_turns_94 ?_
            refine r_iload_9 C dX4_turns_95 ?_
            refine ld_t_row C dX4_turns_97 ?_
            have e2 := hR q x hq0 hlt hx0 c_56
            have e3 : (if q < u ∨ (q = u ∧ x < x ∧ u ≠ q) then bT A (q + 1).toNat q (cm t_size x) else bT A q.toNat q (cm t_size x)) = bT A q.toNat q (cm t_size x) := by
              split
              · rw [hnew, if_pos rfl]
              · rfl
            refine r_topl (bT A q.toNat q (cm t_size x)) (e2.trans e3) ?_
            refine r_lmul C dX4_turns_98 ?_
            refine r_topl (bT A q.toNat q (cm t_size x) * bT A q.toNat u q) (Int.mul_comm _ _) ?_
            refine r_lsub C dX4_turns_99 ?_
            refine r_lload_1 C dX4_turns_100 ?_
            have hin := hok.1 q.toNat (by omega) u (cm t_size x) hu0 hult hcx.1 hcx.2
            rw [eq] at hin
            refine r_ldiv C dX4_turns_101 ?_ hin hvq.2 hvq.1
            refine st_t_row C dX4_turns_102 ?_
            refine r_iinc_9 C dX4_turns_103 ?_
            refine r_goto (tgt := 48) C dX4_turns_106 (by decide) ?_
            refine ih3 _ (show (2 * t_size - (x + 1)).toNat < mm3 by omega) (x + 1) _ (by omega) (by omega) ?_ rfl
            refine (hR.set hm9.2 hx0 (by omega)).cong (fun i y h1 h2 h3 h4 => ?_)
            by_cases e : i = u ∧ y = x
            · obtain ⟨rfl, rfl⟩ := e
              rw [if_pos ⟨rfl, rfl⟩, if_pos (by omega), hnew, if_neg c_62]
            · rw [if_neg e]
              by_cases e2 : i < u ∨ (i = u ∧ y < x ∧ u ≠ q)
              · rw [if_pos e2, if_pos (by omega)]
              · rw [if_neg e2, if_neg (by omega)]
      refine r_iload_6 C dX4_turns_25 ?_
      refine r_aload_0 C dX4_turns_27 ?_
      refine gY_size C q296 dX4_turns_28 ?_
      refine r_if_icmpge (tgt := 115) C dX4_turns_31 (by decide) (fun c_31 => ?_) (fun c_31 => ?_)
      · skip
        refine r_lload_4 C dX4_turns_115 ?_
        refine r_lstore_1 C dX4_turns_117 ?_
        refine r_iinc_3 C dX4_turns_118 ?_
        refine r_goto (tgt := 4) C dX4_turns_121 (by decide) ?_
        have eu : u = t_size := by omega
        have ev : bT A q.toNat q q = bV A (q + 1).toNat := by rw [show (q + 1).toNat = q.toNat + 1 by omega, bV_s, eq]
        rw [ev]
        refine ih _ (show (t_size - (q + 1)).toNat < mm by omega) (q + 1) tb _ _ _ _ _ _ (by omega) (by omega) ?_ rfl rfl hn8 rfl
        refine hR.cong (fun i y h1 h2 h3 h4 => ?_)
        rw [if_pos (by omega)]
      · skip
        refine r_aload_0 C dX4_turns_34 ?_
        refine gY_table C q293 dX4_turns_35 ?_
        refine r_iload_6 C dX4_turns_38 ?_
        refine ld_t_tab C dX4_turns_40 ?_
        refine r_iload_3 C dX4_turns_41 ?_
        refine ld_t_row C dX4_turns_42 ?_
        have e1 := hR u q hu0 c_31 hq0 (by omega)
        simp only [] at e1
        rw [if_neg (by omega), hcl q hlt] at e1
        refine r_topl (bT A q.toNat u q) e1 ?_
        refine r_lstore_7 C dX4_turns_43 ?_
        refine r_iconst C dX4_turns_45 ?_
        refine r_istore_9 C dX4_turns_46 ?_
        refine hcol c_31 _ 0 tb (by omega) (by omega) ?_ rfl
        refine hR.cong (fun i y h1 h2 h3 h4 => ?_)
        by_cases e2 : i < u
        · rw [if_pos e2, if_pos (Or.inl e2)]
        · rw [if_neg e2, if_neg (by omega)]
    refine r_iload_3 C dX4_turns_4 ?_
    refine r_aload_0 C dX4_turns_5 ?_
    refine gY_size C q296 dX4_turns_6 ?_
    refine r_if_icmpge (tgt := 124) C dX4_turns_9 (by decide) (fun c_9 => ?_) (fun c_9 => ?_)
    · skip
      refine r_aload_0 C dX4_turns_124 ?_
      refine r_lload_1 C dX4_turns_125 ?_
      refine pY_whole C q297 dX4_turns_126 ?_
      refine r_return C E dX4_turns_129 ?_
      have e : q = t_size := by omega
      subst e
      exact ⟨rfl, tb, hR, rfl⟩
    · skip
      refine r_aload_0 C dX4_turns_12 ?_
      refine gY_table C q293 dX4_turns_13 ?_
      refine r_iload_3 C dX4_turns_16 ?_
      refine ld_t_tab C dX4_turns_17 ?_
      refine r_iload_3 C dX4_turns_18 ?_
      refine ld_t_row C dX4_turns_19 ?_
      have e1 := hR q q hq0 c_9 hq0 (by omega)
      simp only [] at e1
      rw [hcl q c_9] at e1
      refine r_topl (bT A q.toNat q q) e1 ?_
      refine r_lstore_4 C dX4_turns_20 ?_
      refine r_iconst C dX4_turns_22 ?_
      refine r_istore_6 C dX4_turns_23 ?_
      refine hup c_9 _ 0 tb _ _ _ (by omega) (by omega) ?_ hn8 rfl
      refine hR.cong (fun i y h1 h2 h3 h4 => ?_)
      rw [if_neg (by omega)]
  refine r_lconst1 C dX4_turns_0 ?_
  refine r_lstore_1 C dX4_turns_1 ?_
  refine r_iconst C dX4_turns_2 ?_
  refine r_istore_3 C dX4_turns_3 ?_
  exact key _ 0 t_table _ _ _ _ _ _ (by omega) (by omega) hR0 rfl rfl rfl rfl
theorem c_X4_moves_Y (hG : Gok g) {v u c r F : Int} {wd : Int → Int} (hg : GW c r) (hp : ∀ v, 0 ≤ v → v < c * r → t_place v = gx c r wd F v) (hsz : t_size = gm c r wd F) (hR : RepX t_table (gm c r wd F) (bT (gA c r wd F) (gm c r wd F).toNat)) (hv : 0 ≤ v ∧ v < c * r) (hu : 0 ≤ u ∧ u < c * r) : XMet g yX4_moves cX4_moves 3 (some .long) 0 0 0 [.ref (σ 31), .int (jI v), .int (jI u)] (wX g σ x_tape x_taped x_faultKind x_faultPlace x_bestStarved x_bestMost x_bestWhole x_draws x_left x_mosts x_widened x_drawn x_img n_width n_from n_to n_load n_group n_budget n_columns n_rows n_limit n_wear n_straps n_pads n_lines n_mod n_asz n_el i_width i_load i_pads i_reached i_place i_table i_drop i_size i_whole t_width t_load t_pads t_reached t_place t_table t_drop t_size t_whole ++ ex) (pL (fun z w => z = mv c r wd F v u ∧ w = (wX g σ x_tape x_taped x_faultKind x_faultPlace x_bestStarved x_bestMost x_bestWhole x_draws x_left x_mosts x_widened x_drawn x_img n_width n_from n_to n_load n_group n_budget n_columns n_rows n_limit n_wear n_straps n_pads n_lines n_mod n_asz n_el i_width i_load i_pads i_reached i_place i_table i_drop i_size i_whole t_width t_load t_pads t_reached t_place t_table t_drop t_size t_whole ++ ex))) := by
  refine XMet.of (L := [some (.ref (σ 31)), some (.int (jI v)), some (.int (jI u))]) hG (by decide +kernel) (Nat.le_of_ble_eq_true rfl) rfl (fun K C E => ?_)
  have hn := hg.2.2
  have hm := gm_in (wd := wd) (F := F) hg
  have e1 := hp v hv.1 hv.2
  have e2 := hp u hu.1 hu.2
  have i1 := gx_in (c := c) (r := r) (wd := wd) (F := F) hv.1 hv.2
  have i2 := gx_in (c := c) (r := r) (wd := wd) (F := F) hu.1 hu.2
  rw [← e1] at i1
  rw [← e2] at i2
  refine r_aload_0 C dX4_moves_0 ?_
  refine gY_place C q292 dX4_moves_1 ?_
  refine r_iload_1 C dX4_moves_4 ?_
  refine ld_t_place C dX4_moves_5 ?_
  refine r_iconst C dX4_moves_6 ?_
  refine r_if_icmpeq (tgt := 20) C dX4_moves_7 (by decide) (fun c_7 => ?_) (fun c_7 => ?_)
  · skip
    refine r_lconst0 C dX4_moves_20 ?_
    refine r_goto (tgt := 47) C dX4_moves_21 (by decide) ?_
    refine r_lreturn C E dX4_moves_47 ?_
    refine ⟨_, rfl, ?_, rfl⟩
    first
      | exact hc.symm
      | (unfold mv
         rw [← e1, ← e2, if_pos (by omega)])
  · skip
    refine r_aload_0 C dX4_moves_10 ?_
    refine gY_place C q292 dX4_moves_11 ?_
    refine r_iload_2 C dX4_moves_14 ?_
    refine ld_t_place C dX4_moves_15 ?_
    refine r_iconst C dX4_moves_16 ?_
    refine r_if_icmpne (tgt := 24) C dX4_moves_17 (by decide) (fun c_17 => ?_) (fun c_17 => ?_)
    · skip
      refine r_aload_0 C dX4_moves_24 ?_
      refine gY_table C q293 dX4_moves_25 ?_
      refine r_aload_0 C dX4_moves_28 ?_
      refine gY_place C q292 dX4_moves_29 ?_
      refine r_iload_1 C dX4_moves_32 ?_
      refine ld_t_place C dX4_moves_33 ?_
      refine ld_t_tab C dX4_moves_34 ?_
      refine r_aload_0 C dX4_moves_35 ?_
      refine gY_size C q296 dX4_moves_36 ?_
      refine r_aload_0 C dX4_moves_39 ?_
      refine gY_place C q292 dX4_moves_40 ?_
      refine r_iload_2 C dX4_moves_43 ?_
      refine ld_t_place C dX4_moves_44 ?_
      refine r_iadd C dX4_moves_45 ?_
      have hc : mv c r wd F v u = t_table (18 * t_place v + (t_size + t_place u)) := by
        unfold mv
        rw [← e1, ← e2, if_neg (by omega)]
        have := hR (t_place v) (gm c r wd F + t_place u) (by omega) (by omega) (by omega) (by omega)
        simp only [] at this
        rw [hsz, this]
        unfold cm
        rw [if_neg (by omega), show gm c r wd F + t_place u - gm c r wd F = t_place u by omega]
      refine ld_t_row C dX4_moves_46 ?_
      refine r_lreturn C E dX4_moves_47 ?_
      refine ⟨_, rfl, ?_, rfl⟩
      first
        | exact hc.symm
        | (unfold mv
           rw [← e1, ← e2, if_pos (by omega)])
    · skip
      refine r_lconst0 C dX4_moves_20 ?_
      refine r_goto (tgt := 47) C dX4_moves_21 (by decide) ?_
      refine r_lreturn C E dX4_moves_47 ?_
      refine ⟨_, rfl, ?_, rfl⟩
      first
        | exact hc.symm
        | (unfold mv
           rw [← e1, ← e2, if_pos (by omega)])
theorem c_X4_isLive_Y (hG : Gok g) {v : Int} {w : Int → Int} (hv : inR v) (hc : n_columns = w 0) (hr : n_rows = w 1) (hn : 0 ≤ wN w ∧ wN w ≤ 9) (hre : 0 ≤ t_reached ∧ t_reached < 512) : XMet g yX4_isLive cX4_isLive 2 (some .boolean) 3 0 0 [.ref (σ 31), .int (jI v)] (wX g σ x_tape x_taped x_faultKind x_faultPlace x_bestStarved x_bestMost x_bestWhole x_draws x_left x_mosts x_widened x_drawn x_img n_width n_from n_to n_load n_group n_budget n_columns n_rows n_limit n_wear n_straps n_pads n_lines n_mod n_asz n_el i_width i_load i_pads i_reached i_place i_table i_drop i_size i_whole t_width t_load t_pads t_reached t_place t_table t_drop t_size t_whole ++ ex) (pI (fun z ww => z = (if (isNb w v && bsB t_reached v) = true then 1 else 0) ∧ ww = (wX g σ x_tape x_taped x_faultKind x_faultPlace x_bestStarved x_bestMost x_bestWhole x_draws x_left x_mosts x_widened x_drawn x_img n_width n_from n_to n_load n_group n_budget n_columns n_rows n_limit n_wear n_straps n_pads n_lines n_mod n_asz n_el i_width i_load i_pads i_reached i_place i_table i_drop i_size i_whole t_width t_load t_pads t_reached t_place t_table t_drop t_size t_whole ++ ex))) := by
  refine XMet.of (L := [some (.ref (σ 31)), some (.int (jI v))]) hG (by decide +kernel) (Nat.le_of_ble_eq_true rfl) rfl (fun K C E => ?_)
  refine r_aload_0 C dX4_isLive_0 ?_
  refine r_iload_1 C dX4_isLive_1 ?_
  refine r_supLive C (c_X2_isLive_Y hG hv hc hr hn) (q0 := 31) rfl q783 dX4_isLive_2 (fun z w h => ?_)
  obtain ⟨rfl, rfl⟩ := h
  refine r_ifeqB (tgt := 23) C dX4_isLive_5 (by decide) (fun c_5 => ?_) (fun c_5 => ?_)
  · skip
    refine r_iconst C dX4_isLive_23 ?_
    refine r_zreturn C E dX4_isLive_24 (by first | exact Or.inl rfl | exact Or.inr rfl | omega) ?_
    refine ⟨_, rfl, ?_, rfl⟩
    simp_all
  · skip
    have hvv := isNb_in c_5
    refine r_aload_0 C dX4_isLive_8 ?_
    refine gYI_reached C q312 dX4_isLive_9 ?_
    refine r_iload_1 C dX4_isLive_12 ?_
    refine r_cSN2i C (c_X0_isOn hG (by omega) (by omega)) q735 pkX0_isOn dX4_isLive_13 (fun z w h => ?_)
    obtain ⟨rfl, rfl⟩ := h
    refine r_ifeqB (tgt := 23) C dX4_isLive_16 (by decide) (fun c_16 => ?_) (fun c_16 => ?_)
    · skip
      refine r_iconst C dX4_isLive_23 ?_
      refine r_zreturn C E dX4_isLive_24 (by first | exact Or.inl rfl | exact Or.inr rfl | omega) ?_
      refine ⟨_, rfl, ?_, rfl⟩
      simp_all
    · skip
      refine r_iconst C dX4_isLive_19 ?_
      refine r_goto (tgt := 24) C dX4_isLive_20 (by decide) ?_
      refine r_zreturn C E dX4_isLive_24 (by first | exact Or.inl rfl | exact Or.inr rfl | omega) ?_
      refine ⟨_, rfl, ?_, rfl⟩
      simp_all

end X2

