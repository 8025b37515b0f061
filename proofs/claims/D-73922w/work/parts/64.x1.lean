section X1
variable {g : GX} {σ : Nat → Nat} {ex : va_W}
variable {x_tape : Int → Int} {x_taped : Int} {x_faultKind : Int} {x_faultPlace : Int} {x_bestStarved : Int} {x_bestMost : Int} {x_bestWhole : Int} {x_draws : Int → Int} {x_left : Int → Int} {x_mosts : Int → Int} {x_widened : Int → Int} {x_drawn : Int} {x_img : Nat → Option Nat} {n_width : Int → Int} {n_from : Int → Int} {n_to : Int → Int} {n_load : Int → Int} {n_group : Int → Int} {n_budget : Int → Int} {n_columns : Int} {n_rows : Int} {n_limit : Int} {n_wear : Int} {n_straps : Int} {n_pads : Int} {n_lines : Int} {n_mod : Int} {n_asz : Int} {n_el : Nat → Option Nat} {i_width : Int → Int} {i_load : Int → Int} {i_pads : Int} {i_reached : Int} {i_place : Int → Int} {i_table : Int → Int} {i_drop : Int → Int} {i_size : Int} {i_whole : Int} {t_width : Int → Int} {t_load : Int → Int} {t_pads : Int} {t_reached : Int} {t_place : Int → Int} {t_table : Int → Int} {t_drop : Int → Int} {t_size : Int} {t_whole : Int}
theorem c_X0_in {ws : va_W} (hG : Gok g) {a b c : Int} (ha : inL a) (hb : inL b) (hc : inL c) : XMet g yX0_in cX0_in 6 (some .boolean) 0 0 0 [.long (jL a), .long (jL b), .long (jL c)] ws (pI (fun z w => z = (if b ≤ a ∧ a ≤ c then 1 else 0) ∧ w = ws)) := by
  refine XMet.of (L := [some (.long (jL a)), none, some (.long (jL b)), none, some (.long (jL c)), none]) hG (by decide +kernel) (Nat.le_of_ble_eq_true rfl) rfl (fun K C E => ?_)
  refine r_lload_0 C dX0_in_0 ?_
  refine r_lload_2 C dX0_in_1 ?_
  refine r_lcmp_iflt (tgt := 17) C dX0_in_2 dX0_in_3 (by decide) (fun c_2 => ?_) (fun c_2 => ?_)
  · skip
    refine r_iconst C dX0_in_17 ?_
    refine r_zreturn C E dX0_in_18 (by first | exact Or.inl rfl | exact Or.inr rfl | omega) ?_
    exact ⟨_, rfl, by simp [*]; try omega, rfl⟩
  · skip
    refine r_lload_0 C dX0_in_6 ?_
    refine r_lload_4 C dX0_in_7 ?_
    refine r_lcmp_ifgt (tgt := 17) C dX0_in_9 dX0_in_10 (by decide) (fun c_9 => ?_) (fun c_9 => ?_)
    · skip
      refine r_iconst C dX0_in_17 ?_
      refine r_zreturn C E dX0_in_18 (by first | exact Or.inl rfl | exact Or.inr rfl | omega) ?_
      exact ⟨_, rfl, by simp [*]; try omega, rfl⟩
    · skip
      refine r_iconst C dX0_in_13 ?_
      refine r_goto (tgt := 18) C dX0_in_14 (by decide) ?_
      refine r_zreturn C E dX0_in_18 (by first | exact Or.inl rfl | exact Or.inr rfl | omega) ?_
      exact ⟨_, rfl, by simp [*]; try omega, rfl⟩
theorem c_X0_isOn {ws : va_W} (hG : Gok g) {s k : Int} (hs : 0 ≤ s ∧ s ≤ 2147483647) (hk : 0 ≤ k ∧ k ≤ 30) : XMet g yX0_isOn cX0_isOn 2 (some .boolean) 0 0 0 [.int (jI s), .int (jI k)] ws (pI (fun z w => z = (if bsB s k then 1 else 0) ∧ w = ws)) := by
  refine XMet.of (L := [some (.int (jI s)), some (.int (jI k))]) hG (by decide +kernel) (Nat.le_of_ble_eq_true rfl) rfl (fun K C E => ?_)
  refine r_iload_0 C dX0_isOn_0 ?_
  refine r_iload_1 C dX0_isOn_1 ?_
  refine r_ishr C (_) dX0_isOn_2 (jI_shr hs.1 hs.2 hk.1 hk.2) ?_
  refine r_iconst C dX0_isOn_3 ?_
  refine r_iand C ((if bsB s k then 1 else 0)) dX0_isOn_4 ((jI_and (Int.natCast_nonneg _) (by decide)).trans (by rw [bsB_and1])) ?_
  refine r_iconst C dX0_isOn_5 ?_
  refine r_if_icmpne (tgt := 13) C dX0_isOn_6 (by decide) (fun c_6 => ?_) (fun c_6 => ?_) (by unfold inR; split <;> omega) (by unfold inR; omega)
  · skip
    refine r_iconst C dX0_isOn_13 ?_
    refine r_zreturn C E dX0_isOn_14 (by first | exact Or.inl rfl | exact Or.inr rfl | omega) ?_
    exact ⟨_, rfl, by split at c_6 <;> simp_all, rfl⟩
  · skip
    refine r_iconst C dX0_isOn_9 ?_
    refine r_goto (tgt := 14) C dX0_isOn_10 (by decide) ?_
    refine r_zreturn C E dX0_isOn_14 (by first | exact Or.inl rfl | exact Or.inr rfl | omega) ?_
    exact ⟨_, rfl, by split at c_6 <;> simp_all, rfl⟩
theorem c_X0_common {ws : va_W} (hG : Gok g) {a b : Int} (ha : -9223372036854775807 ≤ a ∧ a ≤ 9223372036854775807) (hb : -9223372036854775807 ≤ b ∧ b ≤ 9223372036854775807) : XMet g yX0_common cX0_common 10 (some .long) 1 0 0 [.long (jL a), .long (jL b)] ws (pL (fun z w => z = (Int.gcd a b : Int) ∧ w = ws)) := by
  refine XMet.of (L := [some (.long (jL a)), none, some (.long (jL b)), none, none, none, none, none, none, none]) hG (by decide +kernel) (Nat.le_of_ble_eq_true rfl) rfl (fun K C E => ?_)
  have key : ∀ (mm : Nat) (x y : Int) (l8 l9 : Option Value), 0 ≤ x → x ≤ 9223372036854775807 → 0 ≤ y → y ≤ 9223372036854775807 → Int.gcd x y = Int.gcd a b → lo_n2 (some l9) = true → y.toNat = mm → AW g K ws 0 0 12 [some (.long (jL a)), none, some (.long (jL b)), none, some (.long (jL x)), none, some (.long (jL y)), none, l8, l9] [] := by
    intro mm
    induction mm using Nat.strongRecOn with
    | _ mm ih =>
    intro x y l8 l9 hx0 hx hy0 hy hg hn hm
    refine r_lload_6 C dX0_common_12 ?_
    refine r_lconst0 C dX0_common_14 ?_
    refine r_lcmp_ifeq (tgt := 37) C dX0_common_15 dX0_common_16 (by decide) (fun c_15 => ?_) (fun c_15 => ?_)
    · skip
      refine r_lload_4 C dX0_common_37 ?_
      refine r_lreturn C E dX0_common_39 ?_
      have e : y = 0 := c_15
      subst e
      skip
      exact ⟨_, rfl, by rw [← hg, pl_gcd0 hx0], rfl⟩
    · skip
      refine r_lload_4 C dX0_common_19 ?_
      refine r_lload_6 C dX0_common_21 ?_
      refine r_lrem C dX0_common_23 ?_
      refine r_topl (x % y) (pl_tmod hx0) ?_
      have q1 := Int.emod_nonneg x (show y ≠ 0 by omega)
      have q2 := Int.emod_lt_of_pos x (show 0 < y by omega)
      refine r_lstore_8 C dX0_common_24 ?_
      refine r_lload_6 C dX0_common_26 ?_
      refine r_lstore_4 C dX0_common_28 ?_
      refine r_lload_8 C dX0_common_30 ?_
      refine r_lstore_6 C dX0_common_32 ?_
      refine r_goto (tgt := 12) C dX0_common_34 (by decide) ?_
      exact ih _ (by omega) y (x % y) _ _ hy0 hy q1 (by omega) (by rw [← hg, ← pl_gcdr hx0 hy0]) rfl rfl
  refine r_lload_0 C dX0_common_0 ?_
  refine r_mabsL C q809 dX0_common_1 ?_
  refine r_lstore_4 C dX0_common_4 ?_
  refine r_lload_2 C dX0_common_6 ?_
  refine r_mabsL C q809 dX0_common_7 ?_
  refine r_lstore_6 C dX0_common_10 ?_
  exact key _ _ _ _ _ (by omega) (by omega) (by omega) (by omega) (by simp only [Int.gcd, Int.natAbs_natCast]) rfl rfl
theorem c_X0_part {ws : va_W} (hG : Gok g) {a b c : Int} (ha : -9223372036854775807 ≤ a ∧ a ≤ 9223372036854775807) (hb : -9223372036854775807 ≤ b ∧ b ≤ 9223372036854775807) (hc : inR c) (h0 : b ≠ 0) : XMet g yX0_part cX0_part 5 (some .long) 2 0 0 [.long (jL a), .long (jL b), .int (jI c)] ws (pL (fun z w => z = partF a b c ∧ w = ws)) := by
  refine XMet.of (L := [some (.long (jL a)), none, some (.long (jL b)), none, some (.int (jI c))]) hG (by decide +kernel) (Nat.le_of_ble_eq_true rfl) rfl (fun K C E => ?_)
  have g1 := Int.gcd_le_natAbs_right a h0
  have g2 : 0 < Int.gcd a b := Int.gcd_pos_of_ne_zero_right a h0
  refine r_iload_4 C dX0_part_0 ?_
  refine r_ifne (tgt := 9) C dX0_part_2 (by decide) (fun c_2 => ?_) (fun c_2 => ?_)
  · skip
    refine r_lload_2 C dX0_part_9 ?_
    refine r_lload_0 C dX0_part_10 ?_
    refine r_lload_2 C dX0_part_11 ?_
    refine r_cS2l C (c_X0_common hG ha hb) q806 pkX0_common dX0_part_12 (fun z w h => ?_)
    obtain ⟨rfl, rfl⟩ := h
    refine r_ldiv C dX0_part_15 ?_
    refine r_lreturn C E dX0_part_16 ?_
    exact ⟨_, rfl, by unfold partF; simp [*], rfl⟩
  · skip
    refine r_lload_0 C dX0_part_5 ?_
    refine r_goto (tgt := 10) C dX0_part_6 (by decide) ?_
    refine r_lload_0 C dX0_part_10 ?_
    refine r_lload_2 C dX0_part_11 ?_
    refine r_cS2l C (c_X0_common hG ha hb) q806 pkX0_common dX0_part_12 (fun z w h => ?_)
    obtain ⟨rfl, rfl⟩ := h
    refine r_ldiv C dX0_part_15 ?_
    refine r_lreturn C E dX0_part_16 ?_
    exact ⟨_, rfl, by unfold partF; simp [*], rfl⟩
theorem c_X0_isPart {ws : va_W} (hG : Gok g) {p : Int} (hp : inR p) : XMet g yX0_isPart cX0_isPart 1 (some .boolean) 1 0 0 [.int (jI p)] ws (pI (fun z w => z = (if isPb p then 1 else 0) ∧ w = ws)) := by
  refine XMet.of (L := [some (.int (jI p))]) hG (by decide +kernel) (Nat.le_of_ble_eq_true rfl) rfl (fun K C E => ?_)
  refine r_iload_0 C dX0_isPart_0 ?_
  refine r_i2l C dX0_isPart_1 ?_
  refine r_lconst0 C dX0_isPart_2 ?_
  refine r_lconst1 C dX0_isPart_3 ?_
  refine r_cS3i C (c_X0_in hG (inR_L hp) (by unfold inL; omega) (by unfold inL; omega)) q403 pkX0_in dX0_isPart_4 (fun z w h => ?_)
  obtain ⟨rfl, rfl⟩ := h
  refine r_zreturnB C E dX0_isPart_7 ?_
  exact ⟨_, rfl, by simp [isPb], rfl⟩
theorem c_X1_is (hG : Gok g) (h : inR n_lines) : XMet g yX1_is cX1_is 1 (some .boolean) 0 0 0 [.ref (σ 7)] (wX g σ x_tape x_taped x_faultKind x_faultPlace x_bestStarved x_bestMost x_bestWhole x_draws x_left x_mosts x_widened x_drawn x_img n_width n_from n_to n_load n_group n_budget n_columns n_rows n_limit n_wear n_straps n_pads n_lines n_mod n_asz n_el i_width i_load i_pads i_reached i_place i_table i_drop i_size i_whole t_width t_load t_pads t_reached t_place t_table t_drop t_size t_whole ++ ex) (pI (fun z w => z = (if 0 < n_lines then 1 else 0) ∧ w = (wX g σ x_tape x_taped x_faultKind x_faultPlace x_bestStarved x_bestMost x_bestWhole x_draws x_left x_mosts x_widened x_drawn x_img n_width n_from n_to n_load n_group n_budget n_columns n_rows n_limit n_wear n_straps n_pads n_lines n_mod n_asz n_el i_width i_load i_pads i_reached i_place i_table i_drop i_size i_whole t_width t_load t_pads t_reached t_place t_table t_drop t_size t_whole ++ ex))) := by
  refine XMet.of (L := [some (.ref (σ 7))]) hG (by decide +kernel) (Nat.le_of_ble_eq_true rfl) rfl (fun K C E => ?_)
  refine r_aload_0 C dX1_is_0 ?_
  refine gT_lines C q245 dX1_is_1 ?_
  refine r_ifle (tgt := 11) C dX1_is_4 (by decide) (fun c_4 => ?_) (fun c_4 => ?_)
  · skip
    refine r_iconst C dX1_is_11 ?_
    refine r_zreturn C E dX1_is_12 (by first | exact Or.inl rfl | exact Or.inr rfl | omega) ?_
    refine ⟨_, rfl, ?_, rfl⟩
    first
      | rw [if_pos c_4]
      | rw [if_neg (by omega)]
  · skip
    refine r_iconst C dX1_is_7 ?_
    refine r_goto (tgt := 12) C dX1_is_8 (by decide) ?_
    refine r_zreturn C E dX1_is_12 (by first | exact Or.inl rfl | exact Or.inr rfl | omega) ?_
    refine ⟨_, rfl, ?_, rfl⟩
    first
      | rw [if_pos c_4]
      | rw [if_neg (by omega)]
theorem c_X1_many (hG : Gok g)  : XMet g yX1_many cX1_many 1 (some .int) 0 0 0 [.ref (σ 7)] (wX g σ x_tape x_taped x_faultKind x_faultPlace x_bestStarved x_bestMost x_bestWhole x_draws x_left x_mosts x_widened x_drawn x_img n_width n_from n_to n_load n_group n_budget n_columns n_rows n_limit n_wear n_straps n_pads n_lines n_mod n_asz n_el i_width i_load i_pads i_reached i_place i_table i_drop i_size i_whole t_width t_load t_pads t_reached t_place t_table t_drop t_size t_whole ++ ex) (pI (fun z w => z = n_columns * n_rows ∧ w = (wX g σ x_tape x_taped x_faultKind x_faultPlace x_bestStarved x_bestMost x_bestWhole x_draws x_left x_mosts x_widened x_drawn x_img n_width n_from n_to n_load n_group n_budget n_columns n_rows n_limit n_wear n_straps n_pads n_lines n_mod n_asz n_el i_width i_load i_pads i_reached i_place i_table i_drop i_size i_whole t_width t_load t_pads t_reached t_place t_table t_drop t_size t_whole ++ ex))) := by
  refine XMet.of (L := [some (.ref (σ 7))]) hG (by decide +kernel) (Nat.le_of_ble_eq_true rfl) rfl (fun K C E => ?_)
  refine r_aload_0 C dX1_many_0 ?_
  refine gT_columns C q220 dX1_many_1 ?_
  refine r_aload_0 C dX1_many_4 ?_
  refine gT_rows C q224 dX1_many_5 ?_
  refine r_imul C dX1_many_8 ?_
  refine r_ireturn C E dX1_many_9 ?_
  exact ⟨_, rfl, rfl, rfl⟩
theorem c_X1_strapOf (hG : Gok g) {a b c r : Int} (ha : inR a) (hb : inR b) (hg : GW c r) (hs : n_straps = sN c r) (he : ∀ k : Int, 0 ≤ k → k < sN c r → n_from k = sF c r k ∧ n_to k = sT c r k) : XMet g yX1_strapOf cX1_strapOf 4 (some .int) 0 0 0 [.ref (σ 7), .int (jI a), .int (jI b)] (wX g σ x_tape x_taped x_faultKind x_faultPlace x_bestStarved x_bestMost x_bestWhole x_draws x_left x_mosts x_widened x_drawn x_img n_width n_from n_to n_load n_group n_budget n_columns n_rows n_limit n_wear n_straps n_pads n_lines n_mod n_asz n_el i_width i_load i_pads i_reached i_place i_table i_drop i_size i_whole t_width t_load t_pads t_reached t_place t_table t_drop t_size t_whole ++ ex) (pI (fun z w => z = ffi (fun k => decide (sF c r k = a ∧ sT c r k = b)) (sN c r).toNat ∧ w = (wX g σ x_tape x_taped x_faultKind x_faultPlace x_bestStarved x_bestMost x_bestWhole x_draws x_left x_mosts x_widened x_drawn x_img n_width n_from n_to n_load n_group n_budget n_columns n_rows n_limit n_wear n_straps n_pads n_lines n_mod n_asz n_el i_width i_load i_pads i_reached i_place i_table i_drop i_size i_whole t_width t_load t_pads t_reached t_place t_table t_drop t_size t_whole ++ ex))) := by
  refine XMet.of (L := [some (.ref (σ 7)), some (.int (jI a)), some (.int (jI b)), none]) hG (by decide +kernel) (Nat.le_of_ble_eq_true rfl) rfl (fun K C E => ?_)
  have h12 := sN_12 hg
  have h00 := sN_0 (c := c) (r := r)
  have h9 := hg.2.2
  subst hs
  have key : ∀ (mm : Nat), ∀ (k : Int), (0 ≤ k) → (k ≤ sN c r) → (∀ j, 0 ≤ j → j < k → decide (sF c r j = a ∧ sT c r j = b) = false) → (sN c r - k).toNat = mm → AW g K (wX g σ x_tape x_taped x_faultKind x_faultPlace x_bestStarved x_bestMost x_bestWhole x_draws x_left x_mosts x_widened x_drawn x_img n_width n_from n_to n_load n_group n_budget n_columns n_rows n_limit n_wear (sN c r) n_pads n_lines n_mod n_asz n_el i_width i_load i_pads i_reached i_place i_table i_drop i_size i_whole t_width t_load t_pads t_reached t_place t_table t_drop t_size t_whole ++ ex) 0 0 2 [some (.ref (σ 7)), some (.int (jI a)), some (.int (jI b)), some (.int (jI k))] [] := by
    intro mm
    induction mm using Nat.strongRecOn with
    | _ mm ih =>
    intro k hk0 hk hj hm
    refine r_iload_3 C dX1_strapOf_2 ?_
    refine r_aload_0 C dX1_strapOf_3 ?_
    refine gT_straps C q238 dX1_strapOf_4 ?_
    refine r_if_icmpge (tgt := 38) C dX1_strapOf_7 (by decide) (fun c_7 => ?_) (fun c_7 => ?_)
    · skip
      refine r_iconst C dX1_strapOf_38 ?_
      refine r_ireturn C E dX1_strapOf_39 ?_
      exact ⟨_, rfl, (ffi_none _ (fun j a1 a2 => hj j (by omega) (by omega))).symm, rfl⟩
    · skip
      have q := sl_in hg hk0 c_7
      have qe := he k hk0 c_7
      refine r_aload_0 C dX1_strapOf_10 ?_
      refine gT_from C q197 dX1_strapOf_11 ?_
      refine r_iload_3 C dX1_strapOf_14 ?_
      refine ld_n_from C dX1_strapOf_15 ?_
      refine r_topi (sF c r k) qe.1 ?_
      refine r_iload_1 C dX1_strapOf_16 ?_
      refine r_if_icmpne (tgt := 32) C dX1_strapOf_17 (by decide) (fun c_17 => ?_) (fun c_17 => ?_)
      · skip
        refine r_iinc_3 C dX1_strapOf_32 ?_
        refine r_goto (tgt := 2) C dX1_strapOf_35 (by decide) ?_
        refine ih _ (show (sN c r - (k + 1)).toNat < mm by omega) (k + 1) (by omega) (by omega) (fun j a1 a2 => ?_) rfl
        by_cases e : j = k
        · subst e
          exact decide_eq_false (by omega)
        · exact hj j a1 (by omega)
      · skip
        refine r_aload_0 C dX1_strapOf_20 ?_
        refine gT_to C q201 dX1_strapOf_21 ?_
        refine r_iload_3 C dX1_strapOf_24 ?_
        refine ld_n_to C dX1_strapOf_25 ?_
        refine r_topi (sT c r k) qe.2 ?_
        refine r_iload_2 C dX1_strapOf_26 ?_
        refine r_if_icmpne (tgt := 32) C dX1_strapOf_27 (by decide) (fun c_27 => ?_) (fun c_27 => ?_)
        · skip
          refine r_iinc_3 C dX1_strapOf_32 ?_
          refine r_goto (tgt := 2) C dX1_strapOf_35 (by decide) ?_
          refine ih _ (show (sN c r - (k + 1)).toNat < mm by omega) (k + 1) (by omega) (by omega) (fun j a1 a2 => ?_) rfl
          by_cases e : j = k
          · subst e
            exact decide_eq_false (by omega)
          · exact hj j a1 (by omega)
        · skip
          refine r_iload_3 C dX1_strapOf_30 ?_
          refine r_ireturn C E dX1_strapOf_31 ?_
          exact ⟨_, rfl, (ffi_some _ k hk0 (by omega) (decide_eq_true ⟨c_17, c_27⟩) hj).symm, rfl⟩
  refine r_iconst C dX1_strapOf_0 ?_
  refine r_istore_3 C dX1_strapOf_1 ?_
  exact key _ 0 (by omega) (by omega) (fun j _ _ => by omega) rfl
theorem c_X0_isNode (hG : Gok g) {v : Int} {w : Int → Int} (hv : inR v) (hc : n_columns = w 0) (hr : n_rows = w 1) (hn : 0 ≤ wN w ∧ wN w ≤ 9) : XMet g yX0_isNode cX0_isNode 2 (some .boolean) 1 0 0 [.ref (σ 0), .int (jI v)] (wX g σ x_tape x_taped x_faultKind x_faultPlace x_bestStarved x_bestMost x_bestWhole x_draws x_left x_mosts x_widened x_drawn x_img n_width n_from n_to n_load n_group n_budget n_columns n_rows n_limit n_wear n_straps n_pads n_lines n_mod n_asz n_el i_width i_load i_pads i_reached i_place i_table i_drop i_size i_whole t_width t_load t_pads t_reached t_place t_table t_drop t_size t_whole ++ ex) (pI (fun z ww => z = (if isNb w v then 1 else 0) ∧ ww = (wX g σ x_tape x_taped x_faultKind x_faultPlace x_bestStarved x_bestMost x_bestWhole x_draws x_left x_mosts x_widened x_drawn x_img n_width n_from n_to n_load n_group n_budget n_columns n_rows n_limit n_wear n_straps n_pads n_lines n_mod n_asz n_el i_width i_load i_pads i_reached i_place i_table i_drop i_size i_whole t_width t_load t_pads t_reached t_place t_table t_drop t_size t_whole ++ ex))) := by
  refine XMet.of (L := [some (.ref (σ 0)), some (.int (jI v))]) hG (by decide +kernel) (Nat.le_of_ble_eq_true rfl) rfl (fun K C E => ?_)
  subst hc hr
  refine r_iload_1 C dX0_isNode_0 ?_
  refine r_i2l C dX0_isNode_1 ?_
  refine r_lconst0 C dX0_isNode_2 ?_
  refine r_aload_0 C dX0_isNode_3 ?_
  refine gG_now C q346 dX0_isNode_4 ?_
  refine r_cV0i C (c_X1_many hG) (q0 := 7) rfl rfl q768 pkX1_many dX0_isNode_7 (fun z w h => ?_)
  obtain ⟨rfl, rfl⟩ := h
  refine r_topi (wN w) rfl ?_
  refine r_iconst C dX0_isNode_10 ?_
  refine r_isub C dX0_isNode_11 ?_
  refine r_i2l C dX0_isNode_12 ?_
  refine r_cS3i C (c_X0_in hG (inR_L hv) (by unfold inL; omega) (by unfold inL; omega)) q403 pkX0_in dX0_isNode_13 (fun z w h => ?_)
  obtain ⟨rfl, rfl⟩ := h
  refine r_zreturnB C E dX0_isNode_16 ?_
  exact ⟨_, rfl, by unfold isNb; exact ifb, rfl⟩
theorem c_X0_isStrap (hG : Gok g) {k : Int} {w : Int → Int} (hk : inR k) (hs : n_straps = (if 0 < w 4 then wS w else 0)) (hW : WF w) : XMet g yX0_isStrap cX0_isStrap 2 (some .boolean) 1 0 0 [.ref (σ 0), .int (jI k)] (wX g σ x_tape x_taped x_faultKind x_faultPlace x_bestStarved x_bestMost x_bestWhole x_draws x_left x_mosts x_widened x_drawn x_img n_width n_from n_to n_load n_group n_budget n_columns n_rows n_limit n_wear n_straps n_pads n_lines n_mod n_asz n_el i_width i_load i_pads i_reached i_place i_table i_drop i_size i_whole t_width t_load t_pads t_reached t_place t_table t_drop t_size t_whole ++ ex) (pI (fun z ww => z = (if isKb w k then 1 else 0) ∧ ww = (wX g σ x_tape x_taped x_faultKind x_faultPlace x_bestStarved x_bestMost x_bestWhole x_draws x_left x_mosts x_widened x_drawn x_img n_width n_from n_to n_load n_group n_budget n_columns n_rows n_limit n_wear n_straps n_pads n_lines n_mod n_asz n_el i_width i_load i_pads i_reached i_place i_table i_drop i_size i_whole t_width t_load t_pads t_reached t_place t_table t_drop t_size t_whole ++ ex))) := by
  refine XMet.of (L := [some (.ref (σ 0)), some (.int (jI k))]) hG (by decide +kernel) (Nat.le_of_ble_eq_true rfl) rfl (fun K C E => ?_)
  have hb : 0 ≤ n_straps ∧ n_straps ≤ 12 := by
    rw [hs]
    split
    · rename_i h4
      have := (hW.gd4 h4).s
      omega
    · omega
  refine r_iload_1 C dX0_isStrap_0 ?_
  refine r_i2l C dX0_isStrap_1 ?_
  refine r_lconst0 C dX0_isStrap_2 ?_
  refine r_aload_0 C dX0_isStrap_3 ?_
  refine gG_now C q346 dX0_isStrap_4 ?_
  refine gTN_straps C q239 dX0_isStrap_7 ?_
  refine r_iconst C dX0_isStrap_10 ?_
  refine r_isub C dX0_isStrap_11 ?_
  refine r_i2l C dX0_isStrap_12 ?_
  refine r_cS3i C (c_X0_in hG (inR_L hk) (by unfold inL; omega) (by unfold inL; omega)) q403 pkX0_in dX0_isStrap_13 (fun z w h => ?_)
  obtain ⟨rfl, rfl⟩ := h
  refine r_zreturnB C E dX0_isStrap_16 ?_
  refine ⟨_, rfl, ?_, rfl⟩
  unfold isKb
  by_cases h4 : 0 < w 4
  · rw [if_pos h4] at hs
    simp [h4, hs]
  · rw [if_neg h4] at hs
    simp [h4, hs]
    omega
theorem c_X2_many_I (hG : Gok g)  : XMet g yX2_many cX2_many 1 (some .int) 1 0 0 [.ref (σ 16)] (wX g σ x_tape x_taped x_faultKind x_faultPlace x_bestStarved x_bestMost x_bestWhole x_draws x_left x_mosts x_widened x_drawn x_img n_width n_from n_to n_load n_group n_budget n_columns n_rows n_limit n_wear n_straps n_pads n_lines n_mod n_asz n_el i_width i_load i_pads i_reached i_place i_table i_drop i_size i_whole t_width t_load t_pads t_reached t_place t_table t_drop t_size t_whole ++ ex) (pI (fun z w => z = n_columns * n_rows ∧ w = (wX g σ x_tape x_taped x_faultKind x_faultPlace x_bestStarved x_bestMost x_bestWhole x_draws x_left x_mosts x_widened x_drawn x_img n_width n_from n_to n_load n_group n_budget n_columns n_rows n_limit n_wear n_straps n_pads n_lines n_mod n_asz n_el i_width i_load i_pads i_reached i_place i_table i_drop i_size i_whole t_width t_load t_pads t_reached t_place t_table t_drop t_size t_whole ++ ex))) := by
  refine XMet.of (L := [some (.ref (σ 16))]) hG (by decide +kernel) (Nat.le_of_ble_eq_true rfl) rfl (fun K C E => ?_)
  refine r_aload_0 C dX2_many_0 ?_
  refine gI_this00 C q315 dX2_many_1 ?_
  refine gGN_now C q344 dX2_many_4 ?_
  refine r_cV0i C (c_X1_many hG) (q0 := 7) rfl rfl q734 pkX1_many dX2_many_7 (fun z w h => ?_)
  obtain ⟨rfl, rfl⟩ := h
  refine r_ireturn C E dX2_many_10 ?_
  exact ⟨_, rfl, rfl, rfl⟩
theorem c_X2_isLive_I (hG : Gok g) {v : Int} {w : Int → Int} (hv : inR v) (hc : n_columns = w 0) (hr : n_rows = w 1) (hn : 0 ≤ wN w ∧ wN w ≤ 9) : XMet g yX2_isLive cX2_isLive 2 (some .boolean) 2 0 0 [.ref (σ 16), .int (jI v)] (wX g σ x_tape x_taped x_faultKind x_faultPlace x_bestStarved x_bestMost x_bestWhole x_draws x_left x_mosts x_widened x_drawn x_img n_width n_from n_to n_load n_group n_budget n_columns n_rows n_limit n_wear n_straps n_pads n_lines n_mod n_asz n_el i_width i_load i_pads i_reached i_place i_table i_drop i_size i_whole t_width t_load t_pads t_reached t_place t_table t_drop t_size t_whole ++ ex) (pI (fun z ww => z = (if isNb w v then 1 else 0) ∧ ww = (wX g σ x_tape x_taped x_faultKind x_faultPlace x_bestStarved x_bestMost x_bestWhole x_draws x_left x_mosts x_widened x_drawn x_img n_width n_from n_to n_load n_group n_budget n_columns n_rows n_limit n_wear n_straps n_pads n_lines n_mod n_asz n_el i_width i_load i_pads i_reached i_place i_table i_drop i_size i_whole t_width t_load t_pads t_reached t_place t_table t_drop t_size t_whole ++ ex))) := by
  refine XMet.of (L := [some (.ref (σ 16)), some (.int (jI v))]) hG (by decide +kernel) (Nat.le_of_ble_eq_true rfl) rfl (fun K C E => ?_)
  refine r_aload_0 C dX2_isLive_0 ?_
  refine gI_this00 C q315 dX2_isLive_1 ?_
  refine r_iload_1 C dX2_isLive_4 ?_
  refine r_cVN1i C (c_X0_isNode hG hv hc hr hn) (q0 := 0) rfl rfl q789 pkX0_isNode dX2_isLive_5 (fun z w h => ?_)
  obtain ⟨rfl, rfl⟩ := h
  refine r_zreturnB C E dX2_isLive_8 ?_
  exact ⟨_, rfl, rfl, rfl⟩
theorem c_X3_takes_I (hG : Gok g)  : XMet g yX3_takes cX3_takes 1 none 1 0 0 [.ref (σ 16)] (wX g σ x_tape x_taped x_faultKind x_faultPlace x_bestStarved x_bestMost x_bestWhole x_draws x_left x_mosts x_widened x_drawn x_img n_width n_from n_to n_load n_group n_budget n_columns n_rows n_limit n_wear n_straps n_pads n_lines n_mod n_asz n_el i_width i_load i_pads i_reached i_place i_table i_drop i_size i_whole t_width t_load t_pads t_reached t_place t_table t_drop t_size t_whole ++ ex) (pV (fun w => w = (wX g σ x_tape x_taped x_faultKind x_faultPlace x_bestStarved x_bestMost x_bestWhole x_draws x_left x_mosts x_widened x_drawn x_img n_width n_from n_to n_load n_group n_budget n_columns n_rows n_limit n_wear n_straps n_pads n_lines n_mod n_asz n_el (fun j => if 0 ≤ j ∧ j < 12 then n_width j else i_width j) (fun j => if 0 ≤ j ∧ j < 9 then n_load j else i_load j) (n_pads) i_reached i_place i_table i_drop i_size i_whole t_width t_load t_pads t_reached t_place t_table t_drop t_size t_whole ++ ex))) := by
  refine XMet.of (L := [some (.ref (σ 16))]) hG (by decide +kernel) (Nat.le_of_ble_eq_true rfl) rfl (fun K C E => ?_)
  refine r_aload_0 C dX3_takes_0 ?_
  refine gI_this05 C q314 dX3_takes_1 ?_
  refine gGN_now C q343 dX3_takes_4 ?_
  refine gTN_width C q193 dX3_takes_7 ?_
  refine r_iconst C dX3_takes_10 ?_
  refine r_aload_0 C dX3_takes_11 ?_
  refine gI_width C q300 dX3_takes_12 ?_
  refine r_iconst C dX3_takes_15 ?_
  refine r_bipush C dX3_takes_16 ?_
  refine cp_n_width_i_width C q710 dX3_takes_18 ?_
  refine r_aload_0 C dX3_takes_21 ?_
  refine gI_this05 C q314 dX3_takes_22 ?_
  refine gGN_now C q343 dX3_takes_25 ?_
  refine gTN_load C q207 dX3_takes_28 ?_
  refine r_iconst C dX3_takes_31 ?_
  refine r_aload_0 C dX3_takes_32 ?_
  refine gI_load C q304 dX3_takes_33 ?_
  refine r_iconst C dX3_takes_36 ?_
  refine r_bipush C dX3_takes_37 ?_
  refine cp_n_load_i_load C q710 dX3_takes_39 ?_
  refine r_aload_0 C dX3_takes_42 ?_
  refine r_aload_0 C dX3_takes_43 ?_
  refine gI_this05 C q314 dX3_takes_44 ?_
  refine gGN_now C q343 dX3_takes_47 ?_
  refine gTN_pads C q241 dX3_takes_50 ?_
  refine pI_pads C q308 dX3_takes_53 ?_
  refine r_return C E dX3_takes_56 ?_
  exact ⟨rfl, rfl⟩
theorem c_X3_reach_I (hG : Gok g) {s c r : Int} (hg : GW c r) (hs : n_straps = sN c r) (he : ∀ k : Int, 0 ≤ k → k < sN c r → n_from k = sF c r k ∧ n_to k = sT c r k) (hw : ∀ k, 0 ≤ k → k < 12 → 0 ≤ i_width k ∧ i_width k ≤ 4) (hs0 : 0 ≤ s) (hs1 : s < 512) : XMet g yX3_reach cX3_reach 5 (some .int) 1 0 0 [.ref (σ 16), .int (jI s)] (wX g σ x_tape x_taped x_faultKind x_faultPlace x_bestStarved x_bestMost x_bestWhole x_draws x_left x_mosts x_widened x_drawn x_img n_width n_from n_to n_load n_group n_budget n_columns n_rows n_limit n_wear n_straps n_pads n_lines n_mod n_asz n_el i_width i_load i_pads i_reached i_place i_table i_drop i_size i_whole t_width t_load t_pads t_reached t_place t_table t_drop t_size t_whole ++ ex) (pI (fun z w => z = rch c r i_width s ∧ w = (wX g σ x_tape x_taped x_faultKind x_faultPlace x_bestStarved x_bestMost x_bestWhole x_draws x_left x_mosts x_widened x_drawn x_img n_width n_from n_to n_load n_group n_budget n_columns n_rows n_limit n_wear n_straps n_pads n_lines n_mod n_asz n_el i_width i_load i_pads i_reached i_place i_table i_drop i_size i_whole t_width t_load t_pads t_reached t_place t_table t_drop t_size t_whole ++ ex))) := by
  refine XMet.of (L := [some (.ref (σ 16)), some (.int (jI s)), none, none, none]) hG (by decide +kernel) (Nat.le_of_ble_eq_true rfl) rfl (fun K C E => ?_)
  have h12 := sN_12 hg
  have h00 := sN_0 (c := c) (r := r)
  have h9 := hg.2.2
  subst hs
  have key : ∀ (mm : Nat), ∀ (al wa : Int) (l4 : Option Value), (0 ≤ al) → (al < 512) → (rch c r i_width al = rch c r i_width s) → (al = wa → rch c r i_width al = al) → (0 ≤ wa ∧ wa < 512) → (2 * (512 - al) + if al = wa then 0 else 1).toNat = mm → AW g K (wX g σ x_tape x_taped x_faultKind x_faultPlace x_bestStarved x_bestMost x_bestWhole x_draws x_left x_mosts x_widened x_drawn x_img n_width n_from n_to n_load n_group n_budget n_columns n_rows n_limit n_wear (sN c r) n_pads n_lines n_mod n_asz n_el i_width i_load i_pads i_reached i_place i_table i_drop i_size i_whole t_width t_load t_pads t_reached t_place t_table t_drop t_size t_whole ++ ex) 0 0 4 [some (.ref (σ 16)), some (.int (jI s)), some (.int (jI al)), some (.int (jI wa)), l4] [] := by
    intro mm
    induction mm using Nat.strongRecOn with
    | _ mm ih =>
    intro al wa l4 ha0 ha1 hr hfx hwa hm
    refine r_iload_2 C dX3_reach_4 ?_
    refine r_iload_3 C dX3_reach_5 ?_
    refine r_if_icmpeq (tgt := 122) C dX3_reach_6 (by decide) (fun c_6 => ?_) (fun c_6 => ?_)
    · skip
      refine r_iload_2 C dX3_reach_122 ?_
      refine r_ireturn C E dX3_reach_123 ?_
      exact ⟨_, rfl, by rw [← hr, hfx c_6], rfl⟩
    · skip
      have ih0 := ih
      have hm0 := hm
      rw [if_neg c_6] at hm0
      have pass : ∀ (mm : Nat), ∀ (k a2 : Int), (0 ≤ k) → (k ≤ sN c r) → (a2 = foI (rst c r i_width) al k) → (al ≤ a2 ∧ a2 < 512) → (sN c r - k).toNat = mm → AW g K (wX g σ x_tape x_taped x_faultKind x_faultPlace x_bestStarved x_bestMost x_bestWhole x_draws x_left x_mosts x_widened x_drawn x_img n_width n_from n_to n_load n_group n_budget n_columns n_rows n_limit n_wear (sN c r) n_pads n_lines n_mod n_asz n_el i_width i_load i_pads i_reached i_place i_table i_drop i_size i_whole t_width t_load t_pads t_reached t_place t_table t_drop t_size t_whole ++ ex) 0 0 14 [some (.ref (σ 16)), some (.int (jI s)), some (.int (jI a2)), some (.int (jI al)), some (.int (jI k))] [] := by
        intro mm
        induction mm using Nat.strongRecOn with
        | _ mm ih =>
        intro k a2 hk0 hk ea hb hm
        refine r_iload_4 C dX3_reach_14 ?_
        refine r_aload_0 C dX3_reach_16 ?_
        refine gI_this05 C q314 dX3_reach_17 ?_
        refine gGN_now C q343 dX3_reach_20 ?_
        refine gTN_straps C q236 dX3_reach_23 ?_
        refine r_if_icmpge (tgt := 119) C dX3_reach_26 (by decide) (fun c_26 => ?_) (fun c_26 => ?_)
        · skip
          refine r_goto (tgt := 4) C dX3_reach_119 (by decide) ?_
          have ek : k = sN c r := by omega
          have ea' : a2 = rps c r i_width al := by rw [ea, ek]; rfl
          refine ih0 _ ?_ a2 al _ (by omega) (by omega) (by rw [ea', rch_step hg ha0 ha1, hr]) (fun e => rch_done (by rw [e, ← ea']; exact e)) (by omega) rfl
          split <;> omega
        · skip
          have q := sl_in hg hk0 c_26
          have qe := he k hk0 c_26
          have hwk := hw k hk0 (by omega)
          have hst := rst_in (wd := i_width) hg hk0 c_26 (show 0 ≤ a2 by omega) hb.2
          refine r_aload_0 C dX3_reach_29 ?_
          refine gI_width C q300 dX3_reach_30 ?_
          refine r_iload_4 C dX3_reach_33 ?_
          refine ld_i_width C dX3_reach_35 ?_
          refine r_ifle (tgt := 113) C dX3_reach_36 (by decide) (fun c_36 => ?_) (fun c_36 => ?_)
          · skip
            refine r_iinc_4 C dX3_reach_113 ?_
            refine r_goto (tgt := 14) C dX3_reach_116 (by decide) ?_
            first
              | (have est : rst c r i_width k a2 = bsO a2 (bsO (bsP (sF c r k)) (bsP (sT c r k))) := rst_or (by omega) q.1 (by omega) (by omega) (Or.inl c_56)
                 rw [← est]
                 refine ih _ (show (sN c r - (k + 1)).toNat < mm by omega) (k + 1) _ (by omega) (by omega) (by rw [foI_s _ _ hk0, ← ea]) (by omega) rfl)
              | (have est : rst c r i_width k a2 = bsO a2 (bsO (bsP (sF c r k)) (bsP (sT c r k))) := rst_or (by omega) q.1 (by omega) (by omega) (Or.inr c_76)
                 rw [← est]
                 refine ih _ (show (sN c r - (k + 1)).toNat < mm by omega) (k + 1) _ (by omega) (by omega) (by rw [foI_s _ _ hk0, ← ea]) (by omega) rfl)
              | (have est : rst c r i_width k a2 = a2 := rst_no (Or.inr ⟨c_56, c_76⟩)
                 refine ih _ (show (sN c r - (k + 1)).toNat < mm by omega) (k + 1) a2 (by omega) (by omega) (by rw [foI_s _ _ hk0, ← ea, est]) hb rfl)
              | (have est : rst c r i_width k a2 = a2 := rst_no (Or.inl (by omega))
                 refine ih _ (show (sN c r - (k + 1)).toNat < mm by omega) (k + 1) a2 (by omega) (by omega) (by rw [foI_s _ _ hk0, ← ea, est]) hb rfl)
          · skip
            refine r_iload_2 C dX3_reach_39 ?_
            refine r_aload_0 C dX3_reach_40 ?_
            refine gI_this05 C q314 dX3_reach_41 ?_
            refine gGN_now C q343 dX3_reach_44 ?_
            refine gTN_from C q198 dX3_reach_47 ?_
            refine r_iload_4 C dX3_reach_50 ?_
            refine ld_n_from C dX3_reach_52 ?_
            refine r_topi (sF c r k) qe.1 ?_
            refine r_cSN2i C (c_X0_isOn hG (by omega) (by omega)) q723 pkX0_isOn dX3_reach_53 (fun z w h => ?_)
            obtain ⟨rfl, rfl⟩ := h
            refine r_ifneB (tgt := 79) C dX3_reach_56 (by decide) (fun c_56 => ?_) (fun c_56 => ?_)
            · skip
              refine r_iload_2 C dX3_reach_79 ?_
              refine r_iconst C dX3_reach_80 ?_
              refine r_aload_0 C dX3_reach_81 ?_
              refine gI_this05 C q314 dX3_reach_82 ?_
              refine gGN_now C q343 dX3_reach_85 ?_
              refine gTN_from C q198 dX3_reach_88 ?_
              refine r_iload_4 C dX3_reach_91 ?_
              refine ld_n_from C dX3_reach_93 ?_
              refine r_topi (sF c r k) qe.1 ?_
              refine r_ishl C (_) dX3_reach_94 (jI_shl (by omega) (by omega)) ?_
              refine r_iconst C dX3_reach_95 ?_
              refine r_aload_0 C dX3_reach_96 ?_
              refine gI_this05 C q314 dX3_reach_97 ?_
              refine gGN_now C q343 dX3_reach_100 ?_
              refine gTN_to C q202 dX3_reach_103 ?_
              refine r_iload_4 C dX3_reach_106 ?_
              refine ld_n_to C dX3_reach_108 ?_
              refine r_topi (sT c r k) qe.2 ?_
              refine r_ishl C (_) dX3_reach_109 (jI_shl (by omega) (by omega)) ?_
              refine r_ior C (_) dX3_reach_110 (jI_or (Int.le_of_lt bsP_0) (Int.le_of_lt bsP_0)) ?_
              refine r_ior C (_) dX3_reach_111 (jI_or (by omega) bsO_0) ?_
              refine r_istore_2 C dX3_reach_112 ?_
              refine r_iinc_4 C dX3_reach_113 ?_
              refine r_goto (tgt := 14) C dX3_reach_116 (by decide) ?_
              first
                | (have est : rst c r i_width k a2 = bsO a2 (bsO (bsP (sF c r k)) (bsP (sT c r k))) := rst_or (by omega) q.1 (by omega) (by omega) (Or.inl c_56)
                   rw [← est]
                   refine ih _ (show (sN c r - (k + 1)).toNat < mm by omega) (k + 1) _ (by omega) (by omega) (by rw [foI_s _ _ hk0, ← ea]) (by omega) rfl)
                | (have est : rst c r i_width k a2 = bsO a2 (bsO (bsP (sF c r k)) (bsP (sT c r k))) := rst_or (by omega) q.1 (by omega) (by omega) (Or.inr c_76)
                   rw [← est]
                   refine ih _ (show (sN c r - (k + 1)).toNat < mm by omega) (k + 1) _ (by omega) (by omega) (by rw [foI_s _ _ hk0, ← ea]) (by omega) rfl)
                | (have est : rst c r i_width k a2 = a2 := rst_no (Or.inr ⟨c_56, c_76⟩)
                   refine ih _ (show (sN c r - (k + 1)).toNat < mm by omega) (k + 1) a2 (by omega) (by omega) (by rw [foI_s _ _ hk0, ← ea, est]) hb rfl)
                | (have est : rst c r i_width k a2 = a2 := rst_no (Or.inl (by omega))
                   refine ih _ (show (sN c r - (k + 1)).toNat < mm by omega) (k + 1) a2 (by omega) (by omega) (by rw [foI_s _ _ hk0, ← ea, est]) hb rfl)
            · skip
              refine r_iload_2 C dX3_reach_59 ?_
              refine r_aload_0 C dX3_reach_60 ?_
              refine gI_this05 C q314 dX3_reach_61 ?_
              refine gGN_now C q343 dX3_reach_64 ?_
              refine gTN_to C q202 dX3_reach_67 ?_
              refine r_iload_4 C dX3_reach_70 ?_
              refine ld_n_to C dX3_reach_72 ?_
              refine r_topi (sT c r k) qe.2 ?_
              refine r_cSN2i C (c_X0_isOn hG (by omega) (by omega)) q723 pkX0_isOn dX3_reach_73 (fun z w h => ?_)
              obtain ⟨rfl, rfl⟩ := h
              refine r_ifeqB (tgt := 113) C dX3_reach_76 (by decide) (fun c_76 => ?_) (fun c_76 => ?_)
              · skip
                refine r_iinc_4 C dX3_reach_113 ?_
                refine r_goto (tgt := 14) C dX3_reach_116 (by decide) ?_
                first
                  | (have est : rst c r i_width k a2 = bsO a2 (bsO (bsP (sF c r k)) (bsP (sT c r k))) := rst_or (by omega) q.1 (by omega) (by omega) (Or.inl c_56)
                     rw [← est]
                     refine ih _ (show (sN c r - (k + 1)).toNat < mm by omega) (k + 1) _ (by omega) (by omega) (by rw [foI_s _ _ hk0, ← ea]) (by omega) rfl)
                  | (have est : rst c r i_width k a2 = bsO a2 (bsO (bsP (sF c r k)) (bsP (sT c r k))) := rst_or (by omega) q.1 (by omega) (by omega) (Or.inr c_76)
                     rw [← est]
                     refine ih _ (show (sN c r - (k + 1)).toNat < mm by omega) (k + 1) _ (by omega) (by omega) (by rw [foI_s _ _ hk0, ← ea]) (by omega) rfl)
                  | (have est : rst c r i_width k a2 = a2 := rst_no (Or.inr ⟨c_56, c_76⟩)
                     refine ih _ (show (sN c r - (k + 1)).toNat < mm by omega) (k + 1) a2 (by omega) (by omega) (by rw [foI_s _ _ hk0, ← ea, est]) hb rfl)
                  | (have est : rst c r i_width k a2 = a2 := rst_no (Or.inl (by omega))
                     refine ih _ (show (sN c r - (k + 1)).toNat < mm by omega) (k + 1) a2 (by omega) (by omega) (by rw [foI_s _ _ hk0, ← ea, est]) hb rfl)
              · skip
                refine r_iload_2 C dX3_reach_79 ?_
                refine r_iconst C dX3_reach_80 ?_
                refine r_aload_0 C dX3_reach_81 ?_
                refine gI_this05 C q314 dX3_reach_82 ?_
                refine gGN_now C q343 dX3_reach_85 ?_
                refine gTN_from C q198 dX3_reach_88 ?_
                refine r_iload_4 C dX3_reach_91 ?_
                refine ld_n_from C dX3_reach_93 ?_
                refine r_topi (sF c r k) qe.1 ?_
                refine r_ishl C (_) dX3_reach_94 (jI_shl (by omega) (by omega)) ?_
                refine r_iconst C dX3_reach_95 ?_
                refine r_aload_0 C dX3_reach_96 ?_
                refine gI_this05 C q314 dX3_reach_97 ?_
                refine gGN_now C q343 dX3_reach_100 ?_
                refine gTN_to C q202 dX3_reach_103 ?_
                refine r_iload_4 C dX3_reach_106 ?_
                refine ld_n_to C dX3_reach_108 ?_
                refine r_topi (sT c r k) qe.2 ?_
                refine r_ishl C (_) dX3_reach_109 (jI_shl (by omega) (by omega)) ?_
                refine r_ior C (_) dX3_reach_110 (jI_or (Int.le_of_lt bsP_0) (Int.le_of_lt bsP_0)) ?_
                refine r_ior C (_) dX3_reach_111 (jI_or (by omega) bsO_0) ?_
                refine r_istore_2 C dX3_reach_112 ?_
                refine r_iinc_4 C dX3_reach_113 ?_
                refine r_goto (tgt := 14) C dX3_reach_116 (by decide) ?_
                first
                  | (have est : rst c r i_width k a2 = bsO a2 (bsO (bsP (sF c r k)) (bsP (sT c r k))) := rst_or (by omega) q.1 (by omega) (by omega) (Or.inl c_56)
                     rw [← est]
                     refine ih _ (show (sN c r - (k + 1)).toNat < mm by omega) (k + 1) _ (by omega) (by omega) (by rw [foI_s _ _ hk0, ← ea]) (by omega) rfl)
                  | (have est : rst c r i_width k a2 = bsO a2 (bsO (bsP (sF c r k)) (bsP (sT c r k))) := rst_or (by omega) q.1 (by omega) (by omega) (Or.inr c_76)
                     rw [← est]
                     refine ih _ (show (sN c r - (k + 1)).toNat < mm by omega) (k + 1) _ (by omega) (by omega) (by rw [foI_s _ _ hk0, ← ea]) (by omega) rfl)
                  | (have est : rst c r i_width k a2 = a2 := rst_no (Or.inr ⟨c_56, c_76⟩)
                     refine ih _ (show (sN c r - (k + 1)).toNat < mm by omega) (k + 1) a2 (by omega) (by omega) (by rw [foI_s _ _ hk0, ← ea, est]) hb rfl)
                  | (have est : rst c r i_width k a2 = a2 := rst_no (Or.inl (by omega))
                     refine ih _ (show (sN c r - (k + 1)).toNat < mm by omega) (k + 1) a2 (by omega) (by omega) (by rw [foI_s _ _ hk0, ← ea, est]) hb rfl)
      refine r_iload_2 C dX3_reach_9 ?_
      refine r_istore_3 C dX3_reach_10 ?_
      refine r_iconst C dX3_reach_11 ?_
      refine r_istore_4 C dX3_reach_12 ?_
      exact pass _ 0 al (by omega) (by omega) rfl (by omega) rfl
  refine r_iload_1 C dX3_reach_0 ?_
  refine r_istore_2 C dX3_reach_1 ?_
  refine r_iconst C dX3_reach_2 ?_
  refine r_istore_3 C dX3_reach_3 ?_
  refine key _ s 0 _ hs0 hs1 rfl (fun e => ?_) (by omega) rfl
  rw [e]
  exact rch_0

theorem c_X2_many_Y (hG : Gok g)  : XMet g yX2_many cX2_many 1 (some .int) 1 0 0 [.ref (σ 31)] (wX g σ x_tape x_taped x_faultKind x_faultPlace x_bestStarved x_bestMost x_bestWhole x_draws x_left x_mosts x_widened x_drawn x_img n_width n_from n_to n_load n_group n_budget n_columns n_rows n_limit n_wear n_straps n_pads n_lines n_mod n_asz n_el i_width i_load i_pads i_reached i_place i_table i_drop i_size i_whole t_width t_load t_pads t_reached t_place t_table t_drop t_size t_whole ++ ex) (pI (fun z w => z = n_columns * n_rows ∧ w = (wX g σ x_tape x_taped x_faultKind x_faultPlace x_bestStarved x_bestMost x_bestWhole x_draws x_left x_mosts x_widened x_drawn x_img n_width n_from n_to n_load n_group n_budget n_columns n_rows n_limit n_wear n_straps n_pads n_lines n_mod n_asz n_el i_width i_load i_pads i_reached i_place i_table i_drop i_size i_whole t_width t_load t_pads t_reached t_place t_table t_drop t_size t_whole ++ ex))) := by
  refine XMet.of (L := [some (.ref (σ 31))]) hG (by decide +kernel) (Nat.le_of_ble_eq_true rfl) rfl (fun K C E => ?_)
  refine r_aload_0 C dX2_many_0 ?_
  refine gY_this00 C q315 dX2_many_1 ?_
  refine gGN_now C q344 dX2_many_4 ?_
  refine r_cV0i C (c_X1_many hG) (q0 := 7) rfl rfl q734 pkX1_many dX2_many_7 (fun z w h => ?_)
  obtain ⟨rfl, rfl⟩ := h
  refine r_ireturn C E dX2_many_10 ?_
  exact ⟨_, rfl, rfl, rfl⟩
theorem c_X2_isLive_Y (hG : Gok g) {v : Int} {w : Int → Int} (hv : inR v) (hc : n_columns = w 0) (hr : n_rows = w 1) (hn : 0 ≤ wN w ∧ wN w ≤ 9) : XMet g yX2_isLive cX2_isLive 2 (some .boolean) 2 0 0 [.ref (σ 31), .int (jI v)] (wX g σ x_tape x_taped x_faultKind x_faultPlace x_bestStarved x_bestMost x_bestWhole x_draws x_left x_mosts x_widened x_drawn x_img n_width n_from n_to n_load n_group n_budget n_columns n_rows n_limit n_wear n_straps n_pads n_lines n_mod n_asz n_el i_width i_load i_pads i_reached i_place i_table i_drop i_size i_whole t_width t_load t_pads t_reached t_place t_table t_drop t_size t_whole ++ ex) (pI (fun z ww => z = (if isNb w v then 1 else 0) ∧ ww = (wX g σ x_tape x_taped x_faultKind x_faultPlace x_bestStarved x_bestMost x_bestWhole x_draws x_left x_mosts x_widened x_drawn x_img n_width n_from n_to n_load n_group n_budget n_columns n_rows n_limit n_wear n_straps n_pads n_lines n_mod n_asz n_el i_width i_load i_pads i_reached i_place i_table i_drop i_size i_whole t_width t_load t_pads t_reached t_place t_table t_drop t_size t_whole ++ ex))) := by
  refine XMet.of (L := [some (.ref (σ 31)), some (.int (jI v))]) hG (by decide +kernel) (Nat.le_of_ble_eq_true rfl) rfl (fun K C E => ?_)
  refine r_aload_0 C dX2_isLive_0 ?_
  refine gY_this00 C q315 dX2_isLive_1 ?_
  refine r_iload_1 C dX2_isLive_4 ?_
  refine r_cVN1i C (c_X0_isNode hG hv hc hr hn) (q0 := 0) rfl rfl q789 pkX0_isNode dX2_isLive_5 (fun z w h => ?_)
  obtain ⟨rfl, rfl⟩ := h
  refine r_zreturnB C E dX2_isLive_8 ?_
  exact ⟨_, rfl, rfl, rfl⟩
theorem c_X3_takes_Y (hG : Gok g)  : XMet g yX3_takes cX3_takes 1 none 1 0 0 [.ref (σ 31)] (wX g σ x_tape x_taped x_faultKind x_faultPlace x_bestStarved x_bestMost x_bestWhole x_draws x_left x_mosts x_widened x_drawn x_img n_width n_from n_to n_load n_group n_budget n_columns n_rows n_limit n_wear n_straps n_pads n_lines n_mod n_asz n_el i_width i_load i_pads i_reached i_place i_table i_drop i_size i_whole t_width t_load t_pads t_reached t_place t_table t_drop t_size t_whole ++ ex) (pV (fun w => w = (wX g σ x_tape x_taped x_faultKind x_faultPlace x_bestStarved x_bestMost x_bestWhole x_draws x_left x_mosts x_widened x_drawn x_img n_width n_from n_to n_load n_group n_budget n_columns n_rows n_limit n_wear n_straps n_pads n_lines n_mod n_asz n_el i_width i_load i_pads i_reached i_place i_table i_drop i_size i_whole (fun j => if 0 ≤ j ∧ j < 12 then n_width j else t_width j) (fun j => if 0 ≤ j ∧ j < 9 then n_load j else t_load j) (n_pads) t_reached t_place t_table t_drop t_size t_whole ++ ex))) := by
  refine XMet.of (L := [some (.ref (σ 31))]) hG (by decide +kernel) (Nat.le_of_ble_eq_true rfl) rfl (fun K C E => ?_)
  refine r_aload_0 C dX3_takes_0 ?_
  refine gY_this05 C q314 dX3_takes_1 ?_
  refine gGN_now C q343 dX3_takes_4 ?_
  refine gTN_width C q193 dX3_takes_7 ?_
  refine r_iconst C dX3_takes_10 ?_
  refine r_aload_0 C dX3_takes_11 ?_
  refine gY_width C q300 dX3_takes_12 ?_
  refine r_iconst C dX3_takes_15 ?_
  refine r_bipush C dX3_takes_16 ?_
  refine cp_n_width_t_width C q710 dX3_takes_18 ?_
  refine r_aload_0 C dX3_takes_21 ?_
  refine gY_this05 C q314 dX3_takes_22 ?_
  refine gGN_now C q343 dX3_takes_25 ?_
  refine gTN_load C q207 dX3_takes_28 ?_
  refine r_iconst C dX3_takes_31 ?_
  refine r_aload_0 C dX3_takes_32 ?_
  refine gY_load C q304 dX3_takes_33 ?_
  refine r_iconst C dX3_takes_36 ?_
  refine r_bipush C dX3_takes_37 ?_
  refine cp_n_load_t_load C q710 dX3_takes_39 ?_
  refine r_aload_0 C dX3_takes_42 ?_
  refine r_aload_0 C dX3_takes_43 ?_
  refine gY_this05 C q314 dX3_takes_44 ?_
  refine gGN_now C q343 dX3_takes_47 ?_
  refine gTN_pads C q241 dX3_takes_50 ?_
  refine pY_pads C q308 dX3_takes_53 ?_
  refine r_return C E dX3_takes_56 ?_
  exact ⟨rfl, rfl⟩
theorem c_X3_reach_Y (hG : Gok g) {s c r : Int} (hg : GW c r) (hs : n_straps = sN c r) (he : ∀ k : Int, 0 ≤ k → k < sN c r → n_from k = sF c r k ∧ n_to k = sT c r k) (hw : ∀ k, 0 ≤ k → k < 12 → 0 ≤ t_width k ∧ t_width k ≤ 4) (hs0 : 0 ≤ s) (hs1 : s < 512) : XMet g yX3_reach cX3_reach 5 (some .int) 1 0 0 [.ref (σ 31), .int (jI s)] (wX g σ x_tape x_taped x_faultKind x_faultPlace x_bestStarved x_bestMost x_bestWhole x_draws x_left x_mosts x_widened x_drawn x_img n_width n_from n_to n_load n_group n_budget n_columns n_rows n_limit n_wear n_straps n_pads n_lines n_mod n_asz n_el i_width i_load i_pads i_reached i_place i_table i_drop i_size i_whole t_width t_load t_pads t_reached t_place t_table t_drop t_size t_whole ++ ex) (pI (fun z w => z = rch c r t_width s ∧ w = (wX g σ x_tape x_taped x_faultKind x_faultPlace x_bestStarved x_bestMost x_bestWhole x_draws x_left x_mosts x_widened x_drawn x_img n_width n_from n_to n_load n_group n_budget n_columns n_rows n_limit n_wear n_straps n_pads n_lines n_mod n_asz n_el i_width i_load i_pads i_reached i_place i_table i_drop i_size i_whole t_width t_load t_pads t_reached t_place t_table t_drop t_size t_whole ++ ex))) := by
  refine XMet.of (L := [some (.ref (σ 31)), some (.int (jI s)), none, none, none]) hG (by decide +kernel) (Nat.le_of_ble_eq_true rfl) rfl (fun K C E => ?_)
  have h12 := sN_12 hg
  have h00 := sN_0 (c := c) (r := r)
  have h9 := hg.2.2
  subst hs
  have key : ∀ (mm : Nat), ∀ (al wa : Int) (l4 : Option Value), (0 ≤ al) → (al < 512) → (rch c r t_width al = rch c r t_width s) → (al = wa → rch c r t_width al = al) → (0 ≤ wa ∧ wa < 512) → (2 * (512 - al) + if al = wa then 0 else 1).toNat = mm → AW g K (wX g σ x_tape x_taped x_faultKind x_faultPlace x_bestStarved x_bestMost x_bestWhole x_draws x_left x_mosts x_widened x_drawn x_img n_width n_from n_to n_load n_group n_budget n_columns n_rows n_limit n_wear (sN c r) n_pads n_lines n_mod n_asz n_el i_width i_load i_pads i_reached i_place i_table i_drop i_size i_whole t_width t_load t_pads t_reached t_place t_table t_drop t_size t_whole ++ ex) 0 0 4 [some (.ref (σ 31)), some (.int (jI s)), some (.int (jI al)), some (.int (jI wa)), l4] [] := by
    intro mm
    induction mm using Nat.strongRecOn with
    | _ mm ih =>
    intro al wa l4 ha0 ha1 hr hfx hwa hm
    refine r_iload_2 C dX3_reach_4 ?_
    refine r_iload_3 C dX3_reach_5 ?_
    refine r_if_icmpeq (tgt := 122) C dX3_reach_6 (by decide) (fun c_6 => ?_) (fun c_6 => ?_)
    · skip
      refine r_iload_2 C dX3_reach_122 ?_
      refine r_ireturn C E dX3_reach_123 ?_
      exact ⟨_, rfl, by rw [← hr, hfx c_6], rfl⟩
    · skip
      have ih0 := ih
      have hm0 := hm
      rw [if_neg c_6] at hm0
      have pass : ∀ (mm : Nat), ∀ (k a2 : Int), (0 ≤ k) → (k ≤ sN c r) → (a2 = foI (rst c r t_width) al k) → (al ≤ a2 ∧ a2 < 512) → (sN c r - k).toNat = mm → AW g K (wX g σ x_tape x_taped x_faultKind x_faultPlace x_bestStarved x_bestMost x_bestWhole x_draws x_left x_mosts x_widened x_drawn x_img n_width n_from n_to n_load n_group n_budget n_columns n_rows n_limit n_wear (sN c r) n_pads n_lines n_mod n_asz n_el i_width i_load i_pads i_reached i_place i_table i_drop i_size i_whole t_width t_load t_pads t_reached t_place t_table t_drop t_size t_whole ++ ex) 0 0 14 [some (.ref (σ 31)), some (.int (jI s)), some (.int (jI a2)), some (.int (jI al)), some (.int (jI k))] [] := by
        intro mm
        induction mm using Nat.strongRecOn with
        | _ mm ih =>
        intro k a2 hk0 hk ea hb hm
        refine r_iload_4 C dX3_reach_14 ?_
        refine r_aload_0 C dX3_reach_16 ?_
        refine gY_this05 C q314 dX3_reach_17 ?_
        refine gGN_now C q343 dX3_reach_20 ?_
        refine gTN_straps C q236 dX3_reach_23 ?_
        refine r_if_icmpge (tgt := 119) C dX3_reach_26 (by decide) (fun c_26 => ?_) (fun c_26 => ?_)
        · skip
          refine r_goto (tgt := 4) C dX3_reach_119 (by decide) ?_
          have ek : k = sN c r := by omega
          have ea' : a2 = rps c r t_width al := by rw [ea, ek]; rfl
          refine ih0 _ ?_ a2 al _ (by omega) (by omega) (by rw [ea', rch_step hg ha0 ha1, hr]) (fun e => rch_done (by rw [e, ← ea']; exact e)) (by omega) rfl
          split <;> omega
        · skip
          have q := sl_in hg hk0 c_26
          have qe := he k hk0 c_26
          have hwk := hw k hk0 (by omega)
          have hst := rst_in (wd := t_width) hg hk0 c_26 (show 0 ≤ a2 by omega) hb.2
          refine r_aload_0 C dX3_reach_29 ?_
          refine gY_width C q300 dX3_reach_30 ?_
          refine r_iload_4 C dX3_reach_33 ?_
          refine ld_t_width C dX3_reach_35 ?_
          refine r_ifle (tgt := 113) C dX3_reach_36 (by decide) (fun c_36 => ?_) (fun c_36 => ?_)
          · skip
            refine r_iinc_4 C dX3_reach_113 ?_
            refine r_goto (tgt := 14) C dX3_reach_116 (by decide) ?_
            first
              | (have est : rst c r t_width k a2 = bsO a2 (bsO (bsP (sF c r k)) (bsP (sT c r k))) := rst_or (by omega) q.1 (by omega) (by omega) (Or.inl c_56)
                 rw [← est]
                 refine ih _ (show (sN c r - (k + 1)).toNat < mm by omega) (k + 1) _ (by omega) (by omega) (by rw [foI_s _ _ hk0, ← ea]) (by omega) rfl)
              | (have est : rst c r t_width k a2 = bsO a2 (bsO (bsP (sF c r k)) (bsP (sT c r k))) := rst_or (by omega) q.1 (by omega) (by omega) (Or.inr c_76)
                 rw [← est]
                 refine ih _ (show (sN c r - (k + 1)).toNat < mm by omega) (k + 1) _ (by omega) (by omega) (by rw [foI_s _ _ hk0, ← ea]) (by omega) rfl)
              | (have est : rst c r t_width k a2 = a2 := rst_no (Or.inr ⟨c_56, c_76⟩)
                 refine ih _ (show (sN c r - (k + 1)).toNat < mm by omega) (k + 1) a2 (by omega) (by omega) (by rw [foI_s _ _ hk0, ← ea, est]) hb rfl)
              | (have est : rst c r t_width k a2 = a2 := rst_no (Or.inl (by omega))
                 refine ih _ (show (sN c r - (k + 1)).toNat < mm by omega) (k + 1) a2 (by omega) (by omega) (by rw [foI_s _ _ hk0, ← ea, est]) hb rfl)
          · skip
            refine r_iload_2 C dX3_reach_39 ?_
            refine r_aload_0 C dX3_reach_40 ?_
            refine gY_this05 C q314 dX3_reach_41 ?_
            refine gGN_now C q343 dX3_reach_44 ?_
            refine gTN_from C q198 dX3_reach_47 ?_
            refine r_iload_4 C dX3_reach_50 ?_
            refine ld_n_from C dX3_reach_52 ?_
            refine r_topi (sF c r k) qe.1 ?_
            refine r_cSN2i C (c_X0_isOn hG (by omega) (by omega)) q723 pkX0_isOn dX3_reach_53 (fun z w h => ?_)
            obtain ⟨rfl, rfl⟩ := h
            refine r_ifneB (tgt := 79) C dX3_reach_56 (by decide) (fun c_56 => ?_) (fun c_56 => ?_)
            · skip
              refine r_iload_2 C dX3_reach_79 ?_
              refine r_iconst C dX3_reach_80 ?_
              refine r_aload_0 C dX3_reach_81 ?_
              refine gY_this05 C q314 dX3_reach_82 ?_
              refine gGN_now C q343 dX3_reach_85 ?_
              refine gTN_from C q198 dX3_reach_88 ?_
              refine r_iload_4 C dX3_reach_91 ?_
              refine ld_n_from C dX3_reach_93 ?_
              refine r_topi (sF c r k) qe.1 ?_
              refine r_ishl C (_) dX3_reach_94 (jI_shl (by omega) (by omega)) ?_
              refine r_iconst C dX3_reach_95 ?_
              refine r_aload_0 C dX3_reach_96 ?_
              refine gY_this05 C q314 dX3_reach_97 ?_
              refine gGN_now C q343 dX3_reach_100 ?_
              refine gTN_to C q202 dX3_reach_103 ?_
              refine r_iload_4 C dX3_reach_106 ?_
              refine ld_n_to C dX3_reach_108 ?_
              refine r_topi (sT c r k) qe.2 ?_
              refine r_ishl C (_) dX3_reach_109 (jI_shl (by omega) (by omega)) ?_
              refine r_ior C (_) dX3_reach_110 (jI_or (Int.le_of_lt bsP_0) (Int.le_of_lt bsP_0)) ?_
              refine r_ior C (_) dX3_reach_111 (jI_or (by omega) bsO_0) ?_
              refine r_istore_2 C dX3_reach_112 ?_
              refine r_iinc_4 C dX3_reach_113 ?_
              refine r_goto (tgt := 14) C dX3_reach_116 (by decide) ?_
              first
                | (have est : rst c r t_width k a2 = bsO a2 (bsO (bsP (sF c r k)) (bsP (sT c r k))) := rst_or (by omega) q.1 (by omega) (by omega) (Or.inl c_56)
                   rw [← est]
                   refine ih _ (show (sN c r - (k + 1)).toNat < mm by omega) (k + 1) _ (by omega) (by omega) (by rw [foI_s _ _ hk0, ← ea]) (by omega) rfl)
                | (have est : rst c r t_width k a2 = bsO a2 (bsO (bsP (sF c r k)) (bsP (sT c r k))) := rst_or (by omega) q.1 (by omega) (by omega) (Or.inr c_76)
                   rw [← est]
                   refine ih _ (show (sN c r - (k + 1)).toNat < mm by omega) (k + 1) _ (by omega) (by omega) (by rw [foI_s _ _ hk0, ← ea]) (by omega) rfl)
                | (have est : rst c r t_width k a2 = a2 := rst_no (Or.inr ⟨c_56, c_76⟩)
                   refine ih _ (show (sN c r - (k + 1)).toNat < mm by omega) (k + 1) a2 (by omega) (by omega) (by rw [foI_s _ _ hk0, ← ea, est]) hb rfl)
                | (have est : rst c r t_width k a2 = a2 := rst_no (Or.inl (by omega))
                   refine ih _ (show (sN c r - (k + 1)).toNat < mm by omega) (k + 1) a2 (by omega) (by omega) (by rw [foI_s _ _ hk0, ← ea, est]) hb rfl)
            · skip
              refine r_iload_2 C dX3_reach_59 ?_
              refine r_aload_0 C dX3_reach_60 ?_
              refine gY_this05 C q314 dX3_reach_61 ?_
              refine gGN_now C q343 dX3_reach_64 ?_
              refine gTN_to C q202 dX3_reach_67 ?_
              refine r_iload_4 C dX3_reach_70 ?_
              refine ld_n_to C dX3_reach_72 ?_
              refine r_topi (sT c r k) qe.2 ?_
              refine r_cSN2i C (c_X0_isOn hG (by omega) (by omega)) q723 pkX0_isOn dX3_reach_73 (fun z w h => ?_)
              obtain ⟨rfl, rfl⟩ := h
              refine r_ifeqB (tgt := 113) C dX3_reach_76 (by decide) (fun c_76 => ?_) (fun c_76 => ?_)
              · skip
                refine r_iinc_4 C dX3_reach_113 ?_
                refine r_goto (tgt := 14) C dX3_reach_116 (by decide) ?_
                first
                  | (have est : rst c r t_width k a2 = bsO a2 (bsO (bsP (sF c r k)) (bsP (sT c r k))) := rst_or (by omega) q.1 (by omega) (by omega) (Or.inl c_56)
                     rw [← est]
                     refine ih _ (show (sN c r - (k + 1)).toNat < mm by omega) (k + 1) _ (by omega) (by omega) (by rw [foI_s _ _ hk0, ← ea]) (by omega) rfl)
                  | (have est : rst c r t_width k a2 = bsO a2 (bsO (bsP (sF c r k)) (bsP (sT c r k))) := rst_or (by omega) q.1 (by omega) (by omega) (Or.inr c_76)
                     rw [← est]
                     refine ih _ (show (sN c r - (k + 1)).toNat < mm by omega) (k + 1) _ (by omega) (by omega) (by rw [foI_s _ _ hk0, ← ea]) (by omega) rfl)
                  | (have est : rst c r t_width k a2 = a2 := rst_no (Or.inr ⟨c_56, c_76⟩)
                     refine ih _ (show (sN c r - (k + 1)).toNat < mm by omega) (k + 1) a2 (by omega) (by omega) (by rw [foI_s _ _ hk0, ← ea, est]) hb rfl)
                  | (have est : rst c r t_width k a2 = a2 := rst_no (Or.inl (by omega))
                     refine ih _ (show (sN c r - (k + 1)).toNat < mm by omega) (k + 1) a2 (by omega) (by omega) (by rw [foI_s _ _ hk0, ← ea, est]) hb rfl)
              · skip
                refine r_iload_2 C dX3_reach_79 ?_
                refine r_iconst C dX3_reach_80 ?_
                refine r_aload_0 C dX3_reach_81 ?_
                refine gY_this05 C q314 dX3_reach_82 ?_
                refine gGN_now C q343 dX3_reach_85 ?_
                refine gTN_from C q198 dX3_reach_88 ?_
                refine r_iload_4 C dX3_reach_91 ?_
                refine ld_n_from C dX3_reach_93 ?_
                refine r_topi (sF c r k) qe.1 ?_
                refine r_ishl C (_) dX3_reach_94 (jI_shl (by omega) (by omega)) ?_
                refine r_iconst C dX3_reach_95 ?_
                refine r_aload_0 C dX3_reach_96 ?_
                refine gY_this05 C q314 dX3_reach_97 ?_
                refine gGN_now C q343 dX3_reach_100 ?_
                refine gTN_to C q202 dX3_reach_103 ?_
                refine r_iload_4 C dX3_reach_106 ?_
                refine ld_n_to C dX3_reach_108 ?_
                refine r_topi (sT c r k) qe.2 ?_
                refine r_ishl C (_) dX3_reach_109 (jI_shl (by omega) (by omega)) ?_
                refine r_ior C (_) dX3_reach_110 (jI_or (Int.le_of_lt bsP_0) (Int.le_of_lt bsP_0)) ?_
                refine r_ior C (_) dX3_reach_111 (jI_or (by omega) bsO_0) ?_
                refine r_istore_2 C dX3_reach_112 ?_
                refine r_iinc_4 C dX3_reach_113 ?_
                refine r_goto (tgt := 14) C dX3_reach_116 (by decide) ?_
                first
                  | (have est : rst c r t_width k a2 = bsO a2 (bsO (bsP (sF c r k)) (bsP (sT c r k))) := rst_or (by omega) q.1 (by omega) (by omega) (Or.inl c_56)
                     rw [← est]
                     refine ih _ (show (sN c r - (k + 1)).toNat < mm by omega) (k + 1) _ (by omega) (by omega) (by rw [foI_s _ _ hk0, ← ea]) (by omega) rfl)
                  | (have est : rst c r t_width k a2 = bsO a2 (bsO (bsP (sF c r k)) (bsP (sT c r k))) := rst_or (by omega) q.1 (by omega) (by omega) (Or.inr c_76)
                     rw [← est]
                     refine ih _ (show (sN c r - (k + 1)).toNat < mm by omega) (k + 1) _ (by omega) (by omega) (by rw [foI_s _ _ hk0, ← ea]) (by omega) rfl)
                  | (have est : rst c r t_width k a2 = a2 := rst_no (Or.inr ⟨c_56, c_76⟩)
                     refine ih _ (show (sN c r - (k + 1)).toNat < mm by omega) (k + 1) a2 (by omega) (by omega) (by rw [foI_s _ _ hk0, ← ea, est]) hb rfl)
                  | (have est : rst c r t_width k a2 = a2 := rst_no (Or.inl (by omega))
                     refine ih _ (show (sN c r - (k + 1)).toNat < mm by omega) (k + 1) a2 (by omega) (by omega) (by rw [foI_s _ _ hk0, ← ea, est]) hb rfl)
      refine r_iload_2 C dX3_reach_9 ?_
      refine r_istore_3 C dX3_reach_10 ?_
      refine r_iconst C dX3_reach_11 ?_
      refine r_istore_4 C dX3_reach_12 ?_
      exact pass _ 0 al (by omega) (by omega) rfl (by omega) rfl
  refine r_iload_1 C dX3_reach_0 ?_
  refine r_istore_2 C dX3_reach_1 ?_
  refine r_iconst C dX3_reach_2 ?_
  refine r_istore_3 C dX3_reach_3 ?_
  refine key _ s 0 _ hs0 hs1 rfl (fun e => ?_) (by omega) rfl
  rw [e]
  exact rch_0

end X1

