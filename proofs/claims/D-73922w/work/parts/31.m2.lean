section M2
variable {g : GX} {ρ : Nat → Nat} {ex : va_W}
variable {m_thrown : Int} {m_world : Int → Int} {m_fresh : Int → Int} {m_waysBack : Int → Int} {m_acts : Int} {m_images : Int → Int} {m_hasImage : Int → Int} {m_endOf : Int → Int} {m_strapMany : Int} {m_tape : Int → Int} {m_taped : Int} {m_five : Int → Int} {m_size : Int} {m_at : Int} {m_from : Int} {m_token : Int} {m_value : Int} {m_faultKind : Int} {m_faultPlace : Int} {m_budgetsTold : Int} {m_loadsTold : Int} {m_deadSet : Int} {m_unknownOf : Int → Int} {m_nodeOf : Int → Int} {m_unknowns : Int} {m_cells : Int → Int} {m_whole : Int} {m_ordered : Int → Int} {m_drawnBy : Int → Int} {m_left : Int → Int} {m_aside : Int → Int} {m_bestDead : Int} {m_bestAbove : Int} {m_bestBelow : Int} {m_widened : Int → Int} {m_widenedMany : Int} {m_fewOf : Int → Int} {m_drawing : Int}
theorem c_X5_common {ws : va_W} (hG : Gok g) {a b : Int} (ha : -9223372036854775807 ≤ a ∧ a ≤ 9223372036854775807) (hb : -9223372036854775807 ≤ b ∧ b ≤ 9223372036854775807) : XMet g yX5_common cX5_common 10 (some .long) 1 0 0 [.long (jL a), .long (jL b)] ws (pL (fun z w => z = (Int.gcd a b : Int) ∧ w = ws)) := by
  refine XMet.of (L := [some (.long (jL a)), none, some (.long (jL b)), none, none, none, none, none, none, none]) hG (by decide +kernel) (Nat.le_of_ble_eq_true rfl) rfl (fun K C E => ?_)
  have key : ∀ (mm : Nat) (x y : Int) (l8 l9 : Option Value), 0 ≤ x → x ≤ 9223372036854775807 → 0 ≤ y → y ≤ 9223372036854775807 → Int.gcd x y = Int.gcd a b → lo_n2 (some l9) = true → y.toNat = mm → AW g K ws 0 0 12 [some (.long (jL a)), none, some (.long (jL b)), none, some (.long (jL x)), none, some (.long (jL y)), none, l8, l9] [] := by
    intro mm
    induction mm using Nat.strongRecOn with
    | _ mm ih =>
    intro x y l8 l9 hx0 hx hy0 hy hg hn hm
    refine r_lload_6 C dX5_common_12 ?_
    refine r_lconst0 C dX5_common_14 ?_
    refine r_lcmp_ifeq (tgt := 37) C dX5_common_15 dX5_common_16 (by decide) (fun c_15 => ?_) (fun c_15 => ?_)
    · skip
      refine r_lload_4 C dX5_common_37 ?_
      refine r_lreturn C E dX5_common_39 ?_
      have e : y = 0 := c_15
      subst e
      skip
      exact ⟨_, rfl, by rw [← hg, pl_gcd0 hx0], rfl⟩
    · skip
      refine r_lload_4 C dX5_common_19 ?_
      refine r_lload_6 C dX5_common_21 ?_
      refine r_lrem C dX5_common_23 ?_
      refine r_topl (x % y) (pl_tmod hx0) ?_
      have q1 := Int.emod_nonneg x (show y ≠ 0 by omega)
      have q2 := Int.emod_lt_of_pos x (show 0 < y by omega)
      refine r_lstore_8 C dX5_common_24 ?_
      refine r_lload_6 C dX5_common_26 ?_
      refine r_lstore_4 C dX5_common_28 ?_
      refine r_lload_8 C dX5_common_30 ?_
      refine r_lstore_6 C dX5_common_32 ?_
      refine r_goto (tgt := 12) C dX5_common_34 (by decide) ?_
      exact ih _ (by omega) y (x % y) _ _ hy0 hy q1 (by omega) (by rw [← hg, ← pl_gcdr hx0 hy0]) rfl rfl
  refine r_lload_0 C dX5_common_0 ?_
  refine r_mabsL C q1725 dX5_common_1 ?_
  refine r_lstore_4 C dX5_common_4 ?_
  refine r_lload_2 C dX5_common_6 ?_
  refine r_mabsL C q1725 dX5_common_7 ?_
  refine r_lstore_6 C dX5_common_10 ?_
  exact key _ _ _ _ _ (by omega) (by omega) (by omega) (by omega) (by simp only [Int.gcd, Int.natAbs_natCast]) rfl rfl
theorem c_X5_part {ws : va_W} (hG : Gok g) {a b c : Int} (ha : -9223372036854775807 ≤ a ∧ a ≤ 9223372036854775807) (hb : -9223372036854775807 ≤ b ∧ b ≤ 9223372036854775807) (hc : inR c) (h0 : b ≠ 0) : XMet g yX5_part cX5_part 7 (some .long) 2 0 0 [.long (jL a), .long (jL b), .int (jI c)] ws (pL (fun z w => z = partF a b c ∧ w = ws)) := by
  refine XMet.of (L := [some (.long (jL a)), none, some (.long (jL b)), none, some (.int (jI c)), none, none]) hG (by decide +kernel) (Nat.le_of_ble_eq_true rfl) rfl (fun K C E => ?_)
  have g1 := Int.gcd_le_natAbs_right a h0
  have g2 : 0 < Int.gcd a b := Int.gcd_pos_of_ne_zero_right a h0
  refine r_lload_0 C dX5_part_0 ?_
  refine r_lload_2 C dX5_part_1 ?_
  refine r_cS2l C (c_X5_common hG ha hb) q1722 pkX5_common dX5_part_2 (fun z w h => ?_)
  obtain ⟨rfl, rfl⟩ := h
  refine r_lstore_5 C dX5_part_5 ?_
  refine r_iload_4 C dX5_part_7 ?_
  refine r_ifne (tgt := 19) C dX5_part_9 (by decide) (fun c_9 => ?_) (fun c_9 => ?_)
  · skip
    refine r_lload_2 C dX5_part_19 ?_
    refine r_lload_5 C dX5_part_20 ?_
    refine r_ldiv C dX5_part_22 ?_
    refine r_lreturn C E dX5_part_23 ?_
    exact ⟨_, rfl, by unfold partF; simp [*], rfl⟩
  · skip
    refine r_lload_0 C dX5_part_12 ?_
    refine r_lload_5 C dX5_part_13 ?_
    refine r_ldiv C dX5_part_15 ?_
    refine r_goto (tgt := 23) C dX5_part_16 (by decide) ?_
    refine r_lreturn C E dX5_part_23 ?_
    exact ⟨_, rfl, by unfold partF; simp [*], rfl⟩
theorem c_X5_compares {ws : va_W} (hG : Gok g) {a b c e : Int} (ha : 0 ≤ a ∧ a ≤ 9223372036854775807) (hb : 0 < b ∧ b ≤ 9223372036854775807) (hc : 0 ≤ c ∧ c ≤ 9223372036854775807) (he : 0 < e ∧ e ≤ 9223372036854775807) : XMet g yX5_compares cX5_compares 21 (some .int) 0 0 0 [.long (jL a), .long (jL b), .long (jL c), .long (jL e)] ws (pI (fun z w => z = cmpF a b c e ∧ w = ws)) := by
  refine XMet.of (L := [some (.long (jL a)), none, some (.long (jL b)), none, some (.long (jL c)), none, some (.long (jL e)), none, none, none, none, none, none, none, none, none, none, none, none, none, none]) hG (by decide +kernel) (Nat.le_of_ble_eq_true rfl) rfl (fun K C E => ?_)
  have key : ∀ (mm : Nat), ∀ (a1 b1 c1 e1 s : Int) (l17 l18 l19 l20 : Option Value), (0 ≤ a1 ∧ a1 ≤ 9223372036854775807) → (0 < b1 ∧ b1 ≤ 9223372036854775807) → (0 ≤ c1 ∧ c1 ≤ 9223372036854775807) → (0 < e1 ∧ e1 ≤ 9223372036854775807) → (s = 1 ∨ s = -1) → (s * cmpF a1 b1 c1 e1 = cmpF a b c e) → b1.toNat = mm → AW g K ws 0 0 17 [some (.long (jL a)), none, some (.long (jL b)), none, some (.long (jL c)), none, some (.long (jL e)), none, some (.long (jL a1)), none, some (.long (jL b1)), none, some (.long (jL c1)), none, some (.long (jL e1)), none, some (.int (jI s)), l17, l18, l19, l20] [] := by
    intro mm
    induction mm using Nat.strongRecOn with
    | _ mm ih =>
    intro a1 b1 c1 e1 s l17 l18 l19 l20 ha1 hb1 hc1 he1 hs hv hm
    have q1 := Int.ediv_nonneg ha1.1 (Int.le_of_lt hb1.1)
    have q2 := Int.ediv_nonneg hc1.1 (Int.le_of_lt he1.1)
    have q3 := Int.ediv_le_self b1 ha1.1
    have q4 := Int.ediv_le_self e1 hc1.1
    have q5 := Int.emod_nonneg a1 (show b1 ≠ 0 by omega)
    have q6 := Int.emod_lt_of_pos a1 hb1.1
    have q7 := Int.emod_nonneg c1 (show e1 ≠ 0 by omega)
    have q8 := Int.emod_lt_of_pos c1 he1.1
    refine r_lload_8 C dX5_compares_17 ?_
    refine r_lload_10 C dX5_compares_19 ?_
    refine r_ldiv C dX5_compares_21 ?_
    refine r_topl (a1 / b1) (pl_tdiv ha1.1) ?_
    refine r_lload_12 C dX5_compares_22 ?_
    refine r_lload_14 C dX5_compares_24 ?_
    refine r_ldiv C dX5_compares_26 ?_
    refine r_topl (c1 / e1) (pl_tdiv hc1.1) ?_
    refine r_lcmp_ifeq (tgt := 54) C dX5_compares_27 dX5_compares_28 (by decide) (fun c_27 => ?_) (fun c_27 => ?_)
    · skip
      refine r_lload_8 C dX5_compares_54 ?_
      refine r_lload_10 C dX5_compares_56 ?_
      refine r_lrem C dX5_compares_58 ?_
      refine r_topl (a1 % b1) (pl_tmod ha1.1) ?_
      refine r_lstore_17 C dX5_compares_59 ?_
      refine r_lload_12 C dX5_compares_61 ?_
      refine r_lload_14 C dX5_compares_63 ?_
      refine r_lrem C dX5_compares_65 ?_
      refine r_topl (c1 % e1) (pl_tmod hc1.1) ?_
      refine r_lstore_19 C dX5_compares_66 ?_
      refine r_lload_17 C dX5_compares_68 ?_
      refine r_lconst0 C dX5_compares_70 ?_
      refine r_lcmp_ifeq (tgt := 82) C dX5_compares_71 dX5_compares_72 (by decide) (fun c_71 => ?_) (fun c_71 => ?_)
      · skip
        refine r_lload_17 C dX5_compares_82 ?_
        refine r_lload_19 C dX5_compares_84 ?_
        refine r_lcmp_ifne (tgt := 94) C dX5_compares_86 dX5_compares_87 (by decide) (fun c_86 => ?_) (fun c_86 => ?_)
        · skip
          refine r_lload_17 C dX5_compares_94 ?_
          refine r_lconst0 C dX5_compares_96 ?_
          refine r_lcmp_ifne (tgt := 107) C dX5_compares_97 dX5_compares_98 (by decide) (fun c_97 => ?_) (fun c_97 => ?_)
          · skip
            refine r_iload_16 C dX5_compares_107 ?_
            refine r_ireturn C E dX5_compares_109 ?_
            refine ⟨_, rfl, ?_, rfl⟩
            rw [← hv, cmpF_rem hb1.1 he1.1 c_27]
            first
              | (rw [show a1 % b1 = 0 by omega, cmpF_p0 hb1.1 he1.1 q7]; split <;> omega)
              | (rw [show c1 % e1 = 0 by omega, cmpF_q0 he1.1 q5]; split <;> omega)
          · skip
            refine r_iload_16 C dX5_compares_101 ?_
            refine r_ineg C dX5_compares_103 ?_
            refine r_goto (tgt := 109) C dX5_compares_104 (by decide) ?_
            refine r_ireturn C E dX5_compares_109 ?_
            refine ⟨_, rfl, ?_, rfl⟩
            rw [← hv, cmpF_rem hb1.1 he1.1 c_27]
            first
              | (rw [show a1 % b1 = 0 by omega, cmpF_p0 hb1.1 he1.1 q7]; split <;> omega)
              | (rw [show c1 % e1 = 0 by omega, cmpF_q0 he1.1 q5]; split <;> omega)
        · skip
          refine r_iconst C dX5_compares_90 ?_
          refine r_goto (tgt := 109) C dX5_compares_91 (by decide) ?_
          refine r_ireturn C E dX5_compares_109 ?_
          refine ⟨_, rfl, ?_, rfl⟩
          rw [← hv, cmpF_rem hb1.1 he1.1 c_27]
          first
            | (rw [show a1 % b1 = 0 by omega, cmpF_p0 hb1.1 he1.1 q7]; split <;> omega)
            | (rw [show c1 % e1 = 0 by omega, cmpF_q0 he1.1 q5]; split <;> omega)
      · skip
        refine r_lload_19 C dX5_compares_75 ?_
        refine r_lconst0 C dX5_compares_77 ?_
        refine r_lcmp_ifne (tgt := 110) C dX5_compares_78 dX5_compares_79 (by decide) (fun c_78 => ?_) (fun c_78 => ?_)
        · skip
          refine r_lload_10 C dX5_compares_110 ?_
          refine r_lstore_8 C dX5_compares_112 ?_
          refine r_lload_17 C dX5_compares_114 ?_
          refine r_lstore_10 C dX5_compares_116 ?_
          refine r_lload_14 C dX5_compares_118 ?_
          refine r_lstore_12 C dX5_compares_120 ?_
          refine r_lload_19 C dX5_compares_122 ?_
          refine r_lstore_14 C dX5_compares_124 ?_
          refine r_iload_16 C dX5_compares_126 ?_
          refine r_ineg C dX5_compares_128 ?_
          refine r_istore_16 C dX5_compares_129 ?_
          refine r_goto (tgt := 17) C dX5_compares_131 (by decide) ?_
          refine ih _ (show (a1 % b1).toNat < mm by omega) b1 (a1 % b1) e1 (c1 % e1) (-s) _ _ _ _ (by omega) (by omega) (by omega) (by omega) (by omega) ?_ rfl
          rw [← hv, cmpF_rem hb1.1 he1.1 c_27, cmpF_inv (b := b1) (p := a1 % b1) (d := e1) (q := c1 % e1), Int.neg_mul, Int.mul_neg]
        · skip
          refine r_lload_17 C dX5_compares_82 ?_
          refine r_lload_19 C dX5_compares_84 ?_
          refine r_lcmp_ifne (tgt := 94) C dX5_compares_86 dX5_compares_87 (by decide) (fun c_86 => ?_) (fun c_86 => ?_)
          · skip
            refine r_lload_17 C dX5_compares_94 ?_
            refine r_lconst0 C dX5_compares_96 ?_
            refine r_lcmp_ifne (tgt := 107) C dX5_compares_97 dX5_compares_98 (by decide) (fun c_97 => ?_) (fun c_97 => ?_)
            · skip
              refine r_iload_16 C dX5_compares_107 ?_
              refine r_ireturn C E dX5_compares_109 ?_
              refine ⟨_, rfl, ?_, rfl⟩
              rw [← hv, cmpF_rem hb1.1 he1.1 c_27]
              first
                | (rw [show a1 % b1 = 0 by omega, cmpF_p0 hb1.1 he1.1 q7]; split <;> omega)
                | (rw [show c1 % e1 = 0 by omega, cmpF_q0 he1.1 q5]; split <;> omega)
            · skip
              refine r_iload_16 C dX5_compares_101 ?_
              refine r_ineg C dX5_compares_103 ?_
              refine r_goto (tgt := 109) C dX5_compares_104 (by decide) ?_
              refine r_ireturn C E dX5_compares_109 ?_
              refine ⟨_, rfl, ?_, rfl⟩
              rw [← hv, cmpF_rem hb1.1 he1.1 c_27]
              first
                | (rw [show a1 % b1 = 0 by omega, cmpF_p0 hb1.1 he1.1 q7]; split <;> omega)
                | (rw [show c1 % e1 = 0 by omega, cmpF_q0 he1.1 q5]; split <;> omega)
          · skip
            refine r_iconst C dX5_compares_90 ?_
            refine r_goto (tgt := 109) C dX5_compares_91 (by decide) ?_
            refine r_ireturn C E dX5_compares_109 ?_
            refine ⟨_, rfl, ?_, rfl⟩
            rw [← hv, cmpF_rem hb1.1 he1.1 c_27]
            first
              | (rw [show a1 % b1 = 0 by omega, cmpF_p0 hb1.1 he1.1 q7]; split <;> omega)
              | (rw [show c1 % e1 = 0 by omega, cmpF_q0 he1.1 q5]; split <;> omega)
    · skip
      refine r_lload_8 C dX5_compares_31 ?_
      refine r_lload_10 C dX5_compares_33 ?_
      refine r_ldiv C dX5_compares_35 ?_
      refine r_topl (a1 / b1) (pl_tdiv ha1.1) ?_
      refine r_lload_12 C dX5_compares_36 ?_
      refine r_lload_14 C dX5_compares_38 ?_
      refine r_ldiv C dX5_compares_40 ?_
      refine r_topl (c1 / e1) (pl_tdiv hc1.1) ?_
      refine r_lcmp_ifge (tgt := 51) C dX5_compares_41 dX5_compares_42 (by decide) (fun c_41 => ?_) (fun c_41 => ?_)
      · skip
        refine r_iload_16 C dX5_compares_51 ?_
        refine r_ireturn C E dX5_compares_53 ?_
        refine ⟨_, rfl, ?_, rfl⟩
        rw [← hv, cmpF_div hb1.1 he1.1 c_27]
        split <;> omega
      · skip
        refine r_iload_16 C dX5_compares_45 ?_
        refine r_ineg C dX5_compares_47 ?_
        refine r_goto (tgt := 53) C dX5_compares_48 (by decide) ?_
        refine r_ireturn C E dX5_compares_53 ?_
        refine ⟨_, rfl, ?_, rfl⟩
        rw [← hv, cmpF_div hb1.1 he1.1 c_27]
        split <;> omega
  refine r_lload_0 C dX5_compares_0 ?_
  refine r_lstore_8 C dX5_compares_1 ?_
  refine r_lload_2 C dX5_compares_3 ?_
  refine r_lstore_10 C dX5_compares_4 ?_
  refine r_lload_4 C dX5_compares_6 ?_
  refine r_lstore_12 C dX5_compares_8 ?_
  refine r_lload_6 C dX5_compares_10 ?_
  refine r_lstore_14 C dX5_compares_12 ?_
  refine r_iconst C dX5_compares_14 ?_
  refine r_istore_16 C dX5_compares_15 ?_
  exact key _ a b c e 1 _ _ _ _ ha hb hc he (Or.inl rfl) (Int.one_mul _) rfl
theorem c_X5_nodesIn (hG : Gok g)  : XMet g yX5_nodesIn cX5_nodesIn 1 (some .int) 0 0 0 [.ref (ρ 1)] (wM g ρ m_thrown m_world m_fresh m_waysBack m_acts m_images m_hasImage m_endOf m_strapMany m_tape m_taped m_five m_size m_at m_from m_token m_value m_faultKind m_faultPlace m_budgetsTold m_loadsTold m_deadSet m_unknownOf m_nodeOf m_unknowns m_cells m_whole m_ordered m_drawnBy m_left m_aside m_bestDead m_bestAbove m_bestBelow m_widened m_widenedMany m_fewOf m_drawing ++ ex) (pI (fun z w => z = m_world 0 * m_world 1 ∧ w = (wM g ρ m_thrown m_world m_fresh m_waysBack m_acts m_images m_hasImage m_endOf m_strapMany m_tape m_taped m_five m_size m_at m_from m_token m_value m_faultKind m_faultPlace m_budgetsTold m_loadsTold m_deadSet m_unknownOf m_nodeOf m_unknowns m_cells m_whole m_ordered m_drawnBy m_left m_aside m_bestDead m_bestAbove m_bestBelow m_widened m_widenedMany m_fewOf m_drawing ++ ex))) := by
  refine XMet.of (L := [some (.ref (ρ 1))]) hG (by decide +kernel) (Nat.le_of_ble_eq_true rfl) rfl (fun K C E => ?_)
  refine r_aload_0 C dX5_nodesIn_0 ?_
  refine r_iconst C dX5_nodesIn_1 ?_
  refine ldM_world C dX5_nodesIn_2 ?_
  refine r_aload_0 C dX5_nodesIn_3 ?_
  refine r_iconst C dX5_nodesIn_4 ?_
  refine ldM_world C dX5_nodesIn_5 ?_
  refine r_imul C dX5_nodesIn_6 ?_
  refine r_ireturn C E dX5_nodesIn_7 ?_
  exact ⟨_, rfl, rfl, rfl⟩
theorem c_X5_nodes (hG : Gok g)  : XMet g yX5_nodes cX5_nodes 1 (some .int) 1 0 0 [.ref (ρ 0)] (wM g ρ m_thrown m_world m_fresh m_waysBack m_acts m_images m_hasImage m_endOf m_strapMany m_tape m_taped m_five m_size m_at m_from m_token m_value m_faultKind m_faultPlace m_budgetsTold m_loadsTold m_deadSet m_unknownOf m_nodeOf m_unknowns m_cells m_whole m_ordered m_drawnBy m_left m_aside m_bestDead m_bestAbove m_bestBelow m_widened m_widenedMany m_fewOf m_drawing ++ ex) (pI (fun z w => z = m_world 0 * m_world 1 ∧ w = (wM g ρ m_thrown m_world m_fresh m_waysBack m_acts m_images m_hasImage m_endOf m_strapMany m_tape m_taped m_five m_size m_at m_from m_token m_value m_faultKind m_faultPlace m_budgetsTold m_loadsTold m_deadSet m_unknownOf m_nodeOf m_unknowns m_cells m_whole m_ordered m_drawnBy m_left m_aside m_bestDead m_bestAbove m_bestBelow m_widened m_widenedMany m_fewOf m_drawing ++ ex))) := by
  refine XMet.of (L := [some (.ref (ρ 0))]) hG (by decide +kernel) (Nat.le_of_ble_eq_true rfl) rfl (fun K C E => ?_)
  refine r_aload_0 C dX5_nodes_0 ?_
  refine gM_world C q1386 dX5_nodes_1 ?_
  refine r_cS1i C (c_X5_nodesIn hG) q1658 pkX5_nodesIn dX5_nodes_4 (fun z w h => ?_)
  obtain ⟨rfl, rfl⟩ := h
  refine r_ireturn C E dX5_nodes_7 ?_
  exact ⟨_, rfl, rfl, rfl⟩
theorem c_X5_isNode (hG : Gok g) {v : Int} (hv : inR v) (hn : 0 ≤ m_world 0 * m_world 1 ∧ m_world 0 * m_world 1 ≤ 9) : XMet g yX5_isNode cX5_isNode 2 (some .boolean) 2 0 0 [.ref (ρ 0), .int (jI v)] (wM g ρ m_thrown m_world m_fresh m_waysBack m_acts m_images m_hasImage m_endOf m_strapMany m_tape m_taped m_five m_size m_at m_from m_token m_value m_faultKind m_faultPlace m_budgetsTold m_loadsTold m_deadSet m_unknownOf m_nodeOf m_unknowns m_cells m_whole m_ordered m_drawnBy m_left m_aside m_bestDead m_bestAbove m_bestBelow m_widened m_widenedMany m_fewOf m_drawing ++ ex) (pI (fun z w => z = (if isNb m_world v then 1 else 0) ∧ w = (wM g ρ m_thrown m_world m_fresh m_waysBack m_acts m_images m_hasImage m_endOf m_strapMany m_tape m_taped m_five m_size m_at m_from m_token m_value m_faultKind m_faultPlace m_budgetsTold m_loadsTold m_deadSet m_unknownOf m_nodeOf m_unknowns m_cells m_whole m_ordered m_drawnBy m_left m_aside m_bestDead m_bestAbove m_bestBelow m_widened m_widenedMany m_fewOf m_drawing ++ ex))) := by
  refine XMet.of (L := [some (.ref (ρ 0)), some (.int (jI v))]) hG (by decide +kernel) (Nat.le_of_ble_eq_true rfl) rfl (fun K C E => ?_)
  refine r_iload_1 C dX5_isNode_0 ?_
  refine r_i2l C dX5_isNode_1 ?_
  refine r_lconst0 C dX5_isNode_2 ?_
  refine r_aload_0 C dX5_isNode_3 ?_
  refine r_cV0i C (c_X5_nodes hG) (q0 := 0) rfl rfl q1654 pkX5_nodes dX5_isNode_4 (fun z w h => ?_)
  obtain ⟨rfl, rfl⟩ := h
  refine r_iconst C dX5_isNode_7 ?_
  refine r_isub C dX5_isNode_8 ?_
  refine r_i2l C dX5_isNode_9 ?_
  refine r_cS3i C (c_X5_in hG (inR_L hv) (by unfold inL; omega) (by unfold inL; omega)) q1506 pkX5_in dX5_isNode_10 (fun z w h => ?_)
  obtain ⟨rfl, rfl⟩ := h
  refine r_zreturn C E dX5_isNode_13 (by split <;> omega) ?_
  exact ⟨_, rfl, by unfold isNb wN; exact ifb, rfl⟩
theorem c_X5_addsStrap (hG : Gok g) {a b : Int} (h : 0 ≤ m_strapMany ∧ m_strapMany < 12) : XMet g yX5_addsStrap cX5_addsStrap 3 none 0 0 0 [.ref (ρ 0), .int (jI a), .int (jI b)] (wM g ρ m_thrown m_world m_fresh m_waysBack m_acts m_images m_hasImage m_endOf m_strapMany m_tape m_taped m_five m_size m_at m_from m_token m_value m_faultKind m_faultPlace m_budgetsTold m_loadsTold m_deadSet m_unknownOf m_nodeOf m_unknowns m_cells m_whole m_ordered m_drawnBy m_left m_aside m_bestDead m_bestAbove m_bestBelow m_widened m_widenedMany m_fewOf m_drawing ++ ex) (pV (fun w => w = (wM g ρ m_thrown m_world m_fresh m_waysBack m_acts m_images m_hasImage (aset (aset m_endOf (2 * m_strapMany) a) (2 * m_strapMany + 1) b) (m_strapMany + 1) m_tape m_taped m_five m_size m_at m_from m_token m_value m_faultKind m_faultPlace m_budgetsTold m_loadsTold m_deadSet m_unknownOf m_nodeOf m_unknowns m_cells m_whole m_ordered m_drawnBy m_left m_aside m_bestDead m_bestAbove m_bestBelow m_widened m_widenedMany m_fewOf m_drawing ++ ex))) := by
  refine XMet.of (L := [some (.ref (ρ 0)), some (.int (jI a)), some (.int (jI b))]) hG (by decide +kernel) (Nat.le_of_ble_eq_true rfl) rfl (fun K C E => ?_)
  refine r_aload_0 C dX5_addsStrap_0 ?_
  refine gM_endOf C q1392 dX5_addsStrap_1 ?_
  refine r_iconst C dX5_addsStrap_4 ?_
  refine r_aload_0 C dX5_addsStrap_5 ?_
  refine gM_strapMany C q1393 dX5_addsStrap_6 ?_
  refine r_imul C dX5_addsStrap_9 ?_
  refine r_iload_1 C dX5_addsStrap_10 ?_
  refine stM_endOf C dX5_addsStrap_11 ?_
  refine r_aload_0 C dX5_addsStrap_12 ?_
  refine gM_endOf C q1392 dX5_addsStrap_13 ?_
  refine r_iconst C dX5_addsStrap_16 ?_
  refine r_aload_0 C dX5_addsStrap_17 ?_
  refine gM_strapMany C q1393 dX5_addsStrap_18 ?_
  refine r_imul C dX5_addsStrap_21 ?_
  refine r_iconst C dX5_addsStrap_22 ?_
  refine r_iadd C dX5_addsStrap_23 ?_
  refine r_iload_2 C dX5_addsStrap_24 ?_
  refine stM_endOf C dX5_addsStrap_25 ?_
  refine r_aload_0 C dX5_addsStrap_26 ?_
  refine r_dup C dX5_addsStrap_27 ?_
  refine gM_strapMany C q1393 dX5_addsStrap_28 ?_
  refine r_iconst C dX5_addsStrap_31 ?_
  refine r_iadd C dX5_addsStrap_32 ?_
  refine pM_strapMany C q1393 dX5_addsStrap_33 ?_
  refine r_return C E dX5_addsStrap_36 ?_
  exact ⟨rfl, rfl⟩
end M2

