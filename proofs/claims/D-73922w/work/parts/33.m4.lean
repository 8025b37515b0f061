section M4
variable {g : GX} {ρ : Nat → Nat} {ex : va_W}
variable {m_thrown : Int} {m_world : Int → Int} {m_fresh : Int → Int} {m_waysBack : Int → Int} {m_acts : Int} {m_images : Int → Int} {m_hasImage : Int → Int} {m_endOf : Int → Int} {m_strapMany : Int} {m_tape : Int → Int} {m_taped : Int} {m_five : Int → Int} {m_size : Int} {m_at : Int} {m_from : Int} {m_token : Int} {m_value : Int} {m_faultKind : Int} {m_faultPlace : Int} {m_budgetsTold : Int} {m_loadsTold : Int} {m_deadSet : Int} {m_unknownOf : Int → Int} {m_nodeOf : Int → Int} {m_unknowns : Int} {m_cells : Int → Int} {m_whole : Int} {m_ordered : Int → Int} {m_drawnBy : Int → Int} {m_left : Int → Int} {m_aside : Int → Int} {m_bestDead : Int} {m_bestAbove : Int} {m_bestBelow : Int} {m_widened : Int → Int} {m_widenedMany : Int} {m_fewOf : Int → Int} {m_drawing : Int}
theorem c_X5_isGrid (hG : Gok g) (h : inR (m_world 4)) : XMet g yX5_isGrid cX5_isGrid 1 (some .boolean) 0 0 0 [.ref (ρ 0)] (wM g ρ m_thrown m_world m_fresh m_waysBack m_acts m_images m_hasImage m_endOf m_strapMany m_tape m_taped m_five m_size m_at m_from m_token m_value m_faultKind m_faultPlace m_budgetsTold m_loadsTold m_deadSet m_unknownOf m_nodeOf m_unknowns m_cells m_whole m_ordered m_drawnBy m_left m_aside m_bestDead m_bestAbove m_bestBelow m_widened m_widenedMany m_fewOf m_drawing ++ ex) (pI (fun z w => z = (if 0 < m_world 4 then 1 else 0) ∧ w = (wM g ρ m_thrown m_world m_fresh m_waysBack m_acts m_images m_hasImage m_endOf m_strapMany m_tape m_taped m_five m_size m_at m_from m_token m_value m_faultKind m_faultPlace m_budgetsTold m_loadsTold m_deadSet m_unknownOf m_nodeOf m_unknowns m_cells m_whole m_ordered m_drawnBy m_left m_aside m_bestDead m_bestAbove m_bestBelow m_widened m_widenedMany m_fewOf m_drawing ++ ex))) := by
  refine XMet.of (L := [some (.ref (ρ 0))]) hG (by decide +kernel) (Nat.le_of_ble_eq_true rfl) rfl (fun K C E => ?_)
  refine r_aload_0 C dX5_isGrid_0 ?_
  refine gM_world C q1386 dX5_isGrid_1 ?_
  refine r_iconst C dX5_isGrid_4 ?_
  refine ldM_world C dX5_isGrid_5 ?_
  refine r_ifle (tgt := 13) C dX5_isGrid_6 (by decide) (fun c_6 => ?_) (fun c_6 => ?_)
  · skip
    refine r_iconst C dX5_isGrid_13 ?_
    refine r_zreturn C E dX5_isGrid_14 (by first | exact Or.inl rfl | exact Or.inr rfl | omega) ?_
    exact ⟨_, rfl, by simp [*]; try omega, rfl⟩
  · skip
    refine r_iconst C dX5_isGrid_9 ?_
    refine r_goto (tgt := 14) C dX5_isGrid_10 (by decide) ?_
    refine r_zreturn C E dX5_isGrid_14 (by first | exact Or.inl rfl | exact Or.inr rfl | omega) ?_
    exact ⟨_, rfl, by simp [*]; try omega, rfl⟩
theorem c_X5_straps (hG : Gok g) (h4 : 0 < m_world 4 ∧ m_world 4 ≤ 1000) (hg : GW (m_world 0) (m_world 1)) : XMet g yX5_straps cX5_straps 1 (some .int) 2 0 0 [.ref (ρ 0)] (wM g ρ m_thrown m_world m_fresh m_waysBack m_acts m_images m_hasImage m_endOf m_strapMany m_tape m_taped m_five m_size m_at m_from m_token m_value m_faultKind m_faultPlace m_budgetsTold m_loadsTold m_deadSet m_unknownOf m_nodeOf m_unknowns m_cells m_whole m_ordered m_drawnBy m_left m_aside m_bestDead m_bestAbove m_bestBelow m_widened m_widenedMany m_fewOf m_drawing ++ ex) (pI (fun z w => z = sN (m_world 0) (m_world 1) ∧ ∃ e, Ends (m_world 0) (m_world 1) e ∧ w = (wM g ρ m_thrown m_world m_fresh m_waysBack m_acts m_images m_hasImage (e) (sN (m_world 0) (m_world 1)) m_tape m_taped m_five m_size m_at m_from m_token m_value m_faultKind m_faultPlace m_budgetsTold m_loadsTold m_deadSet m_unknownOf m_nodeOf m_unknowns m_cells m_whole m_ordered m_drawnBy m_left m_aside m_bestDead m_bestAbove m_bestBelow m_widened m_widenedMany m_fewOf m_drawing ++ ex))) := by
  refine XMet.of (L := [some (.ref (ρ 0))]) hG (by decide +kernel) (Nat.le_of_ble_eq_true rfl) rfl (fun K C E => ?_)
  refine r_aload_0 C dX5_straps_0 ?_
  refine r_cV0i C (c_X5_isGrid hG (by unfold inR; omega)) (q0 := 0) rfl rfl q1638 pkX5_isGrid dX5_straps_1 (fun z w h => ?_)
  obtain ⟨rfl, rfl⟩ := h
  refine r_ifne (tgt := 9) C dX5_straps_4 (by decide) (fun c_4 => ?_) (fun c_4 => ?_) (by unfold inR; split <;> omega)
  · skip
    refine r_aload_0 C dX5_straps_9 ?_
    refine r_aload_0 C dX5_straps_10 ?_
    refine gM_world C q1386 dX5_straps_11 ?_
    refine r_iconst C dX5_straps_14 ?_
    refine ldM_world C dX5_straps_15 ?_
    refine r_aload_0 C dX5_straps_16 ?_
    refine gM_world C q1386 dX5_straps_17 ?_
    refine r_iconst C dX5_straps_20 ?_
    refine ldM_world C dX5_straps_21 ?_
    refine r_cV2v C (c_X5_laysStraps hG hg) (q0 := 0) rfl rfl q1584 pkX5_laysStraps dX5_straps_22 (fun w h => ?_)
    obtain ⟨e, he, rfl⟩ := h
    refine r_aload_0 C dX5_straps_25 ?_
    refine gM_strapMany C q1393 dX5_straps_26 ?_
    refine r_ireturn C E dX5_straps_29 ?_
    exact ⟨_, rfl, rfl, e, he, rfl⟩
  · skip
    rw [if_pos h4.1] at c_4; omega
theorem c_X5_straps0 (hG : Gok g) (h4 : m_world 4 = 0) : XMet g yX5_straps cX5_straps 1 (some .int) 2 0 0 [.ref (ρ 0)] (wM g ρ m_thrown m_world m_fresh m_waysBack m_acts m_images m_hasImage m_endOf m_strapMany m_tape m_taped m_five m_size m_at m_from m_token m_value m_faultKind m_faultPlace m_budgetsTold m_loadsTold m_deadSet m_unknownOf m_nodeOf m_unknowns m_cells m_whole m_ordered m_drawnBy m_left m_aside m_bestDead m_bestAbove m_bestBelow m_widened m_widenedMany m_fewOf m_drawing ++ ex) (pI (fun z w => z = 0 ∧ w = (wM g ρ m_thrown m_world m_fresh m_waysBack m_acts m_images m_hasImage m_endOf m_strapMany m_tape m_taped m_five m_size m_at m_from m_token m_value m_faultKind m_faultPlace m_budgetsTold m_loadsTold m_deadSet m_unknownOf m_nodeOf m_unknowns m_cells m_whole m_ordered m_drawnBy m_left m_aside m_bestDead m_bestAbove m_bestBelow m_widened m_widenedMany m_fewOf m_drawing ++ ex))) := by
  refine XMet.of (L := [some (.ref (ρ 0))]) hG (by decide +kernel) (Nat.le_of_ble_eq_true rfl) rfl (fun K C E => ?_)
  refine r_aload_0 C dX5_straps_0 ?_
  refine r_cV0i C (c_X5_isGrid hG (by unfold inR; omega)) (q0 := 0) rfl rfl q1638 pkX5_isGrid dX5_straps_1 (fun z w h => ?_)
  obtain ⟨rfl, rfl⟩ := h
  refine r_ifne (tgt := 9) C dX5_straps_4 (by decide) (fun c_4 => ?_) (fun c_4 => ?_) (by unfold inR; split <;> omega)
  · skip
    rw [if_neg (by omega)] at c_4; omega
  · skip
    refine r_iconst C dX5_straps_7 ?_
    refine r_ireturn C E dX5_straps_8 ?_
    exact ⟨_, rfl, rfl, rfl⟩
theorem c_X5_isStrap (hG : Gok g) {k : Int} (hk : inR k) (h4 : 0 < m_world 4 ∧ m_world 4 ≤ 1000) (hg : GW (m_world 0) (m_world 1)) : XMet g yX5_isStrap cX5_isStrap 2 (some .boolean) 3 0 0 [.ref (ρ 0), .int (jI k)] (wM g ρ m_thrown m_world m_fresh m_waysBack m_acts m_images m_hasImage m_endOf m_strapMany m_tape m_taped m_five m_size m_at m_from m_token m_value m_faultKind m_faultPlace m_budgetsTold m_loadsTold m_deadSet m_unknownOf m_nodeOf m_unknowns m_cells m_whole m_ordered m_drawnBy m_left m_aside m_bestDead m_bestAbove m_bestBelow m_widened m_widenedMany m_fewOf m_drawing ++ ex) (pI (fun z w => z = (if 0 ≤ k ∧ k ≤ sN (m_world 0) (m_world 1) - 1 then 1 else 0) ∧ ∃ e, Ends (m_world 0) (m_world 1) e ∧ w = (wM g ρ m_thrown m_world m_fresh m_waysBack m_acts m_images m_hasImage (e) (sN (m_world 0) (m_world 1)) m_tape m_taped m_five m_size m_at m_from m_token m_value m_faultKind m_faultPlace m_budgetsTold m_loadsTold m_deadSet m_unknownOf m_nodeOf m_unknowns m_cells m_whole m_ordered m_drawnBy m_left m_aside m_bestDead m_bestAbove m_bestBelow m_widened m_widenedMany m_fewOf m_drawing ++ ex))) := by
  refine XMet.of (L := [some (.ref (ρ 0)), some (.int (jI k))]) hG (by decide +kernel) (Nat.le_of_ble_eq_true rfl) rfl (fun K C E => ?_)
  have h12 := sN_12 hg
  have h00 := sN_0 (c := m_world 0) (r := m_world 1)
  refine r_iload_1 C dX5_isStrap_0 ?_
  refine r_i2l C dX5_isStrap_1 ?_
  refine r_lconst0 C dX5_isStrap_2 ?_
  refine r_aload_0 C dX5_isStrap_3 ?_
  refine r_cV0i C (c_X5_straps hG h4 hg) (q0 := 0) rfl rfl q1634 pkX5_straps dX5_isStrap_4 (fun z w h => ?_)
  obtain ⟨rfl, e, he, rfl⟩ := h
  refine r_iconst C dX5_isStrap_7 ?_
  refine r_isub C dX5_isStrap_8 ?_
  refine r_i2l C dX5_isStrap_9 ?_
  refine r_cS3i C (c_X5_in hG (inR_L hk) (by unfold inL; omega) (by unfold inL; omega)) q1506 pkX5_in dX5_isStrap_10 (fun z w h => ?_)
  obtain ⟨rfl, rfl⟩ := h
  refine r_zreturn C E dX5_isStrap_13 (by split <;> omega) ?_
  exact ⟨_, rfl, rfl, e, he, rfl⟩
theorem c_X5_isStrap0 (hG : Gok g) {k : Int} (hk : inR k) (h4 : m_world 4 = 0) : XMet g yX5_isStrap cX5_isStrap 2 (some .boolean) 3 0 0 [.ref (ρ 0), .int (jI k)] (wM g ρ m_thrown m_world m_fresh m_waysBack m_acts m_images m_hasImage m_endOf m_strapMany m_tape m_taped m_five m_size m_at m_from m_token m_value m_faultKind m_faultPlace m_budgetsTold m_loadsTold m_deadSet m_unknownOf m_nodeOf m_unknowns m_cells m_whole m_ordered m_drawnBy m_left m_aside m_bestDead m_bestAbove m_bestBelow m_widened m_widenedMany m_fewOf m_drawing ++ ex) (pI (fun z w => z = 0 ∧ w = (wM g ρ m_thrown m_world m_fresh m_waysBack m_acts m_images m_hasImage m_endOf m_strapMany m_tape m_taped m_five m_size m_at m_from m_token m_value m_faultKind m_faultPlace m_budgetsTold m_loadsTold m_deadSet m_unknownOf m_nodeOf m_unknowns m_cells m_whole m_ordered m_drawnBy m_left m_aside m_bestDead m_bestAbove m_bestBelow m_widened m_widenedMany m_fewOf m_drawing ++ ex))) := by
  refine XMet.of (L := [some (.ref (ρ 0)), some (.int (jI k))]) hG (by decide +kernel) (Nat.le_of_ble_eq_true rfl) rfl (fun K C E => ?_)
  refine r_iload_1 C dX5_isStrap_0 ?_
  refine r_i2l C dX5_isStrap_1 ?_
  refine r_lconst0 C dX5_isStrap_2 ?_
  refine r_aload_0 C dX5_isStrap_3 ?_
  refine r_cV0i C (c_X5_straps0 hG h4) (q0 := 0) rfl rfl q1634 pkX5_straps dX5_isStrap_4 (fun z w h => ?_)
  obtain ⟨rfl, rfl⟩ := h
  refine r_iconst C dX5_isStrap_7 ?_
  refine r_isub C dX5_isStrap_8 ?_
  refine r_i2l C dX5_isStrap_9 ?_
  refine r_cS3i C (c_X5_in hG (inR_L hk) (by unfold inL; omega) (by unfold inL; omega)) q1506 pkX5_in dX5_isStrap_10 (fun z w h => ?_)
  obtain ⟨rfl, rfl⟩ := h
  refine r_zreturn C E dX5_isStrap_13 (by split <;> omega) ?_
  exact ⟨_, rfl, by rw [if_neg (by omega)], rfl⟩
theorem c_X5_strapOf (hG : Gok g) {a b c r : Int} (ha : inR a) (hb : inR b) (hg : GW c r) (he : Ends c r m_endOf) (hs : m_strapMany = sN c r) : XMet g yX5_strapOf cX5_strapOf 4 (some .int) 1 0 0 [.ref (ρ 0), .int (jI a), .int (jI b)] (wM g ρ m_thrown m_world m_fresh m_waysBack m_acts m_images m_hasImage m_endOf m_strapMany m_tape m_taped m_five m_size m_at m_from m_token m_value m_faultKind m_faultPlace m_budgetsTold m_loadsTold m_deadSet m_unknownOf m_nodeOf m_unknowns m_cells m_whole m_ordered m_drawnBy m_left m_aside m_bestDead m_bestAbove m_bestBelow m_widened m_widenedMany m_fewOf m_drawing ++ ex) (pI (fun z w => z = ffi (fun k => decide (sF c r k = (if a ≤ b then a else b) ∧ sT c r k = (if a ≤ b then b else a))) (sN c r).toNat ∧ w = (wM g ρ m_thrown m_world m_fresh m_waysBack m_acts m_images m_hasImage m_endOf m_strapMany m_tape m_taped m_five m_size m_at m_from m_token m_value m_faultKind m_faultPlace m_budgetsTold m_loadsTold m_deadSet m_unknownOf m_nodeOf m_unknowns m_cells m_whole m_ordered m_drawnBy m_left m_aside m_bestDead m_bestAbove m_bestBelow m_widened m_widenedMany m_fewOf m_drawing ++ ex))) := by
  refine XMet.of (L := [some (.ref (ρ 0)), some (.int (jI a)), some (.int (jI b)), none]) hG (by decide +kernel) (Nat.le_of_ble_eq_true rfl) rfl (fun K C E => ?_)
  have h12 := sN_12 hg
  have h00 := sN_0 (c := c) (r := r)
  subst hs
  have hmi : inR (if a ≤ b then a else b) := by split <;> assumption
  have hma : inR (if a ≤ b then b else a) := by split <;> assumption
  have key : ∀ (mm : Nat), ∀ (k : Int), (0 ≤ k) → (k ≤ sN c r) → (∀ j, 0 ≤ j → j < k → ¬ (sF c r j = (if a ≤ b then a else b) ∧ sT c r j = (if a ≤ b then b else a))) → (sN c r - k).toNat = mm → AW g K (wM g ρ m_thrown m_world m_fresh m_waysBack m_acts m_images m_hasImage m_endOf (sN c r) m_tape m_taped m_five m_size m_at m_from m_token m_value m_faultKind m_faultPlace m_budgetsTold m_loadsTold m_deadSet m_unknownOf m_nodeOf m_unknowns m_cells m_whole m_ordered m_drawnBy m_left m_aside m_bestDead m_bestAbove m_bestBelow m_widened m_widenedMany m_fewOf m_drawing ++ ex) 0 0 2 [some (.ref (ρ 0)), some (.int (jI a)), some (.int (jI b)), some (.int (jI k))] [] := by
    intro mm
    induction mm using Nat.strongRecOn with
    | _ mm ih =>
    intro k hk0 hk hp hm
    have hin : k < sN c r → inR (sF c r k) ∧ inR (sT c r k) := fun h => by
      have := sl_in hg hk0 h
      have := hg.2.2
      unfold inR
      omega
    refine r_iload_3 C dX5_strapOf_2 ?_
    refine r_aload_0 C dX5_strapOf_3 ?_
    refine gM_strapMany C q1393 dX5_strapOf_4 ?_
    refine r_if_icmpge (tgt := 52) C dX5_strapOf_7 (by decide) (fun c_7 => ?_) (fun c_7 => ?_)
    · skip
      refine r_iconst C dX5_strapOf_52 ?_
      refine r_ireturn C E dX5_strapOf_53 ?_
      refine ⟨_, rfl, ?_, rfl⟩
      rw [ffi_none _ (fun j h1 h2 => by simp only [decide_eq_false_iff_not]; exact hp (j : Int) (by omega) (by omega))]
    · skip
      refine r_aload_0 C dX5_strapOf_10 ?_
      refine gM_endOf C q1392 dX5_strapOf_11 ?_
      refine r_iconst C dX5_strapOf_14 ?_
      refine r_iload_3 C dX5_strapOf_15 ?_
      refine r_imul C dX5_strapOf_16 ?_
      refine ldM_endOf C dX5_strapOf_17 ?_
      have q := hin c_7
      have qe := he k hk0 c_7
      refine r_topi (sF c r k) qe.1 ?_
      refine r_iload_1 C dX5_strapOf_18 ?_
      refine r_iload_2 C dX5_strapOf_19 ?_
      refine r_mmin C q1542 dX5_strapOf_20 ?_
      refine r_if_icmpne (tgt := 46) C dX5_strapOf_23 (by decide) (fun c_23 => ?_) (fun c_23 => ?_) q.1 hmi
      · skip
        refine r_iinc_3 C dX5_strapOf_46 ?_
        refine r_goto (tgt := 2) C dX5_strapOf_49 (by decide) ?_
        exact ih _ (show (sN c r - (k + 1)).toNat < mm by omega) (k + 1) (by omega) (by omega) (fun j h1 h2 h3 => by
          by_cases e : j = k
          · subst e
            first
              | exact c_23 h3.1
              | exact c_41 h3.2
          · exact hp j h1 (by omega) h3) rfl
      · skip
        refine r_aload_0 C dX5_strapOf_26 ?_
        refine gM_endOf C q1392 dX5_strapOf_27 ?_
        refine r_iconst C dX5_strapOf_30 ?_
        refine r_iload_3 C dX5_strapOf_31 ?_
        refine r_imul C dX5_strapOf_32 ?_
        refine r_iconst C dX5_strapOf_33 ?_
        refine r_iadd C dX5_strapOf_34 ?_
        refine ldM_endOf C dX5_strapOf_35 ?_
        refine r_topi (sT c r k) qe.2 ?_
        refine r_iload_1 C dX5_strapOf_36 ?_
        refine r_iload_2 C dX5_strapOf_37 ?_
        refine r_mmax C q1615 dX5_strapOf_38 ?_
        refine r_if_icmpne (tgt := 46) C dX5_strapOf_41 (by decide) (fun c_41 => ?_) (fun c_41 => ?_) q.2 hma
        · skip
          refine r_iinc_3 C dX5_strapOf_46 ?_
          refine r_goto (tgt := 2) C dX5_strapOf_49 (by decide) ?_
          exact ih _ (show (sN c r - (k + 1)).toNat < mm by omega) (k + 1) (by omega) (by omega) (fun j h1 h2 h3 => by
            by_cases e : j = k
            · subst e
              first
                | exact c_23 h3.1
                | exact c_41 h3.2
            · exact hp j h1 (by omega) h3) rfl
        · skip
          refine r_iload_3 C dX5_strapOf_44 ?_
          refine r_ireturn C E dX5_strapOf_45 ?_
          refine ⟨_, rfl, ?_, rfl⟩
          rw [ffi_some _ k hk0 (by omega) (by simp only [decide_eq_true_eq]; exact ⟨c_23, c_41⟩) (fun j h1 h2 => by simp only [decide_eq_false_iff_not]; exact hp j h1 h2)]
  refine r_iconst C dX5_strapOf_0 ?_
  refine r_istore_3 C dX5_strapOf_1 ?_
  exact key _ 0 (by omega) (by omega) (fun j h1 h2 => by omega) rfl
theorem c_X5_comesTo (hG : Gok g) {s c r : Int} (hg : GW c r) (he : Ends c r m_endOf) (hs : m_strapMany = sN c r) (hw : ∀ k, 0 ≤ k → k < 12 → inR (m_world (28 + k))) (hs0 : 0 ≤ s) (hs1 : s < 512) : XMet g yX5_comesTo cX5_comesTo 7 (some .int) 1 0 0 [.ref (ρ 0), .int (jI s)] (wM g ρ m_thrown m_world m_fresh m_waysBack m_acts m_images m_hasImage m_endOf m_strapMany m_tape m_taped m_five m_size m_at m_from m_token m_value m_faultKind m_faultPlace m_budgetsTold m_loadsTold m_deadSet m_unknownOf m_nodeOf m_unknowns m_cells m_whole m_ordered m_drawnBy m_left m_aside m_bestDead m_bestAbove m_bestBelow m_widened m_widenedMany m_fewOf m_drawing ++ ex) (pI (fun z w => z = rch c r (fun k => m_world (28 + k)) s ∧ w = (wM g ρ m_thrown m_world m_fresh m_waysBack m_acts m_images m_hasImage m_endOf m_strapMany m_tape m_taped m_five m_size m_at m_from m_token m_value m_faultKind m_faultPlace m_budgetsTold m_loadsTold m_deadSet m_unknownOf m_nodeOf m_unknowns m_cells m_whole m_ordered m_drawnBy m_left m_aside m_bestDead m_bestAbove m_bestBelow m_widened m_widenedMany m_fewOf m_drawing ++ ex))) := by
  refine XMet.of (L := [some (.ref (ρ 0)), some (.int (jI s)), none, none, none, none, none]) hG (by decide +kernel) (Nat.le_of_ble_eq_true rfl) rfl (fun K C E => ?_)
  have h12 := sN_12 hg
  have h00 := sN_0 (c := c) (r := r)
  have h9 := hg.2.2
  subst hs
  generalize hwd : (fun k => m_world (28 + k)) = wd
  have hwd' : ∀ k, m_world (28 + k) = wd k := fun k => by rw [← hwd]
  have key : ∀ (mm : Nat), ∀ (al mo : Int) (l4 l5 l6 : Option Value), (0 ≤ al) → (al < 512) → (rch c r wd al = rch c r wd s) → (mo = 0 ∨ mo = 1) → (mo = 0 → rps c r wd al = al) → (lo_n2 (some l4) = true) → (lo_n2 (some l5) = true) → (2 * (512 - al) + mo).toNat = mm → AW g K (wM g ρ m_thrown m_world m_fresh m_waysBack m_acts m_images m_hasImage m_endOf (sN c r) m_tape m_taped m_five m_size m_at m_from m_token m_value m_faultKind m_faultPlace m_budgetsTold m_loadsTold m_deadSet m_unknownOf m_nodeOf m_unknowns m_cells m_whole m_ordered m_drawnBy m_left m_aside m_bestDead m_bestAbove m_bestBelow m_widened m_widenedMany m_fewOf m_drawing ++ ex) 0 0 4 [some (.ref (ρ 0)), some (.int (jI s)), some (.int (jI al)), some (.int (jI mo)), l4, l5, l6] [] := by
    intro mm
    induction mm using Nat.strongRecOn with
    | _ mm ih =>
    intro al mo l4 l5 l6 ha0 ha1 hr hmo hfx hn4 hn5 hm
    have key2 : mo = 1 → ∀ (mm2 : Nat) (k a2 m2 : Int) (l5 l6 : Option Value), 0 ≤ k → k ≤ sN c r → a2 = foI (rst c r wd) al k → al ≤ a2 ∧ a2 < 512 → (m2 = 0 ∧ a2 = al) ∨ (m2 = 1 ∧ al < a2) → lo_n2 (some l5) = true → (sN c r - k).toNat = mm2 → AW g K (wM g ρ m_thrown m_world m_fresh m_waysBack m_acts m_images m_hasImage m_endOf (sN c r) m_tape m_taped m_five m_size m_at m_from m_token m_value m_faultKind m_faultPlace m_budgetsTold m_loadsTold m_deadSet m_unknownOf m_nodeOf m_unknowns m_cells m_whole m_ordered m_drawnBy m_left m_aside m_bestDead m_bestAbove m_bestBelow m_widened m_widenedMany m_fewOf m_drawing ++ ex) 0 0 13 [some (.ref (ρ 0)), some (.int (jI s)), some (.int (jI a2)), some (.int (jI m2)), some (.int (jI k)), l5, l6] [] := by
      intro hmo1 mm2
      induction mm2 using Nat.strongRecOn with
      | _ mm2 ih2 =>
      intro k a2 m2 l5 l6 hk0 hk ea hb hm2 hn5 hm3
      refine r_iload_4 C dX5_comesTo_13 ?_
      refine r_aload_0 C dX5_comesTo_15 ?_
      refine gM_strapMany C q1393 dX5_comesTo_16 ?_
      refine r_if_icmpge (tgt := 113) C dX5_comesTo_19 (by decide) (fun c_19 => ?_) (fun c_19 => ?_)
      · skip
        have e : k = sN c r := by omega
        have ea' : a2 = rps c r wd al := by rw [ea, e]; rfl
        refine r_goto (tgt := 4) C dX5_comesTo_113 (by decide) ?_
        exact ih _ (by omega) a2 m2 _ _ _ (by omega) (by omega) (by rw [ea', rch_step hg ha0 ha1, hr]) (by omega) (fun h => by rw [show a2 = al by omega, ← ea']; omega) rfl hn5 rfl
      · skip
        refine r_iload_2 C dX5_comesTo_22 ?_
        refine r_aload_0 C dX5_comesTo_23 ?_
        refine gM_endOf C q1392 dX5_comesTo_24 ?_
        refine r_iconst C dX5_comesTo_27 ?_
        refine r_iload_4 C dX5_comesTo_28 ?_
        refine r_imul C dX5_comesTo_30 ?_
        refine ldM_endOf C dX5_comesTo_31 ?_
        have q := sl_in hg hk0 c_19
        have qe := he k hk0 c_19
        refine r_topi (sF c r k) qe.1 ?_
        refine r_cS2i C (c_X5_isOf hG (by omega) (by omega)) q1606 pkX5_isOf dX5_comesTo_32 (fun z w h => ?_)
        obtain ⟨rfl, rfl⟩ := h
        refine r_istore_5 C dX5_comesTo_35 ?_
        refine r_iload_2 C dX5_comesTo_37 ?_
        refine r_aload_0 C dX5_comesTo_38 ?_
        refine gM_endOf C q1392 dX5_comesTo_39 ?_
        refine r_iconst C dX5_comesTo_42 ?_
        refine r_iload_4 C dX5_comesTo_43 ?_
        refine r_imul C dX5_comesTo_45 ?_
        refine r_iconst C dX5_comesTo_46 ?_
        refine r_iadd C dX5_comesTo_47 ?_
        refine ldM_endOf C dX5_comesTo_48 ?_
        refine r_topi (sT c r k) qe.2 ?_
        refine r_cS2i C (c_X5_isOf hG (by omega) (by omega)) q1606 pkX5_isOf dX5_comesTo_49 (fun z w h => ?_)
        obtain ⟨rfl, rfl⟩ := h
        refine r_istore_6 C dX5_comesTo_52 ?_
        refine r_aload_0 C dX5_comesTo_54 ?_
        refine gM_world C q1386 dX5_comesTo_55 ?_
        refine r_bipush C dX5_comesTo_58 ?_
        refine r_iload_4 C dX5_comesTo_60 ?_
        refine r_iadd C dX5_comesTo_62 ?_
        refine ldM_world C dX5_comesTo_63 ?_
        refine r_topi (wd k) (hwd' k) ?_
        refine r_ifeq (tgt := 107) C dX5_comesTo_64 (by decide) (fun c_64 => ?_) (fun c_64 => ?_) (by rw [← hwd' k]; exact hw k hk0 (by omega))
        · skip
          have hst : rst c r wd k a2 = a2 := by
            unfold rst
            first
              | rw [if_pos (Or.inl c_64)]
              | (rw [if_pos (Or.inr ?_)]
                 cases h1 : bsB a2 (sF c r k) <;> cases h2 : bsB a2 (sT c r k) <;> simp_all)
          refine r_iinc_4 C dX5_comesTo_107 ?_
          refine r_goto (tgt := 13) C dX5_comesTo_110 (by decide) ?_
          exact ih2 _ (show (sN c r - (k + 1)).toNat < mm2 by omega) (k + 1) a2 m2 _ _ (by omega) (by omega) (by rw [foI_s _ _ hk0, ← ea, hst]) hb hm2 rfl rfl
        · skip
          refine r_iload_5 C dX5_comesTo_67 ?_
          refine r_iload_6 C dX5_comesTo_69 ?_
          refine r_if_icmpne (tgt := 77) C dX5_comesTo_71 (by decide) (fun c_71 => ?_) (fun c_71 => ?_) (by unfold inR; split <;> omega) (by unfold inR; split <;> omega)
          · skip
            have hne : bsB a2 (sF c r k) ≠ bsB a2 (sT c r k) := fun z => c_71 (by rw [z])
            have hgt := rst_gt hg hk0 c_19 (show 0 ≤ a2 by omega) c_64 hne
            have hst : rst c r wd k a2 = bsO a2 (bsO (bsP (sF c r k)) (bsP (sT c r k))) := by
              unfold rst
              rw [if_neg (fun z => z.elim c_64 hne)]
            have hin := rst_in (wd := wd) hg hk0 c_19 (show 0 ≤ a2 by omega) hb.2
            rw [hst] at hin
            refine r_iload_2 C dX5_comesTo_77 ?_
            refine r_iconst C dX5_comesTo_78 ?_
            refine r_aload_0 C dX5_comesTo_79 ?_
            refine gM_endOf C q1392 dX5_comesTo_80 ?_
            refine r_iconst C dX5_comesTo_83 ?_
            refine r_iload_4 C dX5_comesTo_84 ?_
            refine r_imul C dX5_comesTo_86 ?_
            refine ldM_endOf C dX5_comesTo_87 ?_
            refine r_topi (sF c r k) qe.1 ?_
            refine r_ishl C (_) dX5_comesTo_88 (jI_shl (by omega) (by omega)) ?_
            refine r_iconst C dX5_comesTo_89 ?_
            refine r_aload_0 C dX5_comesTo_90 ?_
            refine gM_endOf C q1392 dX5_comesTo_91 ?_
            refine r_iconst C dX5_comesTo_94 ?_
            refine r_iload_4 C dX5_comesTo_95 ?_
            refine r_imul C dX5_comesTo_97 ?_
            refine r_iconst C dX5_comesTo_98 ?_
            refine r_iadd C dX5_comesTo_99 ?_
            refine ldM_endOf C dX5_comesTo_100 ?_
            refine r_topi (sT c r k) qe.2 ?_
            refine r_ishl C (_) dX5_comesTo_101 (jI_shl (by omega) (by omega)) ?_
            refine r_ior C (_) dX5_comesTo_102 (jI_or (Int.le_of_lt bsP_0) (Int.le_of_lt bsP_0)) ?_
            refine r_ior C (_) dX5_comesTo_103 (jI_or (by omega) bsO_0) ?_
            refine r_istore_2 C dX5_comesTo_104 ?_
            refine r_iconst C dX5_comesTo_105 ?_
            refine r_istore_3 C dX5_comesTo_106 ?_
            refine r_iinc_4 C dX5_comesTo_107 ?_
            refine r_goto (tgt := 13) C dX5_comesTo_110 (by decide) ?_
            exact ih2 _ (show (sN c r - (k + 1)).toNat < mm2 by omega) (k + 1) _ 1 _ _ (by omega) (by omega) (by rw [foI_s _ _ hk0, ← ea, hst]) (by omega) (by omega) rfl rfl
          · skip
            refine r_goto (tgt := 107) C dX5_comesTo_74 (by decide) ?_
            have hst : rst c r wd k a2 = a2 := by
              unfold rst
              first
                | rw [if_pos (Or.inl c_64)]
                | (rw [if_pos (Or.inr ?_)]
                   cases h1 : bsB a2 (sF c r k) <;> cases h2 : bsB a2 (sT c r k) <;> simp_all)
            refine r_iinc_4 C dX5_comesTo_107 ?_
            refine r_goto (tgt := 13) C dX5_comesTo_110 (by decide) ?_
            exact ih2 _ (show (sN c r - (k + 1)).toNat < mm2 by omega) (k + 1) a2 m2 _ _ (by omega) (by omega) (by rw [foI_s _ _ hk0, ← ea, hst]) hb hm2 rfl rfl
    refine r_iload_3 C dX5_comesTo_4 ?_
    refine r_ifeq (tgt := 116) C dX5_comesTo_5 (by decide) (fun c_5 => ?_) (fun c_5 => ?_)
    · skip
      refine r_iload_2 C dX5_comesTo_116 ?_
      refine r_ireturn C E dX5_comesTo_117 ?_
      refine ⟨_, rfl, ?_, rfl⟩
      rw [hwd, ← hr, rch_done (hfx c_5)]
    · skip
      refine r_iconst C dX5_comesTo_8 ?_
      refine r_istore_3 C dX5_comesTo_9 ?_
      refine r_iconst C dX5_comesTo_10 ?_
      refine r_istore_4 C dX5_comesTo_11 ?_
      exact key2 (by omega) _ 0 al 0 _ _ (by omega) (by omega) rfl (by omega) (Or.inl ⟨rfl, rfl⟩) hn5 rfl
  refine r_iload_1 C dX5_comesTo_0 ?_
  refine r_istore_2 C dX5_comesTo_1 ?_
  refine r_iconst C dX5_comesTo_2 ?_
  refine r_istore_3 C dX5_comesTo_3 ?_
  exact key _ s 1 _ _ _ hs0 hs1 rfl (Or.inr rfl) (fun h => by omega) rfl rfl rfl
end M4

