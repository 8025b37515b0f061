section M3
variable {g : GX} {ρ : Nat → Nat} {ex : va_W}
variable {m_thrown : Int} {m_world : Int → Int} {m_fresh : Int → Int} {m_waysBack : Int → Int} {m_acts : Int} {m_images : Int → Int} {m_hasImage : Int → Int} {m_endOf : Int → Int} {m_strapMany : Int} {m_tape : Int → Int} {m_taped : Int} {m_five : Int → Int} {m_size : Int} {m_at : Int} {m_from : Int} {m_token : Int} {m_value : Int} {m_faultKind : Int} {m_faultPlace : Int} {m_budgetsTold : Int} {m_loadsTold : Int} {m_deadSet : Int} {m_unknownOf : Int → Int} {m_nodeOf : Int → Int} {m_unknowns : Int} {m_cells : Int → Int} {m_whole : Int} {m_ordered : Int → Int} {m_drawnBy : Int → Int} {m_left : Int → Int} {m_aside : Int → Int} {m_bestDead : Int} {m_bestAbove : Int} {m_bestBelow : Int} {m_widened : Int → Int} {m_widenedMany : Int} {m_fewOf : Int → Int} {m_drawing : Int}
theorem c_X5_laysStraps (hG : Gok g) {c r : Int} (hg : GW c r) : XMet g yX5_laysStraps cX5_laysStraps 4 none 1 0 0 [.ref (ρ 0), .int (jI c), .int (jI r)] (wM g ρ m_thrown m_world m_fresh m_waysBack m_acts m_images m_hasImage m_endOf m_strapMany m_tape m_taped m_five m_size m_at m_from m_token m_value m_faultKind m_faultPlace m_budgetsTold m_loadsTold m_deadSet m_unknownOf m_nodeOf m_unknowns m_cells m_whole m_ordered m_drawnBy m_left m_aside m_bestDead m_bestAbove m_bestBelow m_widened m_widenedMany m_fewOf m_drawing ++ ex) (pV (fun w => ∃ e, Ends c r e ∧ w = (wM g ρ m_thrown m_world m_fresh m_waysBack m_acts m_images m_hasImage (e) (sN c r) m_tape m_taped m_five m_size m_at m_from m_token m_value m_faultKind m_faultPlace m_budgetsTold m_loadsTold m_deadSet m_unknownOf m_nodeOf m_unknowns m_cells m_whole m_ordered m_drawnBy m_left m_aside m_bestDead m_bestAbove m_bestBelow m_widened m_widenedMany m_fewOf m_drawing ++ ex))) := by
  refine XMet.of (L := [some (.ref (ρ 0)), some (.int (jI c)), some (.int (jI r)), none]) hG (by decide +kernel) (Nat.le_of_ble_eq_true rfl) rfl (fun K C E => ?_)
  have h9 := hg.c9
  have hn1 := hg.n1
  obtain ⟨hc1, hr1, hcr⟩ := hg
  have hg : GW c r := ⟨hc1, hr1, hcr⟩
  have key : ∀ (mm : Nat), ∀ (v s : Int) (e : Int → Int), (0 ≤ v) → (v ≤ c * r) → (s = ((stl c r v.toNat).length : Int)) → (EL (stl c r v.toNat) e) → (c * r - v).toNat = mm → AW g K (wM g ρ m_thrown m_world m_fresh m_waysBack m_acts m_images m_hasImage (e) (s) m_tape m_taped m_five m_size m_at m_from m_token m_value m_faultKind m_faultPlace m_budgetsTold m_loadsTold m_deadSet m_unknownOf m_nodeOf m_unknowns m_cells m_whole m_ordered m_drawnBy m_left m_aside m_bestDead m_bestAbove m_bestBelow m_widened m_widenedMany m_fewOf m_drawing ++ ex) 0 0 7 [some (.ref (ρ 0)), some (.int (jI c)), some (.int (jI r)), some (.int (jI v))] [] := by
    intro mm
    induction mm using Nat.strongRecOn with
    | _ mm ih =>
    intro v s e hv0 hv hs he hm
    have q1 := Int.emod_nonneg v (show c ≠ 0 by omega)
    have q2 := Int.emod_lt_of_pos v (show 0 < c by omega)
    have q3 := Int.ediv_nonneg hv0 (show 0 ≤ c by omega)
    have q4 := Int.ediv_le_self c hv0
    have hlen : v < c * r → (stl c r v.toNat).length + (stp c r v).length ≤ 12 := by
      intro hlt
      have := stl_len hg (n := (v + 1).toNat) (by omega)
      rw [stl_s hv0, List.length_append] at this
      exact this
    refine r_iload_3 C dX5_laysStraps_7 ?_
    refine r_iload_1 C dX5_laysStraps_8 ?_
    refine r_iload_2 C dX5_laysStraps_9 ?_
    refine r_imul C dX5_laysStraps_10 ?_
    refine r_if_icmpge (tgt := 54) C dX5_laysStraps_11 (by decide) (fun c_11 => ?_) (fun c_11 => ?_)
    · skip
      refine r_return C E dX5_laysStraps_54 ?_
      have e1 : v = c * r := by omega
      subst e1
      exact ⟨rfl, e, EL.ends he, by rw [hs]; rfl⟩
    · skip
      refine r_iload_3 C dX5_laysStraps_14 ?_
      refine r_iload_1 C dX5_laysStraps_15 ?_
      refine r_irem C dX5_laysStraps_16 ?_
      refine r_topi (v % c) (pl_tmod hv0) ?_
      refine r_iload_1 C dX5_laysStraps_17 ?_
      refine r_iconst C dX5_laysStraps_18 ?_
      refine r_isub C dX5_laysStraps_19 ?_
      refine r_if_icmpge (tgt := 31) C dX5_laysStraps_20 (by decide) (fun c_20 => ?_) (fun c_20 => ?_)
      · skip
        refine r_iload_3 C dX5_laysStraps_31 ?_
        refine r_iload_1 C dX5_laysStraps_32 ?_
        refine r_idiv C dX5_laysStraps_33 ?_
        refine r_topi (v / c) (pl_tdiv hv0) ?_
        refine r_iload_2 C dX5_laysStraps_34 ?_
        refine r_iconst C dX5_laysStraps_35 ?_
        refine r_isub C dX5_laysStraps_36 ?_
        refine r_if_icmpge (tgt := 48) C dX5_laysStraps_37 (by decide) (fun c_37 => ?_) (fun c_37 => ?_)
        · skip
          refine r_iinc_3 C dX5_laysStraps_48 ?_
          refine r_goto (tgt := 7) C dX5_laysStraps_51 (by decide) ?_
          refine ih _ (show (c * r - (v + 1)).toNat < mm by omega) (v + 1) _ _ (by omega) (by omega) ?_ ?_ rfl
          · rw [stl_s hv0]
            unfold stp
            first
              | (rw [if_pos (by omega), if_pos (by omega)]; simp; omega)
              | (rw [if_pos (by omega), if_neg (by omega)]; simp; omega)
              | (rw [if_neg (by omega), if_pos (by omega)]; simp; omega)
              | (rw [if_neg (by omega), if_neg (by omega)]; simp; omega)
          · rw [stl_s hv0]
            unfold stp
            first
              | (rw [if_pos (by omega), if_pos (by omega), ← List.append_assoc]; exact (he.app hs).app (by rw [List.length_append, List.length_singleton]; omega))
              | (rw [if_pos (by omega), if_neg (by omega), List.append_nil]; exact he.app hs)
              | (rw [if_neg (by omega), if_pos (by omega), List.nil_append]; exact he.app hs)
              | (rw [if_neg (by omega), if_neg (by omega), List.append_nil, List.append_nil]; exact he)
        · skip
          refine r_aload_0 C dX5_laysStraps_40 ?_
          refine r_iload_3 C dX5_laysStraps_41 ?_
          refine r_iload_3 C dX5_laysStraps_42 ?_
          refine r_iload_1 C dX5_laysStraps_43 ?_
          refine r_iadd C dX5_laysStraps_44 ?_
          refine r_cV2v C (c_X5_addsStrap hG ⟨by omega, by have := hlen c_11; unfold stp at this; rw [if_pos c_37, List.length_append, List.length_singleton] at this; (first | rw [if_pos (by omega)] at this | rw [if_neg (by omega)] at this); simp only [List.length_singleton, List.length_nil] at this; omega⟩) (q0 := 0) rfl rfl q1588 pkX5_addsStrap dX5_laysStraps_45 (fun w h => ?_)
          subst h
          refine r_iinc_3 C dX5_laysStraps_48 ?_
          refine r_goto (tgt := 7) C dX5_laysStraps_51 (by decide) ?_
          refine ih _ (show (c * r - (v + 1)).toNat < mm by omega) (v + 1) _ _ (by omega) (by omega) ?_ ?_ rfl
          · rw [stl_s hv0]
            unfold stp
            first
              | (rw [if_pos (by omega), if_pos (by omega)]; simp; omega)
              | (rw [if_pos (by omega), if_neg (by omega)]; simp; omega)
              | (rw [if_neg (by omega), if_pos (by omega)]; simp; omega)
              | (rw [if_neg (by omega), if_neg (by omega)]; simp; omega)
          · rw [stl_s hv0]
            unfold stp
            first
              | (rw [if_pos (by omega), if_pos (by omega), ← List.append_assoc]; exact (he.app hs).app (by rw [List.length_append, List.length_singleton]; omega))
              | (rw [if_pos (by omega), if_neg (by omega), List.append_nil]; exact he.app hs)
              | (rw [if_neg (by omega), if_pos (by omega), List.nil_append]; exact he.app hs)
              | (rw [if_neg (by omega), if_neg (by omega), List.append_nil, List.append_nil]; exact he)
      · skip
        refine r_aload_0 C dX5_laysStraps_23 ?_
        refine r_iload_3 C dX5_laysStraps_24 ?_
        refine r_iload_3 C dX5_laysStraps_25 ?_
        refine r_iconst C dX5_laysStraps_26 ?_
        refine r_iadd C dX5_laysStraps_27 ?_
        refine r_cV2v C (c_X5_addsStrap hG ⟨by omega, by have := hlen c_11; unfold stp at this; rw [if_pos c_20, List.length_append, List.length_singleton] at this; omega⟩) (q0 := 0) rfl rfl q1588 pkX5_addsStrap dX5_laysStraps_28 (fun w h => ?_)
        subst h
        refine r_iload_3 C dX5_laysStraps_31 ?_
        refine r_iload_1 C dX5_laysStraps_32 ?_
        refine r_idiv C dX5_laysStraps_33 ?_
        refine r_topi (v / c) (pl_tdiv hv0) ?_
        refine r_iload_2 C dX5_laysStraps_34 ?_
        refine r_iconst C dX5_laysStraps_35 ?_
        refine r_isub C dX5_laysStraps_36 ?_
        refine r_if_icmpge (tgt := 48) C dX5_laysStraps_37 (by decide) (fun c_37 => ?_) (fun c_37 => ?_)
        · skip
          refine r_iinc_3 C dX5_laysStraps_48 ?_
          refine r_goto (tgt := 7) C dX5_laysStraps_51 (by decide) ?_
          refine ih _ (show (c * r - (v + 1)).toNat < mm by omega) (v + 1) _ _ (by omega) (by omega) ?_ ?_ rfl
          · rw [stl_s hv0]
            unfold stp
            first
              | (rw [if_pos (by omega), if_pos (by omega)]; simp; omega)
              | (rw [if_pos (by omega), if_neg (by omega)]; simp; omega)
              | (rw [if_neg (by omega), if_pos (by omega)]; simp; omega)
              | (rw [if_neg (by omega), if_neg (by omega)]; simp; omega)
          · rw [stl_s hv0]
            unfold stp
            first
              | (rw [if_pos (by omega), if_pos (by omega), ← List.append_assoc]; exact (he.app hs).app (by rw [List.length_append, List.length_singleton]; omega))
              | (rw [if_pos (by omega), if_neg (by omega), List.append_nil]; exact he.app hs)
              | (rw [if_neg (by omega), if_pos (by omega), List.nil_append]; exact he.app hs)
              | (rw [if_neg (by omega), if_neg (by omega), List.append_nil, List.append_nil]; exact he)
        · skip
          refine r_aload_0 C dX5_laysStraps_40 ?_
          refine r_iload_3 C dX5_laysStraps_41 ?_
          refine r_iload_3 C dX5_laysStraps_42 ?_
          refine r_iload_1 C dX5_laysStraps_43 ?_
          refine r_iadd C dX5_laysStraps_44 ?_
          refine r_cV2v C (c_X5_addsStrap hG ⟨by omega, by have := hlen c_11; unfold stp at this; rw [if_pos c_37, List.length_append, List.length_singleton] at this; (first | rw [if_pos (by omega)] at this | rw [if_neg (by omega)] at this); simp only [List.length_singleton, List.length_nil] at this; omega⟩) (q0 := 0) rfl rfl q1588 pkX5_addsStrap dX5_laysStraps_45 (fun w h => ?_)
          subst h
          refine r_iinc_3 C dX5_laysStraps_48 ?_
          refine r_goto (tgt := 7) C dX5_laysStraps_51 (by decide) ?_
          refine ih _ (show (c * r - (v + 1)).toNat < mm by omega) (v + 1) _ _ (by omega) (by omega) ?_ ?_ rfl
          · rw [stl_s hv0]
            unfold stp
            first
              | (rw [if_pos (by omega), if_pos (by omega)]; simp; omega)
              | (rw [if_pos (by omega), if_neg (by omega)]; simp; omega)
              | (rw [if_neg (by omega), if_pos (by omega)]; simp; omega)
              | (rw [if_neg (by omega), if_neg (by omega)]; simp; omega)
          · rw [stl_s hv0]
            unfold stp
            first
              | (rw [if_pos (by omega), if_pos (by omega), ← List.append_assoc]; exact (he.app hs).app (by rw [List.length_append, List.length_singleton]; omega))
              | (rw [if_pos (by omega), if_neg (by omega), List.append_nil]; exact he.app hs)
              | (rw [if_neg (by omega), if_pos (by omega), List.nil_append]; exact he.app hs)
              | (rw [if_neg (by omega), if_neg (by omega), List.append_nil, List.append_nil]; exact he)
  refine r_aload_0 C dX5_laysStraps_0 ?_
  refine r_iconst C dX5_laysStraps_1 ?_
  refine pM_strapMany C q1393 dX5_laysStraps_2 ?_
  refine r_iconst C dX5_laysStraps_5 ?_
  refine r_istore_3 C dX5_laysStraps_6 ?_
  exact key _ 0 0 m_endOf (by omega) (by omega) rfl (fun k q h => by simp [stl] at h) rfl
end M3

