section M16
variable {g : GX} {ρ : Nat → Nat} {ex : va_W}
variable {m_thrown : Int} {m_world : Int → Int} {m_fresh : Int → Int} {m_waysBack : Int → Int} {m_acts : Int} {m_images : Int → Int} {m_hasImage : Int → Int} {m_endOf : Int → Int} {m_strapMany : Int} {m_tape : Int → Int} {m_taped : Int} {m_five : Int → Int} {m_size : Int} {m_at : Int} {m_from : Int} {m_token : Int} {m_value : Int} {m_faultKind : Int} {m_faultPlace : Int} {m_budgetsTold : Int} {m_loadsTold : Int} {m_deadSet : Int} {m_unknownOf : Int → Int} {m_nodeOf : Int → Int} {m_unknowns : Int} {m_cells : Int → Int} {m_whole : Int} {m_ordered : Int → Int} {m_drawnBy : Int → Int} {m_left : Int → Int} {m_aside : Int → Int} {m_bestDead : Int} {m_bestAbove : Int} {m_bestBelow : Int} {m_widened : Int → Int} {m_widenedMany : Int} {m_fewOf : Int → Int} {m_drawing : Int}
theorem c_X5_isAhead (hG : Gok g) {nd a b : Int} (hd : Gd m_world) (hS : SolW m_world m_unknownOf m_nodeOf m_cells) (hnd : 0 ≤ nd ∧ nd < wN m_world) (ha : 0 ≤ a ∧ a < wN m_world) (hb : 0 ≤ b ∧ b < wN m_world) : XMet g yX5_isAhead cX5_isAhead 4 (some .boolean) 1 0 0 [.ref (ρ 0), .int (jI nd), .int (jI a), .int (jI b)] (wM g ρ m_thrown m_world m_fresh m_waysBack m_acts m_images m_hasImage m_endOf m_strapMany m_tape m_taped m_five m_size m_at m_from m_token m_value m_faultKind m_faultPlace m_budgetsTold m_loadsTold m_deadSet m_unknownOf m_nodeOf m_unknowns m_cells m_whole m_ordered m_drawnBy m_left m_aside m_bestDead m_bestAbove m_bestBelow m_widened m_widenedMany m_fewOf m_drawing ++ ex) (pI (fun z w => z = (if ahB m_world nd a b = true then 1 else 0) ∧ w = (wM g ρ m_thrown m_world m_fresh m_waysBack m_acts m_images m_hasImage m_endOf m_strapMany m_tape m_taped m_five m_size m_at m_from m_token m_value m_faultKind m_faultPlace m_budgetsTold m_loadsTold m_deadSet m_unknownOf m_nodeOf m_unknowns m_cells m_whole m_ordered m_drawnBy m_left m_aside m_bestDead m_bestAbove m_bestBelow m_widened m_widenedMany m_fewOf m_drawing ++ ex))) := by
  refine XMet.of (L := [some (.ref (ρ 0)), some (.int (jI nd)), some (.int (jI a)), some (.int (jI b))]) hG (by decide +kernel) (Nat.le_of_ble_eq_true rfl) rfl (fun K C E => ?_)
  have hn := hd.n
  have hma := hd.mov hnd.1 hnd.2 ha.1 ha.2
  have hmb := hd.mov hnd.1 hnd.2 hb.1 hb.2
  refine r_aload_0 C dX5_isAhead_0 ?_
  refine r_iload_1 C dX5_isAhead_1 ?_
  refine r_iload_2 C dX5_isAhead_2 ?_
  refine r_cV2l C (c_X5_movesOf hG hd hS hnd ha) (q0 := 0) rfl rfl q1715 pkX5_movesOf dX5_isAhead_3 (fun z w h => ?_)
  obtain ⟨rfl, rfl⟩ := h
  refine r_aload_0 C dX5_isAhead_6 ?_
  refine r_iload_1 C dX5_isAhead_7 ?_
  refine r_iload_3 C dX5_isAhead_8 ?_
  refine r_cV2l C (c_X5_movesOf hG hd hS hnd hb) (q0 := 0) rfl rfl q1715 pkX5_movesOf dX5_isAhead_9 (fun z w h => ?_)
  obtain ⟨rfl, rfl⟩ := h
  refine r_lcmp_ifeq (tgt := 40) C dX5_isAhead_12 dX5_isAhead_13 (by decide) (fun c_12 => ?_) (fun c_12 => ?_)
  · skip
    refine r_iload_2 C dX5_isAhead_40 ?_
    refine r_iload_3 C dX5_isAhead_41 ?_
    refine r_if_icmpge (tgt := 49) C dX5_isAhead_42 (by decide) (fun c_42 => ?_) (fun c_42 => ?_)
    · skip
      refine r_iconst C dX5_isAhead_49 ?_
      refine r_zreturn C E dX5_isAhead_50 (by first | exact Or.inl rfl | exact Or.inr rfl | omega) ?_
      refine ⟨_, rfl, ?_, rfl⟩
      first
        | rw [if_pos (ahB_iff.mpr (by omega))]
        | rw [if_neg (fun q => by have := ahB_iff.mp q; omega)]
    · skip
      refine r_iconst C dX5_isAhead_45 ?_
      refine r_goto (tgt := 50) C dX5_isAhead_46 (by decide) ?_
      refine r_zreturn C E dX5_isAhead_50 (by first | exact Or.inl rfl | exact Or.inr rfl | omega) ?_
      refine ⟨_, rfl, ?_, rfl⟩
      first
        | rw [if_pos (ahB_iff.mpr (by omega))]
        | rw [if_neg (fun q => by have := ahB_iff.mp q; omega)]
  · skip
    refine r_aload_0 C dX5_isAhead_16 ?_
    refine r_iload_1 C dX5_isAhead_17 ?_
    refine r_iload_2 C dX5_isAhead_18 ?_
    refine r_cV2l C (c_X5_movesOf hG hd hS hnd ha) (q0 := 0) rfl rfl q1715 pkX5_movesOf dX5_isAhead_19 (fun z w h => ?_)
    obtain ⟨rfl, rfl⟩ := h
    refine r_aload_0 C dX5_isAhead_22 ?_
    refine r_iload_1 C dX5_isAhead_23 ?_
    refine r_iload_3 C dX5_isAhead_24 ?_
    refine r_cV2l C (c_X5_movesOf hG hd hS hnd hb) (q0 := 0) rfl rfl q1715 pkX5_movesOf dX5_isAhead_25 (fun z w h => ?_)
    obtain ⟨rfl, rfl⟩ := h
    refine r_lcmp_ifle (tgt := 36) C dX5_isAhead_28 dX5_isAhead_29 (by decide) (fun c_28 => ?_) (fun c_28 => ?_)
    · skip
      refine r_iconst C dX5_isAhead_36 ?_
      refine r_goto (tgt := 50) C dX5_isAhead_37 (by decide) ?_
      refine r_zreturn C E dX5_isAhead_50 (by first | exact Or.inl rfl | exact Or.inr rfl | omega) ?_
      refine ⟨_, rfl, ?_, rfl⟩
      first
        | rw [if_pos (ahB_iff.mpr (by omega))]
        | rw [if_neg (fun q => by have := ahB_iff.mp q; omega)]
    · skip
      refine r_iconst C dX5_isAhead_32 ?_
      refine r_goto (tgt := 50) C dX5_isAhead_33 (by decide) ?_
      refine r_zreturn C E dX5_isAhead_50 (by first | exact Or.inl rfl | exact Or.inr rfl | omega) ?_
      refine ⟨_, rfl, ?_, rfl⟩
      first
        | rw [if_pos (ahB_iff.mpr (by omega))]
        | rw [if_neg (fun q => by have := ahB_iff.mp q; omega)]
theorem c_X5_draws (hG : Gok g) {nd : Int} (hd : Gd m_world) (hS : SolW m_world m_unknownOf m_nodeOf m_cells) (hD : m_deadSet = wDead m_world) (hnd : 0 ≤ nd ∧ nd < wN m_world) : XMet g yX5_draws cX5_draws 7 none 2 0 0 [.ref (ρ 0), .int (jI nd)] (wM g ρ m_thrown m_world m_fresh m_waysBack m_acts m_images m_hasImage m_endOf m_strapMany m_tape m_taped m_five m_size m_at m_from m_token m_value m_faultKind m_faultPlace m_budgetsTold m_loadsTold m_deadSet m_unknownOf m_nodeOf m_unknowns m_cells m_whole m_ordered m_drawnBy m_left m_aside m_bestDead m_bestAbove m_bestBelow m_widened m_widenedMany m_fewOf m_drawing ++ ex) (pV (fun w => ∃ o db lf, (∀ g, 0 ≤ g → g < 4 → lf g = (wDw m_world nd).1 g) ∧ (∀ v, 0 ≤ v → v < wN m_world → db v = (wDw m_world nd).2 v) ∧ w = (wM g ρ m_thrown m_world m_fresh m_waysBack m_acts m_images m_hasImage m_endOf m_strapMany m_tape m_taped m_five m_size m_at m_from m_token m_value m_faultKind m_faultPlace m_budgetsTold m_loadsTold m_deadSet m_unknownOf m_nodeOf m_unknowns m_cells m_whole (o) (db) (lf) m_aside m_bestDead m_bestAbove m_bestBelow m_widened m_widenedMany m_fewOf m_drawing ++ ex))) := by
  refine XMet.of (L := [some (.ref (ρ 0)), some (.int (jI nd)), none, none, none, none, none]) hG (by decide +kernel) (Nat.le_of_ble_eq_true rfl) rfl (fun K C E => ?_)
  have hn := hd.n
  subst hD
  have key3 : ∀ (mm : Nat), ∀ (k c : Int) (o db lf : Int → Int) (l4 l5 l6 : Option Value), (0 ≤ k) → (k ≤ c) → (OrdF m_world nd o (wN m_world) c) → (DrEq m_world (lf, db) (drF m_world o k)) → (DrOk m_world (drF m_world o k)) → (c - k).toNat = mm → AW g K (wM g ρ m_thrown m_world m_fresh m_waysBack m_acts m_images m_hasImage m_endOf m_strapMany m_tape m_taped m_five m_size m_at m_from m_token m_value m_faultKind m_faultPlace m_budgetsTold m_loadsTold (wDead m_world) m_unknownOf m_nodeOf m_unknowns m_cells m_whole (o) (db) (lf) m_aside m_bestDead m_bestAbove m_bestBelow m_widened m_widenedMany m_fewOf m_drawing ++ ex) 0 0 125 [some (.ref (ρ 0)), some (.int (jI nd)), some (.int (jI c)), some (.int (jI k)), l4, l5, l6] [] := by
    intro mm
    induction mm using Nat.strongRecOn with
    | _ mm ih =>
    intro k c o db lf l4 l5 l6 hk0 hk ho hE hO hm
    have hc := ho.1
    refine r_iload_3 C dX5_draws_125 ?_
    refine r_iload_2 C dX5_draws_126 ?_
    refine r_if_icmpge (tgt := 224) C dX5_draws_127 (by decide) (fun c_127 => ?_) (fun c_127 => ?_)
    · skip
      refine r_return C E dX5_draws_224 ?_
      have e : k = c := by omega
      subst e
      rw [← wDw_eq ho] at hE
      exact ⟨rfl, o, db, lf, hE.1, hE.2, rfl⟩
    · skip
      have hok := ho.2.2.1 k hk0 c_127
      have hld := hd.ld (o k) hok.1 (by omega)
      have hgr := hd.gr (o k) hok.1 (by omega)
      have hl0 := hO.1 0 (by omega) (by omega)
      have hlg := hO.1 (m_world (15 + o k)) (by omega) (by omega)
      have e0 : lf 0 = _ := hE.1 0 (by omega) (by omega)
      have eg : lf (m_world (15 + o k)) = _ := hE.1 (m_world (15 + o k)) (by omega) (by omega)
      have hN : drN m_world lf (o k) = _ := drN_eq hd hok.1 hok.2.1 hE.1
      have hNi := drN_in hd hok.1 hok.2.1 hO.1
      refine r_aload_0 C dX5_draws_130 ?_
      refine gM_ordered C q1412 dX5_draws_131 ?_
      refine r_iload_3 C dX5_draws_134 ?_
      refine ldM_ordered C dX5_draws_135 ?_
      refine r_istore_4 C dX5_draws_136 ?_
      refine r_aload_0 C dX5_draws_138 ?_
      refine gM_world C q1386 dX5_draws_139 ?_
      refine r_bipush C dX5_draws_142 ?_
      refine r_iload_4 C dX5_draws_144 ?_
      refine r_iadd C dX5_draws_146 ?_
      refine ldM_world C dX5_draws_147 ?_
      refine r_istore_5 C dX5_draws_148 ?_
      refine r_aload_0 C dX5_draws_150 ?_
      refine gM_world C q1386 dX5_draws_151 ?_
      refine r_bipush C dX5_draws_154 ?_
      refine r_iload_4 C dX5_draws_156 ?_
      refine r_iadd C dX5_draws_158 ?_
      refine ldM_world C dX5_draws_159 ?_
      refine r_aload_0 C dX5_draws_160 ?_
      refine gM_left C q1414 dX5_draws_161 ?_
      refine r_iconst C dX5_draws_164 ?_
      refine ldM_left C dX5_draws_165 ?_
      refine r_aload_0 C dX5_draws_166 ?_
      refine gM_left C q1414 dX5_draws_167 ?_
      refine r_iload_5 C dX5_draws_170 ?_
      refine ldM_left C dX5_draws_172 ?_
      refine r_mmin C q1542 dX5_draws_173 ?_ (hd := by omega) (ha := by unfold inR; rw [e0]; omega) (hb0 := by unfold inR; rw [eg]; omega)
      refine r_mmin C q1542 dX5_draws_176 ?_ (hd := by omega) (ha := by unfold inR; omega) (hb0 := by unfold inR; rw [e0, eg]; split <;> omega)
      refine r_topi (drN m_world lf (o k)) rfl ?_
      refine r_istore_6 C dX5_draws_179 ?_
      refine r_aload_0 C dX5_draws_181 ?_
      refine gM_drawnBy C q1413 dX5_draws_182 ?_
      refine r_iload_4 C dX5_draws_185 ?_
      refine r_iload_6 C dX5_draws_187 ?_
      refine stM_drawnBy C dX5_draws_189 ?_
      refine r_aload_0 C dX5_draws_190 ?_
      refine gM_left C q1414 dX5_draws_191 ?_
      refine r_iconst C dX5_draws_194 ?_
      refine r_dup2 C dX5_draws_195 ?_
      refine ldM_left C dX5_draws_196 ?_
      refine r_iload_6 C dX5_draws_197 ?_
      refine r_isub C dX5_draws_199 ?_
      refine stM_left C dX5_draws_200 ?_
      refine r_iload_5 C dX5_draws_201 ?_
      refine r_ifle (tgt := 218) C dX5_draws_203 (by decide) (fun c_203 => ?_) (fun c_203 => ?_)
      · skip
        refine r_iinc_3 C dX5_draws_218 ?_
        refine r_goto (tgt := 125) C dX5_draws_221 (by decide) ?_
        have hstep : DrEq m_world (drT m_world (o k) (lf, db)) (drF m_world o (k + 1)) := by
          unfold drF at hE ⊢
          rw [foI_s _ _ hk0]
          exact drT_eq hd hok.1 hok.2.1 hE
        have hO' : DrOk m_world (drF m_world o (k + 1)) := by
          unfold drF at hO ⊢
          rw [foI_s _ _ hk0]
          exact drT_ok hd hok.1 hok.2.1 hO
        refine ih _ (show (c - (k + 1)).toNat < mm by omega) (k + 1) c o _ _ _ _ _ (by omega) (by omega) ho ?_ hO' rfl
        unfold drT drL at hstep
        first
          | (rw [if_pos c_203] at hstep; exact hstep)
          | (rw [if_neg (by omega)] at hstep; exact hstep)
      · skip
        refine r_aload_0 C dX5_draws_206 ?_
        refine gM_left C q1414 dX5_draws_207 ?_
        refine r_iload_5 C dX5_draws_210 ?_
        refine r_dup2 C dX5_draws_212 ?_
        refine ldM_left C dX5_draws_213 ?_
        refine r_iload_6 C dX5_draws_214 ?_
        refine r_isub C dX5_draws_216 ?_
        refine stM_left C dX5_draws_217 ?_
        refine r_iinc_3 C dX5_draws_218 ?_
        refine r_goto (tgt := 125) C dX5_draws_221 (by decide) ?_
        have hstep : DrEq m_world (drT m_world (o k) (lf, db)) (drF m_world o (k + 1)) := by
          unfold drF at hE ⊢
          rw [foI_s _ _ hk0]
          exact drT_eq hd hok.1 hok.2.1 hE
        have hO' : DrOk m_world (drF m_world o (k + 1)) := by
          unfold drF at hO ⊢
          rw [foI_s _ _ hk0]
          exact drT_ok hd hok.1 hok.2.1 hO
        refine ih _ (show (c - (k + 1)).toNat < mm by omega) (k + 1) c o _ _ _ _ _ (by omega) (by omega) ho ?_ hO' rfl
        unfold drT drL at hstep
        first
          | (rw [if_pos c_203] at hstep; exact hstep)
          | (rw [if_neg (by omega)] at hstep; exact hstep)
  have key2 : ∀ (mm : Nat), ∀ (k c : Int) (o db lf : Int → Int) (l4 l5 l6 : Option Value), (0 ≤ k) → (k ≤ 4) → (OrdF m_world nd o (wN m_world) c) → (∀ v, 0 ≤ v → v < wN m_world → db v = 0) → (∀ g, 0 ≤ g → g < k → lf g = m_world (24 + g)) → (4 - k).toNat = mm → AW g K (wM g ρ m_thrown m_world m_fresh m_waysBack m_acts m_images m_hasImage m_endOf m_strapMany m_tape m_taped m_five m_size m_at m_from m_token m_value m_faultKind m_faultPlace m_budgetsTold m_loadsTold (wDead m_world) m_unknownOf m_nodeOf m_unknowns m_cells m_whole (o) (db) (lf) m_aside m_bestDead m_bestAbove m_bestBelow m_widened m_widenedMany m_fewOf m_drawing ++ ex) 0 0 97 [some (.ref (ρ 0)), some (.int (jI nd)), some (.int (jI c)), some (.int (jI k)), l4, l5, l6] [] := by
    intro mm
    induction mm using Nat.strongRecOn with
    | _ mm ih =>
    intro k c o db lf l4 l5 l6 hk0 hk ho hdb hlf hm
    have hc := ho.1
    refine r_iload_3 C dX5_draws_97 ?_
    refine r_iconst C dX5_draws_98 ?_
    refine r_if_icmpge (tgt := 123) C dX5_draws_99 (by decide) (fun c_99 => ?_) (fun c_99 => ?_)
    · skip
      refine r_iconst C dX5_draws_123 ?_
      refine r_istore_3 C dX5_draws_124 ?_
      have e : k = 4 := by omega
      subst e
      exact key3 _ 0 c o db lf _ _ _ (by omega) hc.1 ho ⟨hlf, hdb⟩ (drF_ok hd (Int.le_refl 0) (fun i _ _ => by omega)) rfl
    · skip
      refine r_aload_0 C dX5_draws_102 ?_
      refine gM_left C q1414 dX5_draws_103 ?_
      refine r_iload_3 C dX5_draws_106 ?_
      refine r_aload_0 C dX5_draws_107 ?_
      refine gM_world C q1386 dX5_draws_108 ?_
      refine r_bipush C dX5_draws_111 ?_
      refine r_iload_3 C dX5_draws_113 ?_
      refine r_iadd C dX5_draws_114 ?_
      refine ldM_world C dX5_draws_115 ?_
      refine stM_left C dX5_draws_116 ?_
      refine r_iinc_3 C dX5_draws_117 ?_
      refine r_goto (tgt := 97) C dX5_draws_120 (by decide) ?_
      refine ih _ (show (4 - (k + 1)).toNat < mm by omega) (k + 1) c o db _ _ _ _ (by omega) (by omega) ho hdb (fun g a b => ?_) rfl
      by_cases e : g = k
      · rw [e, aset_at]
      · rw [aset_ne e]; exact hlf g a (by omega)
  have key1 : ∀ (mm : Nat), ∀ (v c : Int) (o db : Int → Int) (l4 : Option Value), (0 ≤ v) → (v ≤ wN m_world) → (OrdF m_world nd o v c) → (∀ u, 0 ≤ u → u < v → db u = 0) → (wN m_world - v).toNat = mm → AW g K (wM g ρ m_thrown m_world m_fresh m_waysBack m_acts m_images m_hasImage m_endOf m_strapMany m_tape m_taped m_five m_size m_at m_from m_token m_value m_faultKind m_faultPlace m_budgetsTold m_loadsTold (wDead m_world) m_unknownOf m_nodeOf m_unknowns m_cells m_whole (o) (db) m_left m_aside m_bestDead m_bestAbove m_bestBelow m_widened m_widenedMany m_fewOf m_drawing ++ ex) 0 0 4 [some (.ref (ρ 0)), some (.int (jI nd)), some (.int (jI c)), some (.int (jI v)), l4, none, none] [] := by
    intro mm
    induction mm using Nat.strongRecOn with
    | _ mm ih =>
    intro v c o db l4 hv0 hv ho hdb hm
    have hc := ho.1
    refine r_iload_3 C dX5_draws_4 ?_
    refine r_aload_0 C dX5_draws_5 ?_
    refine r_cV0i C (c_X5_nodes hG) (q0 := 0) rfl rfl q1654 pkX5_nodes dX5_draws_6 (fun z w h => ?_)
    obtain ⟨rfl, rfl⟩ := h
    refine r_topi (wN m_world) rfl ?_
    refine r_if_icmpge (tgt := 95) C dX5_draws_9 (by decide) (fun c_9 => ?_) (fun c_9 => ?_)
    · skip
      refine r_iconst C dX5_draws_95 ?_
      refine r_istore_3 C dX5_draws_96 ?_
      have e : v = wN m_world := by omega
      subst e
      exact key2 _ 0 c o db _ _ _ _ (by omega) (by omega) ho hdb (fun g _ _ => by omega) rfl
    · skip
      refine r_aload_0 C dX5_draws_12 ?_
      refine gM_drawnBy C q1413 dX5_draws_13 ?_
      refine r_iload_3 C dX5_draws_16 ?_
      refine r_iconst C dX5_draws_17 ?_
      refine stM_drawnBy C dX5_draws_18 ?_
      have hdb' : ∀ u, 0 ≤ u → u < v + 1 → aset db v 0 u = 0 := fun u a b => by
        by_cases e : u = v
        · rw [e, aset_at]
        · rw [aset_ne e]; exact hdb u a (by omega)
      refine r_aload_0 C dX5_draws_19 ?_
      refine r_iload_3 C dX5_draws_20 ?_
      refine r_cV1i C (c_X5_isDead hG hd rfl ⟨hv0, c_9⟩) (q0 := 0) rfl rfl q1694 pkX5_isDead dX5_draws_21 (fun z w h => ?_)
      obtain ⟨rfl, rfl⟩ := h
      refine r_ifeqB (tgt := 30) C dX5_draws_24 (by decide) (fun c_24 => ?_) (fun c_24 => ?_)
      · skip
        have ih0 := ih
        have hlive : bsB (wR m_world) v = true := by simpa using c_24
        have inner : ∀ (mm : Nat), ∀ (k : Int) (oo : Int → Int), (0 ≤ k) → (k ≤ c) → (∀ i, 0 ≤ i → i < k → oo i = o i) → (∀ i, k ≤ i → i < c → oo (i + 1) = o i) → (∀ i, k ≤ i → i < c → ahB m_world nd v (o i) = true) → k.toNat = mm → AW g K (wM g ρ m_thrown m_world m_fresh m_waysBack m_acts m_images m_hasImage m_endOf m_strapMany m_tape m_taped m_five m_size m_at m_from m_token m_value m_faultKind m_faultPlace m_budgetsTold m_loadsTold (wDead m_world) m_unknownOf m_nodeOf m_unknowns m_cells m_whole (oo) (aset db v 0) m_left m_aside m_bestDead m_bestAbove m_bestBelow m_widened m_widenedMany m_fewOf m_drawing ++ ex) 0 0 33 [some (.ref (ρ 0)), some (.int (jI nd)), some (.int (jI c)), some (.int (jI v)), some (.int (jI k)), none, none] [] := by
          intro mm
          induction mm using Nat.strongRecOn with
          | _ mm ih =>
          intro k oo hk0 hk e1 e3 e4 hm
          refine r_iload_4 C dX5_draws_33 ?_
          refine r_ifle (tgt := 78) C dX5_draws_35 (by decide) (fun c_35 => ?_) (fun c_35 => ?_)
          · skip
            refine r_aload_0 C dX5_draws_78 ?_
            refine gM_ordered C q1412 dX5_draws_79 ?_
            refine r_iload_4 C dX5_draws_82 ?_
            refine r_iload_3 C dX5_draws_84 ?_
            refine stM_ordered C dX5_draws_85 ?_
            refine r_iinc_2 C dX5_draws_86 ?_
            refine r_iinc_3 C dX5_draws_89 ?_
            refine r_goto (tgt := 4) C dX5_draws_92 (by decide) ?_
            refine ih0 _ (show (wN m_world - (v + 1)).toNat < _ by omega) (v + 1) (c + 1) _ _ _ (by omega) (by omega) ?_ hdb' rfl
            refine ho.ins (p := k) hlive ⟨hk0, hk⟩ (fun i a b => ?_) (aset_at _ _ _) (fun i a b => ?_) e4 ?_
            · rw [aset_ne (by omega)]; exact e1 i a b
            · rw [aset_ne (by omega)]; exact e3 i a b
            · first
                | exact Or.inr c_53
                | exact Or.inl (by omega)
          · skip
            have hok := ho.2.2.1 (k - 1) (by omega) (by omega)
            have eo := e1 (k - 1) (by omega) (by omega)
            refine r_aload_0 C dX5_draws_38 ?_
            refine r_iload_1 C dX5_draws_39 ?_
            refine r_iload_3 C dX5_draws_40 ?_
            refine r_aload_0 C dX5_draws_41 ?_
            refine gM_ordered C q1412 dX5_draws_42 ?_
            refine r_iload_4 C dX5_draws_45 ?_
            refine r_iconst C dX5_draws_47 ?_
            refine r_isub C dX5_draws_48 ?_
            refine ldM_ordered C dX5_draws_49 ?_
            refine r_topi (o (k - 1)) eo ?_
            refine r_cV3i C (c_X5_isAhead hG hd hS hnd ⟨hv0, c_9⟩ ⟨hok.1, by omega⟩) (q0 := 0) rfl rfl q1826 pkX5_isAhead dX5_draws_50 (fun z w h => ?_)
            obtain ⟨rfl, rfl⟩ := h
            refine r_ifeqB (tgt := 78) C dX5_draws_53 (by decide) (fun c_53 => ?_) (fun c_53 => ?_)
            · skip
              refine r_aload_0 C dX5_draws_78 ?_
              refine gM_ordered C q1412 dX5_draws_79 ?_
              refine r_iload_4 C dX5_draws_82 ?_
              refine r_iload_3 C dX5_draws_84 ?_
              refine stM_ordered C dX5_draws_85 ?_
              refine r_iinc_2 C dX5_draws_86 ?_
              refine r_iinc_3 C dX5_draws_89 ?_
              refine r_goto (tgt := 4) C dX5_draws_92 (by decide) ?_
              refine ih0 _ (show (wN m_world - (v + 1)).toNat < _ by omega) (v + 1) (c + 1) _ _ _ (by omega) (by omega) ?_ hdb' rfl
              refine ho.ins (p := k) hlive ⟨hk0, hk⟩ (fun i a b => ?_) (aset_at _ _ _) (fun i a b => ?_) e4 ?_
              · rw [aset_ne (by omega)]; exact e1 i a b
              · rw [aset_ne (by omega)]; exact e3 i a b
              · first
                  | exact Or.inr c_53
                  | exact Or.inl (by omega)
            · skip
              refine r_aload_0 C dX5_draws_56 ?_
              refine gM_ordered C q1412 dX5_draws_57 ?_
              refine r_iload_4 C dX5_draws_60 ?_
              refine r_aload_0 C dX5_draws_62 ?_
              refine gM_ordered C q1412 dX5_draws_63 ?_
              refine r_iload_4 C dX5_draws_66 ?_
              refine r_iconst C dX5_draws_68 ?_
              refine r_isub C dX5_draws_69 ?_
              refine ldM_ordered C dX5_draws_70 ?_
              refine stM_ordered C dX5_draws_71 ?_
              refine r_iinc_4 C dX5_draws_72 ?_
              refine r_goto (tgt := 33) C dX5_draws_75 (by decide) ?_
              refine ih _ (show (k - 1).toNat < mm by omega) (k + -1) _ (by omega) (by omega) (fun i a b => ?_) (fun i a b => ?_) (fun i a b => ?_) (by omega)
              · rw [aset_ne (by omega)]; exact e1 i a (by omega)
              · by_cases ei : i = k - 1
                · rw [ei, show k - 1 + 1 = k by omega, aset_at]; exact eo
                · rw [aset_ne (by omega)]; exact e3 i (by omega) b
              · by_cases ei : i = k - 1
                · rw [ei]; exact c_53
                · exact e4 i (by omega) b
        refine r_iload_2 C dX5_draws_30 ?_
        refine r_istore_4 C dX5_draws_31 ?_
        exact inner _ c o hc.1 (Int.le_refl _) (fun i _ _ => rfl) (fun i _ _ => by omega) (fun i _ _ => by omega) rfl
      · skip
        refine r_goto (tgt := 89) C dX5_draws_27 (by decide) ?_
        refine r_iinc_3 C dX5_draws_89 ?_
        refine r_goto (tgt := 4) C dX5_draws_92 (by decide) ?_
        exact ih _ (show (wN m_world - (v + 1)).toNat < mm by omega) (v + 1) c o _ _ (by omega) (by omega) (ho.dead c_24) hdb' rfl
  refine r_iconst C dX5_draws_0 ?_
  refine r_istore_2 C dX5_draws_1 ?_
  refine r_iconst C dX5_draws_2 ?_
  refine r_istore_3 C dX5_draws_3 ?_
  exact key1 _ 0 0 m_ordered m_drawnBy _ (by omega) (by omega) ⟨by omega, fun i j _ _ _ => by omega, fun i _ _ => by omega, fun x _ _ => by omega⟩ (fun u _ _ => by omega) rfl
theorem c_X5_mostOf (hG : Gok g) {nd : Int} (hd : Gd m_world) (hS : SolW m_world m_unknownOf m_nodeOf m_cells) (hD : m_deadSet = wDead m_world) (hnd : 0 ≤ nd ∧ nd < wN m_world) : XMet g yX5_mostOf cX5_mostOf 5 (some .long) 3 0 0 [.ref (ρ 0), .int (jI nd)] (wM g ρ m_thrown m_world m_fresh m_waysBack m_acts m_images m_hasImage m_endOf m_strapMany m_tape m_taped m_five m_size m_at m_from m_token m_value m_faultKind m_faultPlace m_budgetsTold m_loadsTold m_deadSet m_unknownOf m_nodeOf m_unknowns m_cells m_whole m_ordered m_drawnBy m_left m_aside m_bestDead m_bestAbove m_bestBelow m_widened m_widenedMany m_fewOf m_drawing ++ ex) (pL (fun z w => z = wMo m_world nd ∧ ∃ o db lf, w = (wM g ρ m_thrown m_world m_fresh m_waysBack m_acts m_images m_hasImage m_endOf m_strapMany m_tape m_taped m_five m_size m_at m_from m_token m_value m_faultKind m_faultPlace m_budgetsTold m_loadsTold m_deadSet m_unknownOf m_nodeOf m_unknowns m_cells m_whole (o) (db) (lf) m_aside m_bestDead m_bestAbove m_bestBelow m_widened m_widenedMany m_fewOf m_drawing ++ ex))) := by
  refine XMet.of (L := [some (.ref (ρ 0)), some (.int (jI nd)), none, none, none]) hG (by decide +kernel) (Nat.le_of_ble_eq_true rfl) rfl (fun K C E => ?_)
  have hn := hd.n
  have hk := (exO (w := m_world) (nd := nd) (by omega)).ok hd
  refine r_aload_0 C dX5_mostOf_0 ?_
  refine r_iload_1 C dX5_mostOf_1 ?_
  refine r_cV1v C (c_X5_draws hG hd hS hD hnd) (q0 := 0) rfl rfl q1822 pkX5_draws dX5_mostOf_2 (fun w h => ?_)
  obtain ⟨o, db, lf, hlf, hdb, rfl⟩ := h
  skip
  have key : ∀ (mm : Nat), ∀ (v s : Int), (0 ≤ v) → (v ≤ wN m_world) → (s = foI (fun v s => s + wMv m_world nd v * (wDw m_world nd).2 v) 0 v) → (wN m_world - v).toNat = mm → AW g K (wM g ρ m_thrown m_world m_fresh m_waysBack m_acts m_images m_hasImage m_endOf m_strapMany m_tape m_taped m_five m_size m_at m_from m_token m_value m_faultKind m_faultPlace m_budgetsTold m_loadsTold m_deadSet m_unknownOf m_nodeOf m_unknowns m_cells m_whole (o) (db) (lf) m_aside m_bestDead m_bestAbove m_bestBelow m_widened m_widenedMany m_fewOf m_drawing ++ ex) 0 0 10 [some (.ref (ρ 0)), some (.int (jI nd)), some (.long (jL s)), none, some (.int (jI v))] [] := by
    intro mm
    induction mm using Nat.strongRecOn with
    | _ mm ih =>
    intro v s hv0 hv es hm
    refine r_iload_4 C dX5_mostOf_10 ?_
    refine r_aload_0 C dX5_mostOf_12 ?_
    refine r_cV0i C (c_X5_nodes hG) (q0 := 0) rfl rfl q1654 pkX5_nodes dX5_mostOf_13 (fun z w h => ?_)
    obtain ⟨rfl, rfl⟩ := h
    refine r_topi (wN m_world) rfl ?_
    refine r_if_icmpge (tgt := 44) C dX5_mostOf_16 (by decide) (fun c_16 => ?_) (fun c_16 => ?_)
    · skip
      refine r_lload_2 C dX5_mostOf_44 ?_
      refine r_lreturn C E dX5_mostOf_45 ?_
      have e : v = wN m_world := by omega
      subst e
      exact ⟨_, rfl, es, o, db, lf, rfl⟩
    · skip
      have hkv := hk.2 v hv0 c_16
      refine r_lload_2 C dX5_mostOf_19 ?_
      refine r_aload_0 C dX5_mostOf_20 ?_
      refine r_iload_1 C dX5_mostOf_21 ?_
      refine r_iload_4 C dX5_mostOf_22 ?_
      refine r_cV2l C (c_X5_movesOf hG hd hS hnd ⟨hv0, c_16⟩) (q0 := 0) rfl rfl q1715 pkX5_movesOf dX5_mostOf_24 (fun z w h => ?_)
      obtain ⟨rfl, rfl⟩ := h
      refine r_aload_0 C dX5_mostOf_27 ?_
      refine gM_drawnBy C q1413 dX5_mostOf_28 ?_
      refine r_iload_4 C dX5_mostOf_31 ?_
      refine ldM_drawnBy C dX5_mostOf_33 ?_
      refine r_topi ((wDw m_world nd).2 v) (hdb v hv0 c_16) ?_
      refine r_i2l C dX5_mostOf_34 ?_
      refine r_lmul C dX5_mostOf_35 ?_
      refine r_ladd C dX5_mostOf_36 ?_
      refine r_lstore_2 C dX5_mostOf_37 ?_
      refine r_iinc_4 C dX5_mostOf_38 ?_
      refine r_goto (tgt := 10) C dX5_mostOf_41 (by decide) ?_
      exact ih _ (show (wN m_world - (v + 1)).toNat < mm by omega) (v + 1) _ (by omega) (by omega) (by rw [foI_s _ _ hv0, ← es]) rfl
  refine r_lconst0 C dX5_mostOf_5 ?_
  refine r_lstore_2 C dX5_mostOf_6 ?_
  refine r_iconst C dX5_mostOf_7 ?_
  refine r_istore_4 C dX5_mostOf_8 ?_
  exact key _ 0 0 (by omega) (by omega) rfl rfl
theorem c_X5_most (hG : Gok g) {v p : Int} (hv : inR v) (hp : inR p) (hW : WF m_world) : XMet g yX5_most cX5_most 3 (some .long) 5 0 0 [.ref (ρ 0), .int (jI v), .int (jI p)] (wM g ρ m_thrown m_world m_fresh m_waysBack m_acts m_images m_hasImage m_endOf m_strapMany m_tape m_taped m_five m_size m_at m_from m_token m_value m_faultKind m_faultPlace m_budgetsTold m_loadsTold m_deadSet m_unknownOf m_nodeOf m_unknowns m_cells m_whole m_ordered m_drawnBy m_left m_aside m_bestDead m_bestAbove m_bestBelow m_widened m_widenedMany m_fewOf m_drawing ++ ex) (pL (fun z w => z = spMost m_world v p ∧ PubM g ρ ex m_world m_waysBack m_acts m_images m_hasImage m_tape m_taped m_faultKind m_faultPlace w)) := by
  refine XMet.of (L := [some (.ref (ρ 0)), some (.int (jI v)), some (.int (jI p))]) hG (by decide +kernel) (Nat.le_of_ble_eq_true rfl) rfl (fun K C E => ?_)
  have hn := hW.n
  refine r_aload_0 C dX5_most_0 ?_
  refine r_iload_1 C dX5_most_1 ?_
  refine r_cV1i C (c_X5_isNode hG (by assumption) hn) (q0 := 0) rfl rfl q1685 pkX5_isNode dX5_most_2 (fun z w h => ?_)
  obtain ⟨rfl, rfl⟩ := h
  refine r_ifeqB (tgt := 15) C dX5_most_5 (by decide) (fun c_5 => ?_) (fun c_5 => ?_)
  · skip
    refine r_ldc2 C (-2) q1709 dX5_most_15 ?_
    refine r_lreturn C E dX5_most_18 ?_
    exact ⟨_, rfl, by simp [spMost, *], PubM.mk⟩
  · skip
    refine r_iload_2 C dX5_most_8 ?_
    refine r_cS1i C (c_X5_isPart hG hp) q1706 pkX5_isPart dX5_most_9 (fun z w h => ?_)
    obtain ⟨rfl, rfl⟩ := h
    refine r_ifneB (tgt := 19) C dX5_most_12 (by decide) (fun c_12 => ?_) (fun c_12 => ?_)
    · skip
      have hd := hW.gdb c_5
      have hvv := isNb_in c_5
      have hmo := wMo_in hd (exO (w := m_world) (nd := v) (by omega)) hvv.1 hvv.2
      have hw := hd.who
      refine r_aload_0 C dX5_most_19 ?_
      refine r_cV0v C (c_X5_lays hG hd) (q0 := 0) rfl rfl q1646 pkX5_lays dX5_most_20 (fun w h => ?_)
      obtain ⟨e, un, no, ce, he, hS, rfl⟩ := h
      refine r_aload_0 C dX5_most_23 ?_
      refine r_iload_1 C dX5_most_24 ?_
      refine r_cV1i C (c_X5_isDead hG hd rfl hvv) (q0 := 0) rfl rfl q1694 pkX5_isDead dX5_most_25 (fun z w h => ?_)
      obtain ⟨rfl, rfl⟩ := h
      refine r_ifeqB (tgt := 37) C dX5_most_28 (by decide) (fun c_28 => ?_) (fun c_28 => ?_)
      · skip
        refine r_aload_0 C dX5_most_37 ?_
        refine r_iload_1 C dX5_most_38 ?_
        refine r_cV1l C (c_X5_mostOf hG hd hS rfl hvv) (q0 := 0) rfl rfl q1818 pkX5_mostOf dX5_most_39 (fun z w h => ?_)
        obtain ⟨rfl, o, db, lf, rfl⟩ := h
        refine r_aload_0 C dX5_most_42 ?_
        refine gM_whole C q1411 dX5_most_43 ?_
        refine r_iload_2 C dX5_most_46 ?_
        refine r_cS3l C (c_X5_part hG (by omega) (by omega) hp (by omega)) q1719 pkX5_part dX5_most_47 (fun z w h => ?_)
        obtain ⟨rfl, rfl⟩ := h
        refine r_lreturn C E dX5_most_50 ?_
        exact ⟨_, rfl, by simp [spMost, *], PubM.mk⟩
      · skip
        refine r_ldc2 C (-1) q1710 dX5_most_31 ?_
        refine r_goto (tgt := 50) C dX5_most_34 (by decide) ?_
        refine r_lreturn C E dX5_most_50 ?_
        exact ⟨_, rfl, by simp [spMost, *], PubM.mk⟩
    · skip
      refine r_ldc2 C (-2) q1709 dX5_most_15 ?_
      refine r_lreturn C E dX5_most_18 ?_
      exact ⟨_, rfl, by simp [spMost, *], PubM.mk⟩
theorem c_X5_drawn (hG : Gok g) {v u : Int} (hv : inR v) (hu : inR u) (hW : WF m_world) : XMet g yX5_drawn cX5_drawn 3 (some .int) 5 0 0 [.ref (ρ 0), .int (jI v), .int (jI u)] (wM g ρ m_thrown m_world m_fresh m_waysBack m_acts m_images m_hasImage m_endOf m_strapMany m_tape m_taped m_five m_size m_at m_from m_token m_value m_faultKind m_faultPlace m_budgetsTold m_loadsTold m_deadSet m_unknownOf m_nodeOf m_unknowns m_cells m_whole m_ordered m_drawnBy m_left m_aside m_bestDead m_bestAbove m_bestBelow m_widened m_widenedMany m_fewOf m_drawing ++ ex) (pI (fun z w => z = spDrawn m_world v u ∧ PubM g ρ ex m_world m_waysBack m_acts m_images m_hasImage m_tape m_taped m_faultKind m_faultPlace w)) := by
  refine XMet.of (L := [some (.ref (ρ 0)), some (.int (jI v)), some (.int (jI u))]) hG (by decide +kernel) (Nat.le_of_ble_eq_true rfl) rfl (fun K C E => ?_)
  have hn := hW.n
  refine r_aload_0 C dX5_drawn_0 ?_
  refine r_iload_1 C dX5_drawn_1 ?_
  refine r_cV1i C (c_X5_isNode hG (by assumption) hn) (q0 := 0) rfl rfl q1685 pkX5_isNode dX5_drawn_2 (fun z w h => ?_)
  obtain ⟨rfl, rfl⟩ := h
  refine r_ifeqB (tgt := 16) C dX5_drawn_5 (by decide) (fun c_5 => ?_) (fun c_5 => ?_)
  · skip
    refine r_bipush C dX5_drawn_16 ?_
    refine r_ireturn C E dX5_drawn_18 ?_
    exact ⟨_, rfl, by simp [spDrawn, *], PubM.mk⟩
  · skip
    refine r_aload_0 C dX5_drawn_8 ?_
    refine r_iload_2 C dX5_drawn_9 ?_
    refine r_cV1i C (c_X5_isNode hG (by assumption) hn) (q0 := 0) rfl rfl q1685 pkX5_isNode dX5_drawn_10 (fun z w h => ?_)
    obtain ⟨rfl, rfl⟩ := h
    refine r_ifneB (tgt := 19) C dX5_drawn_13 (by decide) (fun c_13 => ?_) (fun c_13 => ?_)
    · skip
      have hd := hW.gdb c_5
      have hvv := isNb_in c_5
      have huu := isNb_in c_13
      refine r_aload_0 C dX5_drawn_19 ?_
      refine r_cV0v C (c_X5_lays hG hd) (q0 := 0) rfl rfl q1646 pkX5_lays dX5_drawn_20 (fun w h => ?_)
      obtain ⟨e, un, no, ce, he, hS, rfl⟩ := h
      refine r_aload_0 C dX5_drawn_23 ?_
      refine r_iload_1 C dX5_drawn_24 ?_
      refine r_cV1i C (c_X5_isDead hG hd rfl hvv) (q0 := 0) rfl rfl q1694 pkX5_isDead dX5_drawn_25 (fun z w h => ?_)
      obtain ⟨rfl, rfl⟩ := h
      refine r_ifeqB (tgt := 33) C dX5_drawn_28 (by decide) (fun c_28 => ?_) (fun c_28 => ?_)
      · skip
        refine r_aload_0 C dX5_drawn_33 ?_
        refine r_iload_1 C dX5_drawn_34 ?_
        refine r_cV1v C (c_X5_draws hG hd hS rfl hvv) (q0 := 0) rfl rfl q1822 pkX5_draws dX5_drawn_35 (fun w h => ?_)
        obtain ⟨o, db, lf, hlf, hdb, rfl⟩ := h
        have hdu := hdb u huu.1 huu.2
        refine r_aload_0 C dX5_drawn_38 ?_
        refine gM_drawnBy C q1413 dX5_drawn_39 ?_
        refine r_iload_2 C dX5_drawn_42 ?_
        refine ldM_drawnBy C dX5_drawn_43 ?_
        refine r_ireturn C E dX5_drawn_44 ?_
        refine ⟨_, rfl, ?_, PubM.mk⟩
        rw [hdu]
        have hl : bsB (wR m_world) v = true := by simpa using c_28
        simp [spDrawn, c_5, c_13, hl]
      · skip
        refine r_iconst C dX5_drawn_31 ?_
        refine r_ireturn C E dX5_drawn_32 ?_
        exact ⟨_, rfl, by simp [spDrawn, *], PubM.mk⟩
    · skip
      refine r_bipush C dX5_drawn_16 ?_
      refine r_ireturn C E dX5_drawn_18 ?_
      exact ⟨_, rfl, by simp [spDrawn, *], PubM.mk⟩
theorem c_X5_tight (hG : Gok g) {v : Int} (hv : inR v) (hW : WF m_world) : XMet g yX5_tight cX5_tight 4 (some .int) 5 0 0 [.ref (ρ 0), .int (jI v)] (wM g ρ m_thrown m_world m_fresh m_waysBack m_acts m_images m_hasImage m_endOf m_strapMany m_tape m_taped m_five m_size m_at m_from m_token m_value m_faultKind m_faultPlace m_budgetsTold m_loadsTold m_deadSet m_unknownOf m_nodeOf m_unknowns m_cells m_whole m_ordered m_drawnBy m_left m_aside m_bestDead m_bestAbove m_bestBelow m_widened m_widenedMany m_fewOf m_drawing ++ ex) (pI (fun z w => z = spTight m_world v ∧ PubM g ρ ex m_world m_waysBack m_acts m_images m_hasImage m_tape m_taped m_faultKind m_faultPlace w)) := by
  refine XMet.of (L := [some (.ref (ρ 0)), some (.int (jI v)), none, none]) hG (by decide +kernel) (Nat.le_of_ble_eq_true rfl) rfl (fun K C E => ?_)
  have hn := hW.n
  refine r_aload_0 C dX5_tight_0 ?_
  refine r_iload_1 C dX5_tight_1 ?_
  refine r_cV1i C (c_X5_isNode hG (by assumption) hn) (q0 := 0) rfl rfl q1685 pkX5_isNode dX5_tight_2 (fun z w h => ?_)
  obtain ⟨rfl, rfl⟩ := h
  refine r_ifneB (tgt := 11) C dX5_tight_5 (by decide) (fun c_5 => ?_) (fun c_5 => ?_)
  · skip
    have hd := hW.gdb c_5
    have hvv := isNb_in c_5
    have hk := (exO (w := m_world) (nd := v) (by omega)).ok hd
    refine r_aload_0 C dX5_tight_11 ?_
    refine r_cV0v C (c_X5_lays hG hd) (q0 := 0) rfl rfl q1646 pkX5_lays dX5_tight_12 (fun w h => ?_)
    obtain ⟨e, un, no, ce, he, hS, rfl⟩ := h
    refine r_aload_0 C dX5_tight_15 ?_
    refine r_iload_1 C dX5_tight_16 ?_
    refine r_cV1i C (c_X5_isDead hG hd rfl hvv) (q0 := 0) rfl rfl q1694 pkX5_isDead dX5_tight_17 (fun z w h => ?_)
    obtain ⟨rfl, rfl⟩ := h
    refine r_ifeqB (tgt := 25) C dX5_tight_20 (by decide) (fun c_20 => ?_) (fun c_20 => ?_)
    · skip
      refine r_aload_0 C dX5_tight_25 ?_
      refine r_iload_1 C dX5_tight_26 ?_
      refine r_cV1v C (c_X5_draws hG hd hS rfl hvv) (q0 := 0) rfl rfl q1822 pkX5_draws dX5_tight_27 (fun w h => ?_)
      obtain ⟨o, db, lf, hlf, hdb, rfl⟩ := h
      have hl : bsB (wR m_world) v = true := by simpa using c_20
      have key : ∀ (mm : Nat), ∀ (k s : Int), (0 ≤ k) → (k ≤ 4) → (0 ≤ s ∧ s < 512) → (s = wTi m_world v k) → (4 - k).toNat = mm → AW g K (wM g ρ m_thrown m_world m_fresh m_waysBack m_acts m_images m_hasImage (e) (wS m_world) m_tape m_taped m_five m_size m_at m_from m_token m_value m_faultKind m_faultPlace m_budgetsTold m_loadsTold (wDead m_world) (un) (no) (wm m_world) (ce) (wWh m_world) (o) (db) (lf) m_aside m_bestDead m_bestAbove m_bestBelow m_widened m_widenedMany m_fewOf m_drawing ++ ex) 0 0 34 [some (.ref (ρ 0)), some (.int (jI v)), some (.int (jI s)), some (.int (jI k))] [] := by
        intro mm
        induction mm using Nat.strongRecOn with
        | _ mm ih =>
        intro k s hk0 hk4 hs0 es hm
        refine r_iload_3 C dX5_tight_34 ?_
        refine r_iconst C dX5_tight_35 ?_
        refine r_if_icmpge (tgt := 64) C dX5_tight_36 (by decide) (fun c_36 => ?_) (fun c_36 => ?_)
        · skip
          refine r_iload_2 C dX5_tight_64 ?_
          refine r_ireturn C E dX5_tight_65 ?_
          have e : k = 4 := by omega
          subst e
          exact ⟨_, rfl, by unfold spTight; rw [if_pos c_5, if_pos hl, es], PubM.mk⟩
        · skip
          have hkk := hk.1 k hk0 c_36
          have hP := bsP_9 hk0 (show k < 9 by omega)
          have hP0 := bsP_0 (k := k)
          refine r_iload_2 C dX5_tight_39 ?_
          refine r_aload_0 C dX5_tight_40 ?_
          refine gM_left C q1414 dX5_tight_41 ?_
          refine r_iload_3 C dX5_tight_44 ?_
          refine ldM_left C dX5_tight_45 ?_
          refine r_topi ((wDw m_world v).1 k) (hlf k hk0 c_36) ?_
          refine r_ifne (tgt := 55) C dX5_tight_46 (by decide) (fun c_46 => ?_) (fun c_46 => ?_)
          · skip
            refine r_iconst C dX5_tight_55 ?_
            refine r_ior C (_) dX5_tight_56 (jI_or (by omega) (by omega)) ?_
            refine r_istore_2 C dX5_tight_57 ?_
            refine r_iinc_3 C dX5_tight_58 ?_
            refine r_goto (tgt := 34) C dX5_tight_61 (by decide) ?_
            refine ih _ (show (4 - (k + 1)).toNat < mm by omega) (k + 1) _ (by omega) (by omega) ⟨bsO_0, bsO_512 hs0.2 (by omega)⟩ ?_ rfl
            unfold wTi at es ⊢
            rw [foI_s _ _ hk0, ← es]
            first
              | rw [if_pos c_46]
              | rw [if_neg c_46, bsO_z hs0.1]
          · skip
            refine r_iconst C dX5_tight_49 ?_
            refine r_iload_3 C dX5_tight_50 ?_
            refine r_ishl C (_) dX5_tight_51 (jI_shl (by omega) (by omega)) ?_
            refine r_goto (tgt := 56) C dX5_tight_52 (by decide) ?_
            refine r_ior C (_) dX5_tight_56 (jI_or (by omega) (by omega)) ?_
            refine r_istore_2 C dX5_tight_57 ?_
            refine r_iinc_3 C dX5_tight_58 ?_
            refine r_goto (tgt := 34) C dX5_tight_61 (by decide) ?_
            refine ih _ (show (4 - (k + 1)).toNat < mm by omega) (k + 1) _ (by omega) (by omega) ⟨bsO_0, bsO_512 hs0.2 (by omega)⟩ ?_ rfl
            unfold wTi at es ⊢
            rw [foI_s _ _ hk0, ← es]
            first
              | rw [if_pos c_46]
              | rw [if_neg c_46, bsO_z hs0.1]
      refine r_iconst C dX5_tight_30 ?_
      refine r_istore_2 C dX5_tight_31 ?_
      refine r_iconst C dX5_tight_32 ?_
      refine r_istore_3 C dX5_tight_33 ?_
      exact key _ 0 0 (by omega) (by omega) (by omega) rfl rfl
    · skip
      refine r_iconst C dX5_tight_23 ?_
      refine r_ireturn C E dX5_tight_24 ?_
      exact ⟨_, rfl, by simp [spTight, *], PubM.mk⟩
  · skip
    refine r_bipush C dX5_tight_8 ?_
    refine r_ireturn C E dX5_tight_10 ?_
    exact ⟨_, rfl, by simp [spTight, *], PubM.mk⟩
theorem c_X5_foe (hG : Gok g) (hW : WF m_world) : XMet g yX5_foe cX5_foe 5 (some .int) 6 0 0 [.ref (ρ 0)] (wM g ρ m_thrown m_world m_fresh m_waysBack m_acts m_images m_hasImage m_endOf m_strapMany m_tape m_taped m_five m_size m_at m_from m_token m_value m_faultKind m_faultPlace m_budgetsTold m_loadsTold m_deadSet m_unknownOf m_nodeOf m_unknowns m_cells m_whole m_ordered m_drawnBy m_left m_aside m_bestDead m_bestAbove m_bestBelow m_widened m_widenedMany m_fewOf m_drawing ++ ex) (pI (fun z w => z = spFoe m_world ∧ PubM g ρ ex m_world m_waysBack m_acts m_images m_hasImage m_tape m_taped m_faultKind m_faultPlace w)) := by
  refine XMet.of (L := [some (.ref (ρ 0)), none, none, none, none]) hG (by decide +kernel) (Nat.le_of_ble_eq_true rfl) rfl (fun K C E => ?_)
  refine r_aload_0 C dX5_foe_0 ?_
  refine r_cV0i C (c_X5_asksW hG hW) (q0 := 0) rfl rfl q1642 pkX5_asks dX5_foe_1 (fun z w h => ?_)
  obtain ⟨rfl, e, sm, ds, un, no, um, ce, wh, hs, rfl⟩ := h
  refine r_ifneB (tgt := 10) C dX5_foe_4 (by decide) (fun c_4 => ?_) (fun c_4 => ?_)
  · skip
    have hd := hW.gd4 c_4
    obtain ⟨he, hS, rfl, rfl, rfl, rfl⟩ := hs hd
    have hn := hd.n
    have key : ∀ (mm : Nat), ∀ (v : Int) (s : Int × Int) (o db lf : Int → Int), (0 ≤ v) → (v ≤ wN m_world) → (-1 ≤ s.2 ∧ s.2 ≤ 7653631721472) → (s = wFo m_world v) → (wN m_world - v).toNat = mm → AW g K (wM g ρ m_thrown m_world m_fresh m_waysBack m_acts m_images m_hasImage (e) (wS m_world) m_tape m_taped m_five m_size m_at m_from m_token m_value m_faultKind m_faultPlace m_budgetsTold m_loadsTold (wDead m_world) (un) (no) (wm m_world) (ce) (wWh m_world) (o) (db) (lf) m_aside m_bestDead m_bestAbove m_bestBelow m_widened m_widenedMany m_fewOf m_drawing ++ ex) 0 0 19 [some (.ref (ρ 0)), some (.int (jI s.1)), some (.long (jL s.2)), none, some (.int (jI v))] [] := by
      intro mm
      induction mm using Nat.strongRecOn with
      | _ mm ih =>
      intro v s o db lf hv0 hv hs0 es hm
      refine r_iload_4 C dX5_foe_19 ?_
      refine r_aload_0 C dX5_foe_21 ?_
      refine r_cV0i C (c_X5_nodes hG) (q0 := 0) rfl rfl q1654 pkX5_nodes dX5_foe_22 (fun z w h => ?_)
      obtain ⟨rfl, rfl⟩ := h
      refine r_topi (wN m_world) rfl ?_
      refine r_if_icmpge (tgt := 67) C dX5_foe_25 (by decide) (fun c_25 => ?_) (fun c_25 => ?_)
      · skip
        refine r_iload_1 C dX5_foe_67 ?_
        refine r_ireturn C E dX5_foe_68 ?_
        have e : v = wN m_world := by omega
        subst e
        exact ⟨_, rfl, by unfold spFoe; rw [if_pos c_4, es], PubM.mk⟩
      · skip
        have hmo := wMo_in hd (exO (w := m_world) (nd := v) (by omega)) hv0 c_25
        refine r_aload_0 C dX5_foe_28 ?_
        refine r_iload_4 C dX5_foe_29 ?_
        refine r_cV1i C (c_X5_isDead hG hd rfl ⟨hv0, c_25⟩) (q0 := 0) rfl rfl q1694 pkX5_isDead dX5_foe_31 (fun z w h => ?_)
        obtain ⟨rfl, rfl⟩ := h
        refine r_ifneB (tgt := 61) C dX5_foe_34 (by decide) (fun c_34 => ?_) (fun c_34 => ?_)
        · skip
          refine r_iinc_4 C dX5_foe_61 ?_
          refine r_goto (tgt := 19) C dX5_foe_64 (by decide) ?_
          first
            | (refine ih _ (show (wN m_world - (v + 1)).toNat < mm by omega) (v + 1) (v, wMo m_world v) _ _ _ (by omega) (by omega) ⟨by (try simp only); omega, by (try simp only); omega⟩ ?_ rfl
               unfold wFo at es ⊢
               rw [foI_s _ _ hv0, ← es, if_pos (And.intro hl c_44)])
            | (refine ih _ (show (wN m_world - (v + 1)).toNat < mm by omega) (v + 1) s _ _ _ (by omega) (by omega) hs0 ?_ rfl
               unfold wFo at es ⊢
               rw [foI_s _ _ hv0, ← es]
               first
                 | rw [if_neg (fun q => by have := q.2; omega)]
                 | rw [if_neg (fun q => by have := q.1; rw [c_34] at this; simp at this)])
        · skip
          have hl : bsB (wR m_world) v = true := by simpa using c_34
          refine r_aload_0 C dX5_foe_37 ?_
          refine r_iload_4 C dX5_foe_38 ?_
          refine r_cV1l C (c_X5_mostOf hG hd hS rfl ⟨hv0, c_25⟩) (q0 := 0) rfl rfl q1818 pkX5_mostOf dX5_foe_40 (fun z w h => ?_)
          obtain ⟨rfl, o, db, lf, rfl⟩ := h
          refine r_lload_2 C dX5_foe_43 ?_
          refine r_lcmp_ifgt (tgt := 51) C dX5_foe_44 dX5_foe_45 (by decide) (fun c_44 => ?_) (fun c_44 => ?_)
          · skip
            refine r_iload_4 C dX5_foe_51 ?_
            refine r_istore_1 C dX5_foe_53 ?_
            refine r_aload_0 C dX5_foe_54 ?_
            refine r_iload_4 C dX5_foe_55 ?_
            refine r_cV1l C (c_X5_mostOf hG hd hS rfl ⟨hv0, c_25⟩) (q0 := 0) rfl rfl q1818 pkX5_mostOf dX5_foe_57 (fun z w h => ?_)
            obtain ⟨rfl, o, db, lf, rfl⟩ := h
            refine r_lstore_2 C dX5_foe_60 ?_
            refine r_iinc_4 C dX5_foe_61 ?_
            refine r_goto (tgt := 19) C dX5_foe_64 (by decide) ?_
            first
              | (refine ih _ (show (wN m_world - (v + 1)).toNat < mm by omega) (v + 1) (v, wMo m_world v) _ _ _ (by omega) (by omega) ⟨by (try simp only); omega, by (try simp only); omega⟩ ?_ rfl
                 unfold wFo at es ⊢
                 rw [foI_s _ _ hv0, ← es, if_pos (And.intro hl c_44)])
              | (refine ih _ (show (wN m_world - (v + 1)).toNat < mm by omega) (v + 1) s _ _ _ (by omega) (by omega) hs0 ?_ rfl
                 unfold wFo at es ⊢
                 rw [foI_s _ _ hv0, ← es]
                 first
                   | rw [if_neg (fun q => by have := q.2; omega)]
                   | rw [if_neg (fun q => by have := q.1; rw [c_34] at this; simp at this)])
          · skip
            refine r_goto (tgt := 61) C dX5_foe_48 (by decide) ?_
            refine r_iinc_4 C dX5_foe_61 ?_
            refine r_goto (tgt := 19) C dX5_foe_64 (by decide) ?_
            first
              | (refine ih _ (show (wN m_world - (v + 1)).toNat < mm by omega) (v + 1) (v, wMo m_world v) _ _ _ (by omega) (by omega) ⟨by (try simp only); omega, by (try simp only); omega⟩ ?_ rfl
                 unfold wFo at es ⊢
                 rw [foI_s _ _ hv0, ← es, if_pos (And.intro hl c_44)])
              | (refine ih _ (show (wN m_world - (v + 1)).toNat < mm by omega) (v + 1) s _ _ _ (by omega) (by omega) hs0 ?_ rfl
                 unfold wFo at es ⊢
                 rw [foI_s _ _ hv0, ← es]
                 first
                   | rw [if_neg (fun q => by have := q.2; omega)]
                   | rw [if_neg (fun q => by have := q.1; rw [c_34] at this; simp at this)])
    refine r_iconst C dX5_foe_10 ?_
    refine r_istore_1 C dX5_foe_11 ?_
    refine r_ldc2 C (-1) q1710 dX5_foe_12 ?_
    refine r_lstore_2 C dX5_foe_15 ?_
    refine r_iconst C dX5_foe_16 ?_
    refine r_istore_4 C dX5_foe_17 ?_
    exact key _ 0 (-1, -1) _ _ _ (by omega) (by omega) (by simp) rfl rfl
  · skip
    refine r_bipush C dX5_foe_7 ?_
    refine r_ireturn C E dX5_foe_9 ?_
    exact ⟨_, rfl, by simp [spFoe, *], PubM.mk⟩
theorem c_X5_unsafe (hG : Gok g) (hW : WF m_world) : XMet g yX5_unsafe cX5_unsafe 3 (some .int) 6 0 0 [.ref (ρ 0)] (wM g ρ m_thrown m_world m_fresh m_waysBack m_acts m_images m_hasImage m_endOf m_strapMany m_tape m_taped m_five m_size m_at m_from m_token m_value m_faultKind m_faultPlace m_budgetsTold m_loadsTold m_deadSet m_unknownOf m_nodeOf m_unknowns m_cells m_whole m_ordered m_drawnBy m_left m_aside m_bestDead m_bestAbove m_bestBelow m_widened m_widenedMany m_fewOf m_drawing ++ ex) (pI (fun z w => z = spUnsa m_world ∧ PubM g ρ ex m_world m_waysBack m_acts m_images m_hasImage m_tape m_taped m_faultKind m_faultPlace w)) := by
  refine XMet.of (L := [some (.ref (ρ 0)), none, none]) hG (by decide +kernel) (Nat.le_of_ble_eq_true rfl) rfl (fun K C E => ?_)
  refine r_aload_0 C dX5_unsafe_0 ?_
  refine r_cV0i C (c_X5_asksW hG hW) (q0 := 0) rfl rfl q1642 pkX5_asks dX5_unsafe_1 (fun z w h => ?_)
  obtain ⟨rfl, e, sm, ds, un, no, um, ce, wh, hs, rfl⟩ := h
  refine r_ifneB (tgt := 10) C dX5_unsafe_4 (by decide) (fun c_4 => ?_) (fun c_4 => ?_)
  · skip
    have hd := hW.gd4 c_4
    obtain ⟨he, hS, rfl, rfl, rfl, rfl⟩ := hs hd
    have hn := hd.n
    have hlm := lim_in hd
    have hl2 := hd.lim
    have key : ∀ (mm : Nat), ∀ (v s : Int) (o db lf : Int → Int), (0 ≤ v) → (v ≤ wN m_world) → (0 ≤ s ∧ s < 512) → (s = wUn m_world v) → (wN m_world - v).toNat = mm → AW g K (wM g ρ m_thrown m_world m_fresh m_waysBack m_acts m_images m_hasImage (e) (wS m_world) m_tape m_taped m_five m_size m_at m_from m_token m_value m_faultKind m_faultPlace m_budgetsTold m_loadsTold (wDead m_world) (un) (no) (wm m_world) (ce) (wWh m_world) (o) (db) (lf) m_aside m_bestDead m_bestAbove m_bestBelow m_widened m_widenedMany m_fewOf m_drawing ++ ex) 0 0 14 [some (.ref (ρ 0)), some (.int (jI s)), some (.int (jI v))] [] := by
      intro mm
      induction mm using Nat.strongRecOn with
      | _ mm ih =>
      intro v s o db lf hv0 hv hs0 es hm
      refine r_iload_2 C dX5_unsafe_14 ?_
      refine r_aload_0 C dX5_unsafe_15 ?_
      refine r_cV0i C (c_X5_nodes hG) (q0 := 0) rfl rfl q1654 pkX5_nodes dX5_unsafe_16 (fun z w h => ?_)
      obtain ⟨rfl, rfl⟩ := h
      refine r_topi (wN m_world) rfl ?_
      refine r_if_icmpge (tgt := 67) C dX5_unsafe_19 (by decide) (fun c_19 => ?_) (fun c_19 => ?_)
      · skip
        refine r_iload_1 C dX5_unsafe_67 ?_
        refine r_ireturn C E dX5_unsafe_68 ?_
        have e : v = wN m_world := by omega
        subst e
        exact ⟨_, rfl, by unfold spUnsa; rw [if_pos c_4, es], PubM.mk⟩
      · skip
        have hmo := wMo_in hd (exO (w := m_world) (nd := v) (by omega)) hv0 c_19
        have hP := bsP_9 hv0 (show v < 9 by omega)
        have hP0 := bsP_0 (k := v)
        refine r_iload_1 C dX5_unsafe_22 ?_
        refine r_aload_0 C dX5_unsafe_23 ?_
        refine r_iload_2 C dX5_unsafe_24 ?_
        refine r_cV1i C (c_X5_isDead hG hd rfl ⟨hv0, c_19⟩) (q0 := 0) rfl rfl q1694 pkX5_isDead dX5_unsafe_25 (fun z w h => ?_)
        obtain ⟨rfl, rfl⟩ := h
        refine r_ifneB (tgt := 58) C dX5_unsafe_28 (by decide) (fun c_28 => ?_) (fun c_28 => ?_)
        · skip
          refine r_iconst C dX5_unsafe_58 ?_
          refine r_ior C (_) dX5_unsafe_59 (jI_or (by omega) (by omega)) ?_
          refine r_istore_1 C dX5_unsafe_60 ?_
          refine r_iinc_2 C dX5_unsafe_61 ?_
          refine r_goto (tgt := 14) C dX5_unsafe_64 (by decide) ?_
          refine ih _ (show (wN m_world - (v + 1)).toNat < mm by omega) (v + 1) _ _ _ _ (by omega) (by omega) ⟨bsO_0, bsO_512 hs0.2 (by omega)⟩ ?_ rfl
          unfold wUn at es ⊢
          rw [foI_s _ _ hv0, ← es]
          first
            | rw [if_pos (And.intro hl c_48)]
            | rw [if_neg (fun q => by have := q.2; omega), bsO_z hs0.1]
            | rw [if_neg (fun q => by have := q.1; rw [c_28] at this; simp at this), bsO_z hs0.1]
        · skip
          have hl : bsB (wR m_world) v = true := by simpa using c_28
          refine r_aload_0 C dX5_unsafe_31 ?_
          refine r_iload_2 C dX5_unsafe_32 ?_
          refine r_cV1l C (c_X5_mostOf hG hd hS rfl ⟨hv0, c_19⟩) (q0 := 0) rfl rfl q1818 pkX5_mostOf dX5_unsafe_33 (fun z w h => ?_)
          obtain ⟨rfl, o, db, lf, rfl⟩ := h
          refine r_aload_0 C dX5_unsafe_36 ?_
          refine gM_world C q1386 dX5_unsafe_37 ?_
          refine r_iconst C dX5_unsafe_40 ?_
          refine ldM_world C dX5_unsafe_41 ?_
          refine r_i2l C dX5_unsafe_42 ?_
          refine r_aload_0 C dX5_unsafe_43 ?_
          refine gM_whole C q1411 dX5_unsafe_44 ?_
          refine r_lmul C dX5_unsafe_47 ?_
          refine r_lcmp_ifle (tgt := 58) C dX5_unsafe_48 dX5_unsafe_49 (by decide) (fun c_48 => ?_) (fun c_48 => ?_)
          · skip
            refine r_iconst C dX5_unsafe_58 ?_
            refine r_ior C (_) dX5_unsafe_59 (jI_or (by omega) (by omega)) ?_
            refine r_istore_1 C dX5_unsafe_60 ?_
            refine r_iinc_2 C dX5_unsafe_61 ?_
            refine r_goto (tgt := 14) C dX5_unsafe_64 (by decide) ?_
            refine ih _ (show (wN m_world - (v + 1)).toNat < mm by omega) (v + 1) _ _ _ _ (by omega) (by omega) ⟨bsO_0, bsO_512 hs0.2 (by omega)⟩ ?_ rfl
            unfold wUn at es ⊢
            rw [foI_s _ _ hv0, ← es]
            first
              | rw [if_pos (And.intro hl c_48)]
              | rw [if_neg (fun q => by have := q.2; omega), bsO_z hs0.1]
              | rw [if_neg (fun q => by have := q.1; rw [c_28] at this; simp at this), bsO_z hs0.1]
          · skip
            refine r_iconst C dX5_unsafe_52 ?_
            refine r_iload_2 C dX5_unsafe_53 ?_
            refine r_ishl C (_) dX5_unsafe_54 (jI_shl (by omega) (by omega)) ?_
            refine r_goto (tgt := 59) C dX5_unsafe_55 (by decide) ?_
            refine r_ior C (_) dX5_unsafe_59 (jI_or (by omega) (by omega)) ?_
            refine r_istore_1 C dX5_unsafe_60 ?_
            refine r_iinc_2 C dX5_unsafe_61 ?_
            refine r_goto (tgt := 14) C dX5_unsafe_64 (by decide) ?_
            refine ih _ (show (wN m_world - (v + 1)).toNat < mm by omega) (v + 1) _ _ _ _ (by omega) (by omega) ⟨bsO_0, bsO_512 hs0.2 (by omega)⟩ ?_ rfl
            unfold wUn at es ⊢
            rw [foI_s _ _ hv0, ← es]
            first
              | rw [if_pos (And.intro hl c_48)]
              | rw [if_neg (fun q => by have := q.2; omega), bsO_z hs0.1]
              | rw [if_neg (fun q => by have := q.1; rw [c_28] at this; simp at this), bsO_z hs0.1]
    refine r_iconst C dX5_unsafe_10 ?_
    refine r_istore_1 C dX5_unsafe_11 ?_
    refine r_iconst C dX5_unsafe_12 ?_
    refine r_istore_2 C dX5_unsafe_13 ?_
    exact key _ 0 0 _ _ _ (by omega) (by omega) (by omega) rfl rfl
  · skip
    refine r_bipush C dX5_unsafe_7 ?_
    refine r_ireturn C E dX5_unsafe_9 ?_
    exact ⟨_, rfl, by simp [spUnsa, *], PubM.mk⟩
end M16

