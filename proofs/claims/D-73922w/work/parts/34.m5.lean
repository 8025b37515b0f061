section M5
variable {g : GX} {ρ : Nat → Nat} {ex : va_W}
variable {m_thrown : Int} {m_world : Int → Int} {m_fresh : Int → Int} {m_waysBack : Int → Int} {m_acts : Int} {m_images : Int → Int} {m_hasImage : Int → Int} {m_endOf : Int → Int} {m_strapMany : Int} {m_tape : Int → Int} {m_taped : Int} {m_five : Int → Int} {m_size : Int} {m_at : Int} {m_from : Int} {m_token : Int} {m_value : Int} {m_faultKind : Int} {m_faultPlace : Int} {m_budgetsTold : Int} {m_loadsTold : Int} {m_deadSet : Int} {m_unknownOf : Int → Int} {m_nodeOf : Int → Int} {m_unknowns : Int} {m_cells : Int → Int} {m_whole : Int} {m_ordered : Int → Int} {m_drawnBy : Int → Int} {m_left : Int → Int} {m_aside : Int → Int} {m_bestDead : Int} {m_bestAbove : Int} {m_bestBelow : Int} {m_widened : Int → Int} {m_widenedMany : Int} {m_fewOf : Int → Int} {m_drawing : Int}
theorem c_X5_laysCells (hG : Gok g) {c r : Int} {iv : Int → Int} (hg : GW c r) (he : Ends c r m_endOf) (hs : m_strapMany = sN c r) (hm : 0 ≤ m_unknowns ∧ m_unknowns ≤ 9) (hu : ∀ v, 0 ≤ v → v < c * r → m_unknownOf v = iv v) (hi : ∀ v, 0 ≤ v → v < c * r → iv v = -1 ∨ (0 ≤ iv v ∧ iv v < m_unknowns)) (hj : ∀ u v, 0 ≤ u → u < c * r → 0 ≤ v → v < c * r → iv u = iv v → iv u ≠ -1 → u = v) (hw : ∀ k, 0 ≤ k → k < 12 → inR (m_world (28 + k))) : XMet g yX5_laysCells cX5_laysCells 6 none 1 0 0 [.ref (ρ 0)] (wM g ρ m_thrown m_world m_fresh m_waysBack m_acts m_images m_hasImage m_endOf m_strapMany m_tape m_taped m_five m_size m_at m_from m_token m_value m_faultKind m_faultPlace m_budgetsTold m_loadsTold m_deadSet m_unknownOf m_nodeOf m_unknowns m_cells m_whole m_ordered m_drawnBy m_left m_aside m_bestDead m_bestAbove m_bestBelow m_widened m_widenedMany m_fewOf m_drawing ++ ex) (pV (fun w => ∃ ce, Rep ce m_unknowns (bT (mA c r (fun k => m_world (28 + k)) iv (sN c r)) 0) ∧ w = (wM g ρ m_thrown m_world m_fresh m_waysBack m_acts m_images m_hasImage m_endOf m_strapMany m_tape m_taped m_five m_size m_at m_from m_token m_value m_faultKind m_faultPlace m_budgetsTold m_loadsTold m_deadSet m_unknownOf m_nodeOf m_unknowns (ce) m_whole m_ordered m_drawnBy m_left m_aside m_bestDead m_bestAbove m_bestBelow m_widened m_widenedMany m_fewOf m_drawing ++ ex))) := by
  refine XMet.of (L := [some (.ref (ρ 0)), none, none, none, none, none]) hG (by decide +kernel) (Nat.le_of_ble_eq_true rfl) rfl (fun K C E => ?_)
  have h12 := sN_12 hg
  have h00 := sN_0 (c := c) (r := r)
  have h9 := hg.2.2
  subst hs
  generalize hwd : (fun k => m_world (28 + k)) = wd
  have hwd' : ∀ k, m_world (28 + k) = wd k := fun k => by rw [← hwd]
  have key3 : ∀ (mm : Nat), ∀ (k : Int) (ce : Int → Int) (l2 l3 l4 l5 : Option Value), (0 ≤ k) → (k ≤ sN c r) → (Rep ce m_unknowns (bT (mA c r wd iv k) 0)) → (lo_n2 (some l2) = true) → (lo_n2 (some l3) = true) → (sN c r - k).toNat = mm → AW g K (wM g ρ m_thrown m_world m_fresh m_waysBack m_acts m_images m_hasImage m_endOf (sN c r) m_tape m_taped m_five m_size m_at m_from m_token m_value m_faultKind m_faultPlace m_budgetsTold m_loadsTold m_deadSet m_unknownOf m_nodeOf m_unknowns (ce) m_whole m_ordered m_drawnBy m_left m_aside m_bestDead m_bestAbove m_bestBelow m_widened m_widenedMany m_fewOf m_drawing ++ ex) 0 0 55 [some (.ref (ρ 0)), some (.int (jI k)), l2, l3, l4, l5] [] := by
    intro mm
    induction mm using Nat.strongRecOn with
    | _ mm ih =>
    intro k ce l2 l3 l4 l5 hk0 hk hR hn2 hn3 hm
    refine r_iload_1 C dX5_laysCells_55 ?_
    refine r_aload_0 C dX5_laysCells_56 ?_
    refine gM_strapMany C q1393 dX5_laysCells_57 ?_
    refine r_if_icmpge (tgt := 198) C dX5_laysCells_60 (by decide) (fun c_60 => ?_) (fun c_60 => ?_)
    · skip
      refine r_return C E dX5_laysCells_198 ?_
      have e : k = sN c r := by omega
      subst e
      exact ⟨rfl, ce, by rw [hwd]; exact hR, rfl⟩
    · skip
      refine r_aload_0 C dX5_laysCells_63 ?_
      refine gM_unknownOf C q1407 dX5_laysCells_64 ?_
      refine r_aload_0 C dX5_laysCells_67 ?_
      refine gM_endOf C q1392 dX5_laysCells_68 ?_
      refine r_iconst C dX5_laysCells_71 ?_
      refine r_iload_1 C dX5_laysCells_72 ?_
      refine r_imul C dX5_laysCells_73 ?_
      refine ldM_endOf C dX5_laysCells_74 ?_
      have q := sl_in hg hk0 c_60
      have qe := he k hk0 c_60
      have ia := hi (sF c r k) (by omega) (by omega)
      have ib := hi (sT c r k) (by omega) (by omega)
      have hne : iv (sF c r k) = iv (sT c r k) → iv (sF c r k) = -1 := fun z => Classical.byContradiction fun z2 => by
        have := hj _ _ (by omega) (by omega) (by omega) (by omega) z z2
        omega
      have hwk := hw k hk0 (by omega)
      refine r_topi (sF c r k) qe.1 ?_
      refine ldM_unknownOf C dX5_laysCells_75 ?_
      refine r_topi (iv (sF c r k)) (hu _ (by omega) (by omega)) ?_
      refine r_istore_2 C dX5_laysCells_76 ?_
      refine r_aload_0 C dX5_laysCells_77 ?_
      refine gM_unknownOf C q1407 dX5_laysCells_78 ?_
      refine r_aload_0 C dX5_laysCells_81 ?_
      refine gM_endOf C q1392 dX5_laysCells_82 ?_
      refine r_iconst C dX5_laysCells_85 ?_
      refine r_iload_1 C dX5_laysCells_86 ?_
      refine r_imul C dX5_laysCells_87 ?_
      refine r_iconst C dX5_laysCells_88 ?_
      refine r_iadd C dX5_laysCells_89 ?_
      refine ldM_endOf C dX5_laysCells_90 ?_
      refine r_topi (sT c r k) qe.2 ?_
      refine ldM_unknownOf C dX5_laysCells_91 ?_
      refine r_topi (iv (sT c r k)) (hu _ (by omega) (by omega)) ?_
      refine r_istore_3 C dX5_laysCells_92 ?_
      refine r_aload_0 C dX5_laysCells_93 ?_
      refine gM_world C q1386 dX5_laysCells_94 ?_
      refine r_bipush C dX5_laysCells_97 ?_
      refine r_iload_1 C dX5_laysCells_99 ?_
      refine r_iadd C dX5_laysCells_100 ?_
      refine ldM_world C dX5_laysCells_101 ?_
      refine r_topi (wd k) (hwd' k) ?_
      rw [hwd' k] at hwk
      refine r_i2l C dX5_laysCells_102 ?_
      refine r_lstore_4 C dX5_laysCells_103 ?_
      refine r_iload_2 C dX5_laysCells_105 ?_
      refine r_iconst C dX5_laysCells_106 ?_
      refine r_if_icmpeq (tgt := 126) C dX5_laysCells_107 (by decide) (fun c_107 => ?_) (fun c_107 => ?_)
      · skip
        refine r_iload_3 C dX5_laysCells_126 ?_
        refine r_iconst C dX5_laysCells_127 ?_
        refine r_if_icmpeq (tgt := 147) C dX5_laysCells_128 (by decide) (fun c_128 => ?_) (fun c_128 => ?_)
        · skip
          refine r_iload_2 C dX5_laysCells_147 ?_
          refine r_iconst C dX5_laysCells_148 ?_
          refine r_if_icmpeq (tgt := 192) C dX5_laysCells_149 (by decide) (fun c_149 => ?_) (fun c_149 => ?_)
          · skip
            refine r_iinc_1 C dX5_laysCells_192 ?_
            refine r_goto (tgt := 55) C dX5_laysCells_195 (by decide) ?_
            refine ih _ (show (sN c r - (k + 1)).toNat < mm by omega) (k + 1) _ _ _ _ _ (by omega) (by omega) ?_ rfl rfl rfl
            have base : ∀ i x : Int, bT (mA c r wd iv (k + 1)) 0 i x = if x < 9 then bT (mA c r wd iv k) 0 i x + ((if i = x ∧ (iv (sF c r k) = i ∨ iv (sT c r k) = i) then wd k else 0) - (if (iv (sF c r k) = i ∧ iv (sT c r k) = x) ∨ (iv (sT c r k) = i ∧ iv (sF c r k) = x) then wd k else 0)) else bT (mA c r wd iv k) 0 i x := by
              intro i x
              rw [bT_0, bT_0]
              split
              · unfold mA
                rw [foI_s _ _ hk0]
                rfl
              · rfl
            generalize iv (sF c r k) = a at *
            generalize iv (sT c r k) = b at *
            first
              | (exfalso; omega)
              | (refine hR.cong (fun i x h1 h2 h3 h4 => ?_)
                 rw [base]
                 repeat' split
                 all_goals omega)
              | (refine (hR.add (by omega) (by omega) (by omega) (by omega)).cong (fun i x h1 h2 h3 h4 => ?_)
                 rw [base]
                 repeat' split
                 all_goals omega)
              | (refine ((((hR.add (by omega) (by omega) (by omega) (by omega)).add (by omega) (by omega) (by omega) (by omega)).sub (by omega) (by omega) (by omega) (by omega)).sub (by omega) (by omega) (by omega) (by omega)).cong (fun i x h1 h2 h3 h4 => ?_)
                 rw [base]
                 repeat' split
                 all_goals omega)
          · skip
            refine r_iload_3 C dX5_laysCells_152 ?_
            refine r_iconst C dX5_laysCells_153 ?_
            refine r_if_icmpne (tgt := 160) C dX5_laysCells_154 (by decide) (fun c_154 => ?_) (fun c_154 => ?_)
            · skip
              refine r_aload_0 C dX5_laysCells_160 ?_
              refine gM_cells C q1410 dX5_laysCells_161 ?_
              refine r_bipush C dX5_laysCells_164 ?_
              refine r_iload_2 C dX5_laysCells_166 ?_
              refine r_imul C dX5_laysCells_167 ?_
              refine r_iload_3 C dX5_laysCells_168 ?_
              refine r_iadd C dX5_laysCells_169 ?_
              refine r_dup2 C dX5_laysCells_170 ?_
              refine ldM_cells C dX5_laysCells_171 ?_
              refine r_lload_4 C dX5_laysCells_172 ?_
              refine r_lsub C dX5_laysCells_174 ?_
              refine stM_cells C dX5_laysCells_175 ?_
              refine r_aload_0 C dX5_laysCells_176 ?_
              refine gM_cells C q1410 dX5_laysCells_177 ?_
              refine r_bipush C dX5_laysCells_180 ?_
              refine r_iload_3 C dX5_laysCells_182 ?_
              refine r_imul C dX5_laysCells_183 ?_
              refine r_iload_2 C dX5_laysCells_184 ?_
              refine r_iadd C dX5_laysCells_185 ?_
              refine r_dup2 C dX5_laysCells_186 ?_
              refine ldM_cells C dX5_laysCells_187 ?_
              refine r_lload_4 C dX5_laysCells_188 ?_
              refine r_lsub C dX5_laysCells_190 ?_
              refine stM_cells C dX5_laysCells_191 ?_
              refine r_iinc_1 C dX5_laysCells_192 ?_
              refine r_goto (tgt := 55) C dX5_laysCells_195 (by decide) ?_
              refine ih _ (show (sN c r - (k + 1)).toNat < mm by omega) (k + 1) _ _ _ _ _ (by omega) (by omega) ?_ rfl rfl rfl
              have base : ∀ i x : Int, bT (mA c r wd iv (k + 1)) 0 i x = if x < 9 then bT (mA c r wd iv k) 0 i x + ((if i = x ∧ (iv (sF c r k) = i ∨ iv (sT c r k) = i) then wd k else 0) - (if (iv (sF c r k) = i ∧ iv (sT c r k) = x) ∨ (iv (sT c r k) = i ∧ iv (sF c r k) = x) then wd k else 0)) else bT (mA c r wd iv k) 0 i x := by
                intro i x
                rw [bT_0, bT_0]
                split
                · unfold mA
                  rw [foI_s _ _ hk0]
                  rfl
                · rfl
              generalize iv (sF c r k) = a at *
              generalize iv (sT c r k) = b at *
              first
                | (exfalso; omega)
                | (refine hR.cong (fun i x h1 h2 h3 h4 => ?_)
                   rw [base]
                   repeat' split
                   all_goals omega)
                | (refine (hR.add (by omega) (by omega) (by omega) (by omega)).cong (fun i x h1 h2 h3 h4 => ?_)
                   rw [base]
                   repeat' split
                   all_goals omega)
                | (refine ((((hR.add (by omega) (by omega) (by omega) (by omega)).add (by omega) (by omega) (by omega) (by omega)).sub (by omega) (by omega) (by omega) (by omega)).sub (by omega) (by omega) (by omega) (by omega)).cong (fun i x h1 h2 h3 h4 => ?_)
                   rw [base]
                   repeat' split
                   all_goals omega)
            · skip
              refine r_goto (tgt := 192) C dX5_laysCells_157 (by decide) ?_
              refine r_iinc_1 C dX5_laysCells_192 ?_
              refine r_goto (tgt := 55) C dX5_laysCells_195 (by decide) ?_
              refine ih _ (show (sN c r - (k + 1)).toNat < mm by omega) (k + 1) _ _ _ _ _ (by omega) (by omega) ?_ rfl rfl rfl
              have base : ∀ i x : Int, bT (mA c r wd iv (k + 1)) 0 i x = if x < 9 then bT (mA c r wd iv k) 0 i x + ((if i = x ∧ (iv (sF c r k) = i ∨ iv (sT c r k) = i) then wd k else 0) - (if (iv (sF c r k) = i ∧ iv (sT c r k) = x) ∨ (iv (sT c r k) = i ∧ iv (sF c r k) = x) then wd k else 0)) else bT (mA c r wd iv k) 0 i x := by
                intro i x
                rw [bT_0, bT_0]
                split
                · unfold mA
                  rw [foI_s _ _ hk0]
                  rfl
                · rfl
              generalize iv (sF c r k) = a at *
              generalize iv (sT c r k) = b at *
              first
                | (exfalso; omega)
                | (refine hR.cong (fun i x h1 h2 h3 h4 => ?_)
                   rw [base]
                   repeat' split
                   all_goals omega)
                | (refine (hR.add (by omega) (by omega) (by omega) (by omega)).cong (fun i x h1 h2 h3 h4 => ?_)
                   rw [base]
                   repeat' split
                   all_goals omega)
                | (refine ((((hR.add (by omega) (by omega) (by omega) (by omega)).add (by omega) (by omega) (by omega) (by omega)).sub (by omega) (by omega) (by omega) (by omega)).sub (by omega) (by omega) (by omega) (by omega)).cong (fun i x h1 h2 h3 h4 => ?_)
                   rw [base]
                   repeat' split
                   all_goals omega)
        · skip
          refine r_aload_0 C dX5_laysCells_131 ?_
          refine gM_cells C q1410 dX5_laysCells_132 ?_
          refine r_bipush C dX5_laysCells_135 ?_
          refine r_iload_3 C dX5_laysCells_137 ?_
          refine r_imul C dX5_laysCells_138 ?_
          refine r_iload_3 C dX5_laysCells_139 ?_
          refine r_iadd C dX5_laysCells_140 ?_
          refine r_dup2 C dX5_laysCells_141 ?_
          refine ldM_cells C dX5_laysCells_142 ?_
          refine r_lload_4 C dX5_laysCells_143 ?_
          refine r_ladd C dX5_laysCells_145 ?_
          refine stM_cells C dX5_laysCells_146 ?_
          refine r_iload_2 C dX5_laysCells_147 ?_
          refine r_iconst C dX5_laysCells_148 ?_
          refine r_if_icmpeq (tgt := 192) C dX5_laysCells_149 (by decide) (fun c_149 => ?_) (fun c_149 => ?_)
          · skip
            refine r_iinc_1 C dX5_laysCells_192 ?_
            refine r_goto (tgt := 55) C dX5_laysCells_195 (by decide) ?_
            refine ih _ (show (sN c r - (k + 1)).toNat < mm by omega) (k + 1) _ _ _ _ _ (by omega) (by omega) ?_ rfl rfl rfl
            have base : ∀ i x : Int, bT (mA c r wd iv (k + 1)) 0 i x = if x < 9 then bT (mA c r wd iv k) 0 i x + ((if i = x ∧ (iv (sF c r k) = i ∨ iv (sT c r k) = i) then wd k else 0) - (if (iv (sF c r k) = i ∧ iv (sT c r k) = x) ∨ (iv (sT c r k) = i ∧ iv (sF c r k) = x) then wd k else 0)) else bT (mA c r wd iv k) 0 i x := by
              intro i x
              rw [bT_0, bT_0]
              split
              · unfold mA
                rw [foI_s _ _ hk0]
                rfl
              · rfl
            generalize iv (sF c r k) = a at *
            generalize iv (sT c r k) = b at *
            first
              | (exfalso; omega)
              | (refine hR.cong (fun i x h1 h2 h3 h4 => ?_)
                 rw [base]
                 repeat' split
                 all_goals omega)
              | (refine (hR.add (by omega) (by omega) (by omega) (by omega)).cong (fun i x h1 h2 h3 h4 => ?_)
                 rw [base]
                 repeat' split
                 all_goals omega)
              | (refine ((((hR.add (by omega) (by omega) (by omega) (by omega)).add (by omega) (by omega) (by omega) (by omega)).sub (by omega) (by omega) (by omega) (by omega)).sub (by omega) (by omega) (by omega) (by omega)).cong (fun i x h1 h2 h3 h4 => ?_)
                 rw [base]
                 repeat' split
                 all_goals omega)
          · skip
            refine r_iload_3 C dX5_laysCells_152 ?_
            refine r_iconst C dX5_laysCells_153 ?_
            refine r_if_icmpne (tgt := 160) C dX5_laysCells_154 (by decide) (fun c_154 => ?_) (fun c_154 => ?_)
            · skip
              refine r_aload_0 C dX5_laysCells_160 ?_
              refine gM_cells C q1410 dX5_laysCells_161 ?_
              refine r_bipush C dX5_laysCells_164 ?_
              refine r_iload_2 C dX5_laysCells_166 ?_
              refine r_imul C dX5_laysCells_167 ?_
              refine r_iload_3 C dX5_laysCells_168 ?_
              refine r_iadd C dX5_laysCells_169 ?_
              refine r_dup2 C dX5_laysCells_170 ?_
              refine ldM_cells C dX5_laysCells_171 ?_
              refine r_lload_4 C dX5_laysCells_172 ?_
              refine r_lsub C dX5_laysCells_174 ?_
              refine stM_cells C dX5_laysCells_175 ?_
              refine r_aload_0 C dX5_laysCells_176 ?_
              refine gM_cells C q1410 dX5_laysCells_177 ?_
              refine r_bipush C dX5_laysCells_180 ?_
              refine r_iload_3 C dX5_laysCells_182 ?_
              refine r_imul C dX5_laysCells_183 ?_
              refine r_iload_2 C dX5_laysCells_184 ?_
              refine r_iadd C dX5_laysCells_185 ?_
              refine r_dup2 C dX5_laysCells_186 ?_
              refine ldM_cells C dX5_laysCells_187 ?_
              refine r_lload_4 C dX5_laysCells_188 ?_
              refine r_lsub C dX5_laysCells_190 ?_
              refine stM_cells C dX5_laysCells_191 ?_
              refine r_iinc_1 C dX5_laysCells_192 ?_
              refine r_goto (tgt := 55) C dX5_laysCells_195 (by decide) ?_
              refine ih _ (show (sN c r - (k + 1)).toNat < mm by omega) (k + 1) _ _ _ _ _ (by omega) (by omega) ?_ rfl rfl rfl
              have base : ∀ i x : Int, bT (mA c r wd iv (k + 1)) 0 i x = if x < 9 then bT (mA c r wd iv k) 0 i x + ((if i = x ∧ (iv (sF c r k) = i ∨ iv (sT c r k) = i) then wd k else 0) - (if (iv (sF c r k) = i ∧ iv (sT c r k) = x) ∨ (iv (sT c r k) = i ∧ iv (sF c r k) = x) then wd k else 0)) else bT (mA c r wd iv k) 0 i x := by
                intro i x
                rw [bT_0, bT_0]
                split
                · unfold mA
                  rw [foI_s _ _ hk0]
                  rfl
                · rfl
              generalize iv (sF c r k) = a at *
              generalize iv (sT c r k) = b at *
              first
                | (exfalso; omega)
                | (refine hR.cong (fun i x h1 h2 h3 h4 => ?_)
                   rw [base]
                   repeat' split
                   all_goals omega)
                | (refine (hR.add (by omega) (by omega) (by omega) (by omega)).cong (fun i x h1 h2 h3 h4 => ?_)
                   rw [base]
                   repeat' split
                   all_goals omega)
                | (refine ((((hR.add (by omega) (by omega) (by omega) (by omega)).add (by omega) (by omega) (by omega) (by omega)).sub (by omega) (by omega) (by omega) (by omega)).sub (by omega) (by omega) (by omega) (by omega)).cong (fun i x h1 h2 h3 h4 => ?_)
                   rw [base]
                   repeat' split
                   all_goals omega)
            · skip
              refine r_goto (tgt := 192) C dX5_laysCells_157 (by decide) ?_
              refine r_iinc_1 C dX5_laysCells_192 ?_
              refine r_goto (tgt := 55) C dX5_laysCells_195 (by decide) ?_
              refine ih _ (show (sN c r - (k + 1)).toNat < mm by omega) (k + 1) _ _ _ _ _ (by omega) (by omega) ?_ rfl rfl rfl
              have base : ∀ i x : Int, bT (mA c r wd iv (k + 1)) 0 i x = if x < 9 then bT (mA c r wd iv k) 0 i x + ((if i = x ∧ (iv (sF c r k) = i ∨ iv (sT c r k) = i) then wd k else 0) - (if (iv (sF c r k) = i ∧ iv (sT c r k) = x) ∨ (iv (sT c r k) = i ∧ iv (sF c r k) = x) then wd k else 0)) else bT (mA c r wd iv k) 0 i x := by
                intro i x
                rw [bT_0, bT_0]
                split
                · unfold mA
                  rw [foI_s _ _ hk0]
                  rfl
                · rfl
              generalize iv (sF c r k) = a at *
              generalize iv (sT c r k) = b at *
              first
                | (exfalso; omega)
                | (refine hR.cong (fun i x h1 h2 h3 h4 => ?_)
                   rw [base]
                   repeat' split
                   all_goals omega)
                | (refine (hR.add (by omega) (by omega) (by omega) (by omega)).cong (fun i x h1 h2 h3 h4 => ?_)
                   rw [base]
                   repeat' split
                   all_goals omega)
                | (refine ((((hR.add (by omega) (by omega) (by omega) (by omega)).add (by omega) (by omega) (by omega) (by omega)).sub (by omega) (by omega) (by omega) (by omega)).sub (by omega) (by omega) (by omega) (by omega)).cong (fun i x h1 h2 h3 h4 => ?_)
                   rw [base]
                   repeat' split
                   all_goals omega)
      · skip
        refine r_aload_0 C dX5_laysCells_110 ?_
        refine gM_cells C q1410 dX5_laysCells_111 ?_
        refine r_bipush C dX5_laysCells_114 ?_
        refine r_iload_2 C dX5_laysCells_116 ?_
        refine r_imul C dX5_laysCells_117 ?_
        refine r_iload_2 C dX5_laysCells_118 ?_
        refine r_iadd C dX5_laysCells_119 ?_
        refine r_dup2 C dX5_laysCells_120 ?_
        refine ldM_cells C dX5_laysCells_121 ?_
        refine r_lload_4 C dX5_laysCells_122 ?_
        refine r_ladd C dX5_laysCells_124 ?_
        refine stM_cells C dX5_laysCells_125 ?_
        refine r_iload_3 C dX5_laysCells_126 ?_
        refine r_iconst C dX5_laysCells_127 ?_
        refine r_if_icmpeq (tgt := 147) C dX5_laysCells_128 (by decide) (fun c_128 => ?_) (fun c_128 => ?_)
        · skip
          refine r_iload_2 C dX5_laysCells_147 ?_
          refine r_iconst C dX5_laysCells_148 ?_
          refine r_if_icmpeq (tgt := 192) C dX5_laysCells_149 (by decide) (fun c_149 => ?_) (fun c_149 => ?_)
          · skip
            refine r_iinc_1 C dX5_laysCells_192 ?_
            refine r_goto (tgt := 55) C dX5_laysCells_195 (by decide) ?_
            refine ih _ (show (sN c r - (k + 1)).toNat < mm by omega) (k + 1) _ _ _ _ _ (by omega) (by omega) ?_ rfl rfl rfl
            have base : ∀ i x : Int, bT (mA c r wd iv (k + 1)) 0 i x = if x < 9 then bT (mA c r wd iv k) 0 i x + ((if i = x ∧ (iv (sF c r k) = i ∨ iv (sT c r k) = i) then wd k else 0) - (if (iv (sF c r k) = i ∧ iv (sT c r k) = x) ∨ (iv (sT c r k) = i ∧ iv (sF c r k) = x) then wd k else 0)) else bT (mA c r wd iv k) 0 i x := by
              intro i x
              rw [bT_0, bT_0]
              split
              · unfold mA
                rw [foI_s _ _ hk0]
                rfl
              · rfl
            generalize iv (sF c r k) = a at *
            generalize iv (sT c r k) = b at *
            first
              | (exfalso; omega)
              | (refine hR.cong (fun i x h1 h2 h3 h4 => ?_)
                 rw [base]
                 repeat' split
                 all_goals omega)
              | (refine (hR.add (by omega) (by omega) (by omega) (by omega)).cong (fun i x h1 h2 h3 h4 => ?_)
                 rw [base]
                 repeat' split
                 all_goals omega)
              | (refine ((((hR.add (by omega) (by omega) (by omega) (by omega)).add (by omega) (by omega) (by omega) (by omega)).sub (by omega) (by omega) (by omega) (by omega)).sub (by omega) (by omega) (by omega) (by omega)).cong (fun i x h1 h2 h3 h4 => ?_)
                 rw [base]
                 repeat' split
                 all_goals omega)
          · skip
            refine r_iload_3 C dX5_laysCells_152 ?_
            refine r_iconst C dX5_laysCells_153 ?_
            refine r_if_icmpne (tgt := 160) C dX5_laysCells_154 (by decide) (fun c_154 => ?_) (fun c_154 => ?_)
            · skip
              refine r_aload_0 C dX5_laysCells_160 ?_
              refine gM_cells C q1410 dX5_laysCells_161 ?_
              refine r_bipush C dX5_laysCells_164 ?_
              refine r_iload_2 C dX5_laysCells_166 ?_
              refine r_imul C dX5_laysCells_167 ?_
              refine r_iload_3 C dX5_laysCells_168 ?_
              refine r_iadd C dX5_laysCells_169 ?_
              refine r_dup2 C dX5_laysCells_170 ?_
              refine ldM_cells C dX5_laysCells_171 ?_
              refine r_lload_4 C dX5_laysCells_172 ?_
              refine r_lsub C dX5_laysCells_174 ?_
              refine stM_cells C dX5_laysCells_175 ?_
              refine r_aload_0 C dX5_laysCells_176 ?_
              refine gM_cells C q1410 dX5_laysCells_177 ?_
              refine r_bipush C dX5_laysCells_180 ?_
              refine r_iload_3 C dX5_laysCells_182 ?_
              refine r_imul C dX5_laysCells_183 ?_
              refine r_iload_2 C dX5_laysCells_184 ?_
              refine r_iadd C dX5_laysCells_185 ?_
              refine r_dup2 C dX5_laysCells_186 ?_
              refine ldM_cells C dX5_laysCells_187 ?_
              refine r_lload_4 C dX5_laysCells_188 ?_
              refine r_lsub C dX5_laysCells_190 ?_
              refine stM_cells C dX5_laysCells_191 ?_
              refine r_iinc_1 C dX5_laysCells_192 ?_
              refine r_goto (tgt := 55) C dX5_laysCells_195 (by decide) ?_
              refine ih _ (show (sN c r - (k + 1)).toNat < mm by omega) (k + 1) _ _ _ _ _ (by omega) (by omega) ?_ rfl rfl rfl
              have base : ∀ i x : Int, bT (mA c r wd iv (k + 1)) 0 i x = if x < 9 then bT (mA c r wd iv k) 0 i x + ((if i = x ∧ (iv (sF c r k) = i ∨ iv (sT c r k) = i) then wd k else 0) - (if (iv (sF c r k) = i ∧ iv (sT c r k) = x) ∨ (iv (sT c r k) = i ∧ iv (sF c r k) = x) then wd k else 0)) else bT (mA c r wd iv k) 0 i x := by
                intro i x
                rw [bT_0, bT_0]
                split
                · unfold mA
                  rw [foI_s _ _ hk0]
                  rfl
                · rfl
              generalize iv (sF c r k) = a at *
              generalize iv (sT c r k) = b at *
              first
                | (exfalso; omega)
                | (refine hR.cong (fun i x h1 h2 h3 h4 => ?_)
                   rw [base]
                   repeat' split
                   all_goals omega)
                | (refine (hR.add (by omega) (by omega) (by omega) (by omega)).cong (fun i x h1 h2 h3 h4 => ?_)
                   rw [base]
                   repeat' split
                   all_goals omega)
                | (refine ((((hR.add (by omega) (by omega) (by omega) (by omega)).add (by omega) (by omega) (by omega) (by omega)).sub (by omega) (by omega) (by omega) (by omega)).sub (by omega) (by omega) (by omega) (by omega)).cong (fun i x h1 h2 h3 h4 => ?_)
                   rw [base]
                   repeat' split
                   all_goals omega)
            · skip
              refine r_goto (tgt := 192) C dX5_laysCells_157 (by decide) ?_
              refine r_iinc_1 C dX5_laysCells_192 ?_
              refine r_goto (tgt := 55) C dX5_laysCells_195 (by decide) ?_
              refine ih _ (show (sN c r - (k + 1)).toNat < mm by omega) (k + 1) _ _ _ _ _ (by omega) (by omega) ?_ rfl rfl rfl
              have base : ∀ i x : Int, bT (mA c r wd iv (k + 1)) 0 i x = if x < 9 then bT (mA c r wd iv k) 0 i x + ((if i = x ∧ (iv (sF c r k) = i ∨ iv (sT c r k) = i) then wd k else 0) - (if (iv (sF c r k) = i ∧ iv (sT c r k) = x) ∨ (iv (sT c r k) = i ∧ iv (sF c r k) = x) then wd k else 0)) else bT (mA c r wd iv k) 0 i x := by
                intro i x
                rw [bT_0, bT_0]
                split
                · unfold mA
                  rw [foI_s _ _ hk0]
                  rfl
                · rfl
              generalize iv (sF c r k) = a at *
              generalize iv (sT c r k) = b at *
              first
                | (exfalso; omega)
                | (refine hR.cong (fun i x h1 h2 h3 h4 => ?_)
                   rw [base]
                   repeat' split
                   all_goals omega)
                | (refine (hR.add (by omega) (by omega) (by omega) (by omega)).cong (fun i x h1 h2 h3 h4 => ?_)
                   rw [base]
                   repeat' split
                   all_goals omega)
                | (refine ((((hR.add (by omega) (by omega) (by omega) (by omega)).add (by omega) (by omega) (by omega) (by omega)).sub (by omega) (by omega) (by omega) (by omega)).sub (by omega) (by omega) (by omega) (by omega)).cong (fun i x h1 h2 h3 h4 => ?_)
                   rw [base]
                   repeat' split
                   all_goals omega)
        · skip
          refine r_aload_0 C dX5_laysCells_131 ?_
          refine gM_cells C q1410 dX5_laysCells_132 ?_
          refine r_bipush C dX5_laysCells_135 ?_
          refine r_iload_3 C dX5_laysCells_137 ?_
          refine r_imul C dX5_laysCells_138 ?_
          refine r_iload_3 C dX5_laysCells_139 ?_
          refine r_iadd C dX5_laysCells_140 ?_
          refine r_dup2 C dX5_laysCells_141 ?_
          refine ldM_cells C dX5_laysCells_142 ?_
          refine r_lload_4 C dX5_laysCells_143 ?_
          refine r_ladd C dX5_laysCells_145 ?_
          refine stM_cells C dX5_laysCells_146 ?_
          refine r_iload_2 C dX5_laysCells_147 ?_
          refine r_iconst C dX5_laysCells_148 ?_
          refine r_if_icmpeq (tgt := 192) C dX5_laysCells_149 (by decide) (fun c_149 => ?_) (fun c_149 => ?_)
          · skip
            refine r_iinc_1 C dX5_laysCells_192 ?_
            refine r_goto (tgt := 55) C dX5_laysCells_195 (by decide) ?_
            refine ih _ (show (sN c r - (k + 1)).toNat < mm by omega) (k + 1) _ _ _ _ _ (by omega) (by omega) ?_ rfl rfl rfl
            have base : ∀ i x : Int, bT (mA c r wd iv (k + 1)) 0 i x = if x < 9 then bT (mA c r wd iv k) 0 i x + ((if i = x ∧ (iv (sF c r k) = i ∨ iv (sT c r k) = i) then wd k else 0) - (if (iv (sF c r k) = i ∧ iv (sT c r k) = x) ∨ (iv (sT c r k) = i ∧ iv (sF c r k) = x) then wd k else 0)) else bT (mA c r wd iv k) 0 i x := by
              intro i x
              rw [bT_0, bT_0]
              split
              · unfold mA
                rw [foI_s _ _ hk0]
                rfl
              · rfl
            generalize iv (sF c r k) = a at *
            generalize iv (sT c r k) = b at *
            first
              | (exfalso; omega)
              | (refine hR.cong (fun i x h1 h2 h3 h4 => ?_)
                 rw [base]
                 repeat' split
                 all_goals omega)
              | (refine (hR.add (by omega) (by omega) (by omega) (by omega)).cong (fun i x h1 h2 h3 h4 => ?_)
                 rw [base]
                 repeat' split
                 all_goals omega)
              | (refine ((((hR.add (by omega) (by omega) (by omega) (by omega)).add (by omega) (by omega) (by omega) (by omega)).sub (by omega) (by omega) (by omega) (by omega)).sub (by omega) (by omega) (by omega) (by omega)).cong (fun i x h1 h2 h3 h4 => ?_)
                 rw [base]
                 repeat' split
                 all_goals omega)
          · skip
            refine r_iload_3 C dX5_laysCells_152 ?_
            refine r_iconst C dX5_laysCells_153 ?_
            refine r_if_icmpne (tgt := 160) C dX5_laysCells_154 (by decide) (fun c_154 => ?_) (fun c_154 => ?_)
            · skip
              refine r_aload_0 C dX5_laysCells_160 ?_
              refine gM_cells C q1410 dX5_laysCells_161 ?_
              refine r_bipush C dX5_laysCells_164 ?_
              refine r_iload_2 C dX5_laysCells_166 ?_
              refine r_imul C dX5_laysCells_167 ?_
              refine r_iload_3 C dX5_laysCells_168 ?_
              refine r_iadd C dX5_laysCells_169 ?_
              refine r_dup2 C dX5_laysCells_170 ?_
              refine ldM_cells C dX5_laysCells_171 ?_
              refine r_lload_4 C dX5_laysCells_172 ?_
              refine r_lsub C dX5_laysCells_174 ?_
              refine stM_cells C dX5_laysCells_175 ?_
              refine r_aload_0 C dX5_laysCells_176 ?_
              refine gM_cells C q1410 dX5_laysCells_177 ?_
              refine r_bipush C dX5_laysCells_180 ?_
              refine r_iload_3 C dX5_laysCells_182 ?_
              refine r_imul C dX5_laysCells_183 ?_
              refine r_iload_2 C dX5_laysCells_184 ?_
              refine r_iadd C dX5_laysCells_185 ?_
              refine r_dup2 C dX5_laysCells_186 ?_
              refine ldM_cells C dX5_laysCells_187 ?_
              refine r_lload_4 C dX5_laysCells_188 ?_
              refine r_lsub C dX5_laysCells_190 ?_
              refine stM_cells C dX5_laysCells_191 ?_
              refine r_iinc_1 C dX5_laysCells_192 ?_
              refine r_goto (tgt := 55) C dX5_laysCells_195 (by decide) ?_
              refine ih _ (show (sN c r - (k + 1)).toNat < mm by omega) (k + 1) _ _ _ _ _ (by omega) (by omega) ?_ rfl rfl rfl
              have base : ∀ i x : Int, bT (mA c r wd iv (k + 1)) 0 i x = if x < 9 then bT (mA c r wd iv k) 0 i x + ((if i = x ∧ (iv (sF c r k) = i ∨ iv (sT c r k) = i) then wd k else 0) - (if (iv (sF c r k) = i ∧ iv (sT c r k) = x) ∨ (iv (sT c r k) = i ∧ iv (sF c r k) = x) then wd k else 0)) else bT (mA c r wd iv k) 0 i x := by
                intro i x
                rw [bT_0, bT_0]
                split
                · unfold mA
                  rw [foI_s _ _ hk0]
                  rfl
                · rfl
              generalize iv (sF c r k) = a at *
              generalize iv (sT c r k) = b at *
              first
                | (exfalso; omega)
                | (refine hR.cong (fun i x h1 h2 h3 h4 => ?_)
                   rw [base]
                   repeat' split
                   all_goals omega)
                | (refine (hR.add (by omega) (by omega) (by omega) (by omega)).cong (fun i x h1 h2 h3 h4 => ?_)
                   rw [base]
                   repeat' split
                   all_goals omega)
                | (refine ((((hR.add (by omega) (by omega) (by omega) (by omega)).add (by omega) (by omega) (by omega) (by omega)).sub (by omega) (by omega) (by omega) (by omega)).sub (by omega) (by omega) (by omega) (by omega)).cong (fun i x h1 h2 h3 h4 => ?_)
                   rw [base]
                   repeat' split
                   all_goals omega)
            · skip
              refine r_goto (tgt := 192) C dX5_laysCells_157 (by decide) ?_
              refine r_iinc_1 C dX5_laysCells_192 ?_
              refine r_goto (tgt := 55) C dX5_laysCells_195 (by decide) ?_
              refine ih _ (show (sN c r - (k + 1)).toNat < mm by omega) (k + 1) _ _ _ _ _ (by omega) (by omega) ?_ rfl rfl rfl
              have base : ∀ i x : Int, bT (mA c r wd iv (k + 1)) 0 i x = if x < 9 then bT (mA c r wd iv k) 0 i x + ((if i = x ∧ (iv (sF c r k) = i ∨ iv (sT c r k) = i) then wd k else 0) - (if (iv (sF c r k) = i ∧ iv (sT c r k) = x) ∨ (iv (sT c r k) = i ∧ iv (sF c r k) = x) then wd k else 0)) else bT (mA c r wd iv k) 0 i x := by
                intro i x
                rw [bT_0, bT_0]
                split
                · unfold mA
                  rw [foI_s _ _ hk0]
                  rfl
                · rfl
              generalize iv (sF c r k) = a at *
              generalize iv (sT c r k) = b at *
              first
                | (exfalso; omega)
                | (refine hR.cong (fun i x h1 h2 h3 h4 => ?_)
                   rw [base]
                   repeat' split
                   all_goals omega)
                | (refine (hR.add (by omega) (by omega) (by omega) (by omega)).cong (fun i x h1 h2 h3 h4 => ?_)
                   rw [base]
                   repeat' split
                   all_goals omega)
                | (refine ((((hR.add (by omega) (by omega) (by omega) (by omega)).add (by omega) (by omega) (by omega) (by omega)).sub (by omega) (by omega) (by omega) (by omega)).sub (by omega) (by omega) (by omega) (by omega)).cong (fun i x h1 h2 h3 h4 => ?_)
                   rw [base]
                   repeat' split
                   all_goals omega)
  have key2 : ∀ (mm : Nat), ∀ (u : Int) (ce : Int → Int) (l2 l3 l4 l5 : Option Value), (0 ≤ u) → (u ≤ m_unknowns) → (Rep ce m_unknowns (fun i x => if x = 9 + i ∧ i < u then 1 else 0)) → (lo_n2 (some l2) = true) → (lo_n2 (some l3) = true) → (m_unknowns - u).toNat = mm → AW g K (wM g ρ m_thrown m_world m_fresh m_waysBack m_acts m_images m_hasImage m_endOf (sN c r) m_tape m_taped m_five m_size m_at m_from m_token m_value m_faultKind m_faultPlace m_budgetsTold m_loadsTold m_deadSet m_unknownOf m_nodeOf m_unknowns (ce) m_whole m_ordered m_drawnBy m_left m_aside m_bestDead m_bestAbove m_bestBelow m_widened m_widenedMany m_fewOf m_drawing ++ ex) 0 0 24 [some (.ref (ρ 0)), some (.int (jI u)), l2, l3, l4, l5] [] := by
    intro mm
    induction mm using Nat.strongRecOn with
    | _ mm ih =>
    intro u ce l2 l3 l4 l5 hu0 hu1 hR hn2 hn3 hm
    refine r_iload_1 C dX5_laysCells_24 ?_
    refine r_aload_0 C dX5_laysCells_25 ?_
    refine gM_unknowns C q1409 dX5_laysCells_26 ?_
    refine r_if_icmpge (tgt := 53) C dX5_laysCells_29 (by decide) (fun c_29 => ?_) (fun c_29 => ?_)
    · skip
      refine r_iconst C dX5_laysCells_53 ?_
      refine r_istore_1 C dX5_laysCells_54 ?_
      refine key3 _ 0 ce _ _ _ _ (by omega) (by omega) ?_ hn2 hn3 rfl
      refine hR.cong (fun i x h1 h2 h3 h4 => ?_)
      rw [bT_0]
      have : mA c r wd iv 0 i x = 0 := rfl
      rw [this]
      repeat' split
      all_goals omega
    · skip
      refine r_aload_0 C dX5_laysCells_32 ?_
      refine gM_cells C q1410 dX5_laysCells_33 ?_
      refine r_bipush C dX5_laysCells_36 ?_
      refine r_iload_1 C dX5_laysCells_38 ?_
      refine r_imul C dX5_laysCells_39 ?_
      refine r_bipush C dX5_laysCells_40 ?_
      refine r_iadd C dX5_laysCells_42 ?_
      refine r_iload_1 C dX5_laysCells_43 ?_
      refine r_iadd C dX5_laysCells_44 ?_
      refine r_lconst1 C dX5_laysCells_45 ?_
      rw [show 18 * u + 9 + u = 18 * u + (9 + u) by omega]
      refine stM_cells C dX5_laysCells_46 ?_
      refine r_iinc_1 C dX5_laysCells_47 ?_
      refine r_goto (tgt := 24) C dX5_laysCells_50 (by decide) ?_
      refine ih _ (show (m_unknowns - (u + 1)).toNat < mm by omega) (u + 1) _ _ _ _ _ (by omega) (by omega) ?_ hn2 hn3 rfl
      refine (hR.set (by omega) (by omega)).cong (fun i x h1 h2 h3 h4 => ?_)
      repeat' split
      all_goals first
        | rfl
        | omega
  have key1 : ∀ (mm : Nat), ∀ (i : Int) (ce : Int → Int) (l2 l3 l4 l5 : Option Value), (0 ≤ i) → (i ≤ 162) → (∀ j, 0 ≤ j → j < i → ce j = 0) → (lo_n2 (some l2) = true) → (lo_n2 (some l3) = true) → (162 - i).toNat = mm → AW g K (wM g ρ m_thrown m_world m_fresh m_waysBack m_acts m_images m_hasImage m_endOf (sN c r) m_tape m_taped m_five m_size m_at m_from m_token m_value m_faultKind m_faultPlace m_budgetsTold m_loadsTold m_deadSet m_unknownOf m_nodeOf m_unknowns (ce) m_whole m_ordered m_drawnBy m_left m_aside m_bestDead m_bestAbove m_bestBelow m_widened m_widenedMany m_fewOf m_drawing ++ ex) 0 0 2 [some (.ref (ρ 0)), some (.int (jI i)), l2, l3, l4, l5] [] := by
    intro mm
    induction mm using Nat.strongRecOn with
    | _ mm ih =>
    intro i ce l2 l3 l4 l5 hi0 hi1 hz hn2 hn3 hm
    refine r_iload_1 C dX5_laysCells_2 ?_
    refine r_sipush C dX5_laysCells_3 ?_
    refine r_if_icmpge (tgt := 22) C dX5_laysCells_6 (by decide) (fun c_6 => ?_) (fun c_6 => ?_)
    · skip
      refine r_iconst C dX5_laysCells_22 ?_
      refine r_istore_1 C dX5_laysCells_23 ?_
      refine key2 _ 0 ce _ _ _ _ (by omega) (by omega) (fun x y h1 h2 h3 h4 => ?_) hn2 hn3 rfl
      rw [hz _ (by omega) (by omega)]
      show (0 : Int) = if y = 9 + x ∧ x < 0 then 1 else 0
      rw [if_neg (by omega)]
    · skip
      refine r_aload_0 C dX5_laysCells_9 ?_
      refine gM_cells C q1410 dX5_laysCells_10 ?_
      refine r_iload_1 C dX5_laysCells_13 ?_
      refine r_lconst0 C dX5_laysCells_14 ?_
      refine stM_cells C dX5_laysCells_15 ?_
      refine r_iinc_1 C dX5_laysCells_16 ?_
      refine r_goto (tgt := 2) C dX5_laysCells_19 (by decide) ?_
      refine ih _ (show (162 - (i + 1)).toNat < mm by omega) (i + 1) _ _ _ _ _ (by omega) (by omega) (fun j h1 h2 => ?_) hn2 hn3 rfl
      by_cases e : j = i
      · rw [e, aset_at]
      · rw [aset_ne e]
        exact hz j h1 (by omega)
  refine r_iconst C dX5_laysCells_0 ?_
  refine r_istore_1 C dX5_laysCells_1 ?_
  exact key1 _ 0 _ _ _ _ _ (by omega) (by omega) (fun j h1 h2 => by omega) rfl rfl rfl
end M5

