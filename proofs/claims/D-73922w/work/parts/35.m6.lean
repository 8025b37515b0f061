section M6
variable {g : GX} {ρ : Nat → Nat} {ex : va_W}
variable {m_thrown : Int} {m_world : Int → Int} {m_fresh : Int → Int} {m_waysBack : Int → Int} {m_acts : Int} {m_images : Int → Int} {m_hasImage : Int → Int} {m_endOf : Int → Int} {m_strapMany : Int} {m_tape : Int → Int} {m_taped : Int} {m_five : Int → Int} {m_size : Int} {m_at : Int} {m_from : Int} {m_token : Int} {m_value : Int} {m_faultKind : Int} {m_faultPlace : Int} {m_budgetsTold : Int} {m_loadsTold : Int} {m_deadSet : Int} {m_unknownOf : Int → Int} {m_nodeOf : Int → Int} {m_unknowns : Int} {m_cells : Int → Int} {m_whole : Int} {m_ordered : Int → Int} {m_drawnBy : Int → Int} {m_left : Int → Int} {m_aside : Int → Int} {m_bestDead : Int} {m_bestAbove : Int} {m_bestBelow : Int} {m_widened : Int → Int} {m_widenedMany : Int} {m_fewOf : Int → Int} {m_drawing : Int}
theorem c_X5_brings (hG : Gok g) {A : Int → Int → Int} (hm9 : 0 ≤ m_unknowns ∧ m_unknowns ≤ 9) (hR0 : Rep m_cells m_unknowns (bT A 0)) (hok : BrOk A m_unknowns) : XMet g yX5_brings cX5_brings 8 none 0 0 0 [.ref (ρ 0)] (wM g ρ m_thrown m_world m_fresh m_waysBack m_acts m_images m_hasImage m_endOf m_strapMany m_tape m_taped m_five m_size m_at m_from m_token m_value m_faultKind m_faultPlace m_budgetsTold m_loadsTold m_deadSet m_unknownOf m_nodeOf m_unknowns m_cells m_whole m_ordered m_drawnBy m_left m_aside m_bestDead m_bestAbove m_bestBelow m_widened m_widenedMany m_fewOf m_drawing ++ ex) (pV (fun w => ∃ ce, Rep ce m_unknowns (bT A m_unknowns.toNat) ∧ w = (wM g ρ m_thrown m_world m_fresh m_waysBack m_acts m_images m_hasImage m_endOf m_strapMany m_tape m_taped m_five m_size m_at m_from m_token m_value m_faultKind m_faultPlace m_budgetsTold m_loadsTold m_deadSet m_unknownOf m_nodeOf m_unknowns (ce) (bV A m_unknowns.toNat) m_ordered m_drawnBy m_left m_aside m_bestDead m_bestAbove m_bestBelow m_widened m_widenedMany m_fewOf m_drawing ++ ex))) := by
  refine XMet.of (L := [some (.ref (ρ 0)), none, none, none, none, none, none, none]) hG (by decide +kernel) (Nat.le_of_ble_eq_true rfl) rfl (fun K C E => ?_)
  have key : ∀ (mm : Nat), ∀ (q : Int) (ce : Int → Int) (l2 l3 l4 l5 l6 l7 : Option Value), (0 ≤ q) → (q ≤ m_unknowns) → (Rep ce m_unknowns (bT A q.toNat)) → (lo_n2 (some l3) = true) → (lo_n2 (some l4) = true) → (lo_n2 (some l6) = true) → (m_unknowns - q).toNat = mm → AW g K (wM g ρ m_thrown m_world m_fresh m_waysBack m_acts m_images m_hasImage m_endOf m_strapMany m_tape m_taped m_five m_size m_at m_from m_token m_value m_faultKind m_faultPlace m_budgetsTold m_loadsTold m_deadSet m_unknownOf m_nodeOf m_unknowns (ce) (bV A q.toNat) m_ordered m_drawnBy m_left m_aside m_bestDead m_bestAbove m_bestBelow m_widened m_widenedMany m_fewOf m_drawing ++ ex) 0 0 7 [some (.ref (ρ 0)), some (.int (jI q)), l2, l3, l4, l5, l6, l7] [] := by
    intro mm
    induction mm using Nat.strongRecOn with
    | _ mm ih =>
    intro q ce l2 l3 l4 l5 l6 l7 hq0 hq hR hn3 hn4 hn6 hm
    have eq : ((q.toNat : Nat) : Int) = q := by omega
    have hnew : ∀ i x : Int, bT A (q + 1).toNat i x = if i = q then bT A q.toNat i x else Int.tdiv (bT A q.toNat i x * bT A q.toNat q q - bT A q.toNat q x * bT A q.toNat i q) (bV A q.toNat) := by
      intro i x
      rw [show (q + 1).toNat = q.toNat + 1 by omega, bT_s, eq]
    have hvq := hok.2 q.toNat (by omega)
    have hup : q < m_unknowns → ∀ (mm2 : Nat) (u : Int) (ce : Int → Int) (l5 l6 l7 : Option Value), 0 ≤ u → u ≤ m_unknowns → Rep ce m_unknowns (fun i x => if i < u then bT A (q + 1).toNat i x else bT A q.toNat i x) → lo_n2 (some l6) = true → (m_unknowns - u).toNat = mm2 → AW g K (wM g ρ m_thrown m_world m_fresh m_waysBack m_acts m_images m_hasImage m_endOf m_strapMany m_tape m_taped m_five m_size m_at m_from m_token m_value m_faultKind m_faultPlace m_budgetsTold m_loadsTold m_deadSet m_unknownOf m_nodeOf m_unknowns (ce) (bV A q.toNat) m_ordered m_drawnBy m_left m_aside m_bestDead m_bestAbove m_bestBelow m_widened m_widenedMany m_fewOf m_drawing ++ ex) 0 0 30 [some (.ref (ρ 0)), some (.int (jI q)), some (.long (jL (bT A q.toNat q q))), none, some (.int (jI u)), l5, l6, l7] [] := by
      intro hlt mm2
      induction mm2 using Nat.strongRecOn with
      | _ mm2 ih2 =>
      intro u ce l5 l6 l7 hu0 hu hR hn6 hm2
      have hcol : u < m_unknowns → ∀ (mm3 : Nat) (x : Int) (ce : Int → Int), 0 ≤ x → x ≤ 18 → Rep ce m_unknowns (fun i y => if i < u ∨ (i = u ∧ y < x ∧ u ≠ q) then bT A (q + 1).toNat i y else bT A q.toNat i y) → (18 - x).toNat = mm3 → AW g K (wM g ρ m_thrown m_world m_fresh m_waysBack m_acts m_images m_hasImage m_endOf m_strapMany m_tape m_taped m_five m_size m_at m_from m_token m_value m_faultKind m_faultPlace m_budgetsTold m_loadsTold m_deadSet m_unknownOf m_nodeOf m_unknowns (ce) (bV A q.toNat) m_ordered m_drawnBy m_left m_aside m_bestDead m_bestAbove m_bestBelow m_widened m_widenedMany m_fewOf m_drawing ++ ex) 0 0 56 [some (.ref (ρ 0)), some (.int (jI q)), some (.long (jL (bT A q.toNat q q))), none, some (.int (jI u)), some (.long (jL (bT A q.toNat u q))), none, some (.int (jI x))] [] := by
        intro hult mm3
        induction mm3 using Nat.strongRecOn with
        | _ mm3 ih3 =>
        intro x ce hx0 hx hR hm3
        refine r_iload_7 C dX5_brings_56 ?_
        refine r_bipush C dX5_brings_58 ?_
        refine r_if_icmpge (tgt := 124) C dX5_brings_60 (by decide) (fun c_60 => ?_) (fun c_60 => ?_)
        · skip
          have hR' : Rep ce m_unknowns (fun i x => if i < u + 1 then bT A (q + 1).toNat i x else bT A q.toNat i x) := hR.cong (fun i y h1 h2 h3 h4 => by
            by_cases e : i = u
            · subst e
              rw [if_pos (show i < i + 1 by omega)]
              by_cases e2 : i = q
              · rw [if_neg (by omega), hnew, if_pos e2]
              · rw [if_pos (by omega)]
            · by_cases e2 : i < u
              · rw [if_pos (Or.inl e2), if_pos (show i < u + 1 by omega)]
              · rw [if_neg (by omega), if_neg (show ¬ i < u + 1 by omega)])
          refine r_iinc_4 C dX5_brings_124 ?_
          refine r_goto (tgt := 30) C dX5_brings_127 (by decide) ?_
          exact ih2 _ (show (m_unknowns - (u + 1)).toNat < mm2 by omega) (u + 1) ce _ _ _ (by omega) (by omega) hR' rfl rfl
        · skip
          refine r_iload_4 C dX5_brings_63 ?_
          refine r_iload_1 C dX5_brings_65 ?_
          refine r_if_icmpeq (tgt := 124) C dX5_brings_66 (by decide) (fun c_66 => ?_) (fun c_66 => ?_)
          · skip
            have hR' : Rep ce m_unknowns (fun i x => if i < u + 1 then bT A (q + 1).toNat i x else bT A q.toNat i x) := hR.cong (fun i y h1 h2 h3 h4 => by
              by_cases e : i = u
              · subst e
                rw [if_pos (show i < i + 1 by omega)]
                by_cases e2 : i = q
                · rw [if_neg (by omega), hnew, if_pos e2]
                · rw [if_pos (by omega)]
              · by_cases e2 : i < u
                · rw [if_pos (Or.inl e2), if_pos (show i < u + 1 by omega)]
                · rw [if_neg (by omega), if_neg (show ¬ i < u + 1 by omega)])
            refine r_iinc_4 C dX5_brings_124 ?_
            refine r_goto (tgt := 30) C dX5_brings_127 (by decide) ?_
            exact ih2 _ (show (m_unknowns - (u + 1)).toNat < mm2 by omega) (u + 1) ce _ _ _ (by omega) (by omega) hR' rfl rfl
          · skip
            refine r_aload_0 C dX5_brings_69 ?_
            refine gM_cells C q1410 dX5_brings_70 ?_
            refine r_bipush C dX5_brings_73 ?_
            refine r_iload_4 C dX5_brings_75 ?_
            refine r_imul C dX5_brings_77 ?_
            refine r_iload_7 C dX5_brings_78 ?_
            refine r_iadd C dX5_brings_80 ?_
            refine r_aload_0 C dX5_brings_81 ?_
            refine gM_cells C q1410 dX5_brings_82 ?_
            refine r_bipush C dX5_brings_85 ?_
            refine r_iload_4 C dX5_brings_87 ?_
            refine r_imul C dX5_brings_89 ?_
            refine r_iload_7 C dX5_brings_90 ?_
            refine r_iadd C dX5_brings_92 ?_
            refine ldM_cells C dX5_brings_93 ?_
            have e1 := hR u x hu0 hult hx0 (by omega)
            simp only [] at e1
            rw [if_neg (by omega)] at e1
            refine r_topl (bT A q.toNat u x) e1 ?_
            refine r_lload_2 C dX5_brings_94 ?_
            refine r_lmul C dX5_brings_95 ?_
            refine r_aload_0 C dX5_brings_96 ?_
            refine gM_cells C q1410 dX5_brings_97 ?_
            refine r_bipush C dX5_brings_100 ?_
            refine r_iload_1 C dX5_brings_102 ?_
            refine r_imul C dX5_brings_103 ?_
            refine r_iload_7 C dX5_brings_104 ?_
            refine r_iadd C dX5_brings_106 ?_
            refine ldM_cells C dX5_brings_107 ?_
            have e2 := hR q x hq0 hlt hx0 (by omega)
            have e3 : (if q < u ∨ (q = u ∧ x < x ∧ u ≠ q) then bT A (q + 1).toNat q x else bT A q.toNat q x) = bT A q.toNat q x := by
              split
              · rw [hnew, if_pos rfl]
              · rfl
            refine r_topl (bT A q.toNat q x) (e2.trans e3) ?_
            refine r_lload_5 C dX5_brings_108 ?_
            refine r_lmul C dX5_brings_110 ?_
            refine r_lsub C dX5_brings_111 ?_
            refine r_aload_0 C dX5_brings_112 ?_
            refine gM_whole C q1411 dX5_brings_113 ?_
            have hin := hok.1 q.toNat (by omega) u x hu0 hult hx0 (by omega)
            rw [eq] at hin
            refine r_ldiv C dX5_brings_116 ?_ hin hvq.2 hvq.1
            refine stM_cells C dX5_brings_117 ?_
            refine r_iinc_7 C dX5_brings_118 ?_
            refine r_goto (tgt := 56) C dX5_brings_121 (by decide) ?_
            refine ih3 _ (show (18 - (x + 1)).toNat < mm3 by omega) (x + 1) _ (by omega) (by omega) ?_ rfl
            refine (hR.set hx0 (by omega)).cong (fun i y h1 h2 h3 h4 => ?_)
            by_cases e : i = u ∧ y = x
            · obtain ⟨rfl, rfl⟩ := e
              rw [if_pos ⟨rfl, rfl⟩, if_pos (by omega), hnew, if_neg c_66]
            · rw [if_neg e]
              by_cases e2 : i < u ∨ (i = u ∧ y < x ∧ u ≠ q)
              · rw [if_pos e2, if_pos (by omega)]
              · rw [if_neg e2, if_neg (by omega)]
      refine r_iload_4 C dX5_brings_30 ?_
      refine r_aload_0 C dX5_brings_32 ?_
      refine gM_unknowns C q1409 dX5_brings_33 ?_
      refine r_if_icmpge (tgt := 130) C dX5_brings_36 (by decide) (fun c_36 => ?_) (fun c_36 => ?_)
      · skip
        refine r_aload_0 C dX5_brings_130 ?_
        refine r_lload_2 C dX5_brings_131 ?_
        refine pM_whole C q1411 dX5_brings_132 ?_
        refine r_iinc_1 C dX5_brings_135 ?_
        refine r_goto (tgt := 7) C dX5_brings_138 (by decide) ?_
        have eu : u = m_unknowns := by omega
        have ev : bT A q.toNat q q = bV A (q + 1).toNat := by rw [show (q + 1).toNat = q.toNat + 1 by omega, bV_s, eq]
        rw [ev]
        refine ih _ (show (m_unknowns - (q + 1)).toNat < mm by omega) (q + 1) ce _ _ _ _ _ _ (by omega) (by omega) ?_ rfl rfl hn6 rfl
        refine hR.cong (fun i y h1 h2 h3 h4 => ?_)
        rw [if_pos (by omega)]
      · skip
        refine r_aload_0 C dX5_brings_39 ?_
        refine gM_cells C q1410 dX5_brings_40 ?_
        refine r_bipush C dX5_brings_43 ?_
        refine r_iload_4 C dX5_brings_45 ?_
        refine r_imul C dX5_brings_47 ?_
        refine r_iload_1 C dX5_brings_48 ?_
        refine r_iadd C dX5_brings_49 ?_
        refine ldM_cells C dX5_brings_50 ?_
        have e1 := hR u q hu0 c_36 hq0 (by omega)
        simp only [] at e1
        rw [if_neg (by omega)] at e1
        refine r_topl (bT A q.toNat u q) e1 ?_
        refine r_lstore_5 C dX5_brings_51 ?_
        refine r_iconst C dX5_brings_53 ?_
        refine r_istore_7 C dX5_brings_54 ?_
        refine hcol c_36 _ 0 ce (by omega) (by omega) ?_ rfl
        refine hR.cong (fun i y h1 h2 h3 h4 => ?_)
        by_cases e2 : i < u
        · rw [if_pos e2, if_pos (Or.inl e2)]
        · rw [if_neg e2, if_neg (by omega)]
    refine r_iload_1 C dX5_brings_7 ?_
    refine r_aload_0 C dX5_brings_8 ?_
    refine gM_unknowns C q1409 dX5_brings_9 ?_
    refine r_if_icmpge (tgt := 141) C dX5_brings_12 (by decide) (fun c_12 => ?_) (fun c_12 => ?_)
    · skip
      refine r_return C E dX5_brings_141 ?_
      have e : q = m_unknowns := by omega
      subst e
      exact ⟨rfl, ce, hR, rfl⟩
    · skip
      refine r_aload_0 C dX5_brings_15 ?_
      refine gM_cells C q1410 dX5_brings_16 ?_
      refine r_bipush C dX5_brings_19 ?_
      refine r_iload_1 C dX5_brings_21 ?_
      refine r_imul C dX5_brings_22 ?_
      refine r_iload_1 C dX5_brings_23 ?_
      refine r_iadd C dX5_brings_24 ?_
      refine ldM_cells C dX5_brings_25 ?_
      have e1 := hR q q hq0 c_12 hq0 (by omega)
      refine r_topl (bT A q.toNat q q) e1 ?_
      refine r_lstore_2 C dX5_brings_26 ?_
      refine r_iconst C dX5_brings_27 ?_
      refine r_istore_4 C dX5_brings_28 ?_
      refine hup c_12 _ 0 ce _ _ _ (by omega) (by omega) ?_ hn6 rfl
      refine hR.cong (fun i y h1 h2 h3 h4 => ?_)
      rw [if_neg (by omega)]
  refine r_aload_0 C dX5_brings_0 ?_
  refine r_lconst1 C dX5_brings_1 ?_
  refine pM_whole C q1411 dX5_brings_2 ?_
  refine r_iconst C dX5_brings_5 ?_
  refine r_istore_1 C dX5_brings_6 ?_
  exact key _ 0 m_cells _ _ _ _ _ _ (by omega) (by omega) hR0 rfl rfl rfl rfl
end M6

