section M14
variable {g : GX} {ρ : Nat → Nat} {ex : va_W}
variable {m_thrown : Int} {m_world : Int → Int} {m_fresh : Int → Int} {m_waysBack : Int → Int} {m_acts : Int} {m_images : Int → Int} {m_hasImage : Int → Int} {m_endOf : Int → Int} {m_strapMany : Int} {m_tape : Int → Int} {m_taped : Int} {m_five : Int → Int} {m_size : Int} {m_at : Int} {m_from : Int} {m_token : Int} {m_value : Int} {m_faultKind : Int} {m_faultPlace : Int} {m_budgetsTold : Int} {m_loadsTold : Int} {m_deadSet : Int} {m_unknownOf : Int → Int} {m_nodeOf : Int → Int} {m_unknowns : Int} {m_cells : Int → Int} {m_whole : Int} {m_ordered : Int → Int} {m_drawnBy : Int → Int} {m_left : Int → Int} {m_aside : Int → Int} {m_bestDead : Int} {m_bestAbove : Int} {m_bestBelow : Int} {m_widened : Int → Int} {m_widenedMany : Int} {m_fewOf : Int → Int} {m_drawing : Int}
theorem c_X5_nextSlim (hG : Gok g) (hd : Gd m_world) (hsm : m_strapMany = wS m_world) : XMet g yX5_nextSlim cX5_nextSlim 3 (some .int) 6 0 0 [.ref (ρ 0)] (wM g ρ m_thrown m_world m_fresh m_waysBack m_acts m_images m_hasImage m_endOf m_strapMany m_tape m_taped m_five m_size m_at m_from m_token m_value m_faultKind m_faultPlace m_budgetsTold m_loadsTold m_deadSet m_unknownOf m_nodeOf m_unknowns m_cells m_whole m_ordered m_drawnBy m_left m_aside m_bestDead m_bestAbove m_bestBelow m_widened m_widenedMany m_fewOf m_drawing ++ ex) (pI (fun z w => z = (wNs m_world).1 ∧ ∃ e un no ce ds um wh b1 b2 b3, w = (wM g ρ m_thrown m_world m_fresh m_waysBack m_acts m_images m_hasImage (e) (wS m_world) m_tape m_taped m_five m_size m_at m_from m_token m_value m_faultKind m_faultPlace m_budgetsTold m_loadsTold (ds) (un) (no) (um) (ce) (wh) m_ordered m_drawnBy m_left m_aside (b1) (b2) (b3) m_widened m_widenedMany m_fewOf m_drawing ++ ex))) := by
  refine XMet.of (L := [some (.ref (ρ 0)), none, none]) hG (by decide +kernel) (Nat.le_of_ble_eq_true rfl) rfl (fun K C E => ?_)
  have hs := hd.s
  subst hsm
  have key : ∀ (mm : Nat), ∀ (k : Int) (s : Bst) (e un no ce : Int → Int) (ds um wh : Int), (0 ≤ k) → (k ≤ wS m_world) → (BsOk s) → (-1 ≤ s.1 ∧ s.1 < 12) → (s = bst (fun k => !decide (m_world (28 + k) = 0) && wHo (aset m_world (28 + k) (m_world (28 + k) - 1))) (fun k => aset m_world (28 + k) (m_world (28 + k) - 1)) bs0 k) → (wS m_world - k).toNat = mm → AW g K (wM g ρ m_thrown m_world m_fresh m_waysBack m_acts m_images m_hasImage (e) (wS m_world) m_tape m_taped m_five m_size m_at m_from m_token m_value m_faultKind m_faultPlace m_budgetsTold m_loadsTold (ds) (un) (no) (um) (ce) (wh) m_ordered m_drawnBy m_left m_aside (s.2.1) (s.2.2.1) (s.2.2.2) m_widened m_widenedMany m_fewOf m_drawing ++ ex) 0 0 8 [some (.ref (ρ 0)), some (.int (jI s.1)), some (.int (jI k))] [] := by
    intro mm
    induction mm using Nat.strongRecOn with
    | _ mm ih =>
    intro k s e un no ce ds um wh hk0 hk hs0 hs1 es hm
    refine r_iload_2 C dX5_nextSlim_8 ?_
    refine r_aload_0 C dX5_nextSlim_9 ?_
    refine gM_strapMany C q1393 dX5_nextSlim_10 ?_
    refine r_if_icmpge (tgt := 83) C dX5_nextSlim_13 (by decide) (fun c_13 => ?_) (fun c_13 => ?_)
    · skip
      refine r_iload_1 C dX5_nextSlim_83 ?_
      refine r_ireturn C E dX5_nextSlim_84 ?_
      have e : k = wS m_world := by omega
      subst e
      exact ⟨_, rfl, by rw [es]; rfl, _, _, _, _, _, _, _, _, _, _, rfl⟩
    · skip
      have hwk := hd.wd k hk0 (by omega)
      unfold wWd at hwk
      refine r_aload_0 C dX5_nextSlim_16 ?_
      refine gM_world C q1386 dX5_nextSlim_17 ?_
      refine r_bipush C dX5_nextSlim_20 ?_
      refine r_iload_2 C dX5_nextSlim_22 ?_
      refine r_iadd C dX5_nextSlim_23 ?_
      refine ldM_world C dX5_nextSlim_24 ?_
      refine r_ifne (tgt := 31) C dX5_nextSlim_25 (by decide) (fun c_25 => ?_) (fun c_25 => ?_)
      · skip
        have hdv := hd.slim hk0 c_13 c_25
        have hsc := sc_in (w := aset m_world (28 + k) (m_world (28 + k) - 1)) (a := s.2.1) (b := s.2.2.1) (c := s.2.2.2)
        refine r_aload_0 C dX5_nextSlim_31 ?_
        refine gM_world C q1386 dX5_nextSlim_32 ?_
        refine r_bipush C dX5_nextSlim_35 ?_
        refine r_iload_2 C dX5_nextSlim_37 ?_
        refine r_iadd C dX5_nextSlim_38 ?_
        refine r_dup2 C dX5_nextSlim_39 ?_
        refine ldM_world C dX5_nextSlim_40 ?_
        refine r_iconst C dX5_nextSlim_41 ?_
        refine r_isub C dX5_nextSlim_42 ?_
        refine stM_world C dX5_nextSlim_43 ?_
        refine r_aload_0 C dX5_nextSlim_44 ?_
        refine r_cV0i C (c_X5_doesHold hG hdv) (q0 := 0) rfl rfl q1770 pkX5_doesHold dX5_nextSlim_45 (fun z w h => ?_)
        obtain ⟨rfl, e, un, no, ce, -, -, rfl⟩ := h
        refine r_ifeqB (tgt := 64) C dX5_nextSlim_48 (by decide) (fun c_48 => ?_) (fun c_48 => ?_)
        · skip
          refine r_aload_0 C dX5_nextSlim_64 ?_
          refine gM_world C q1386 dX5_nextSlim_65 ?_
          refine r_bipush C dX5_nextSlim_68 ?_
          refine r_iload_2 C dX5_nextSlim_70 ?_
          refine r_iadd C dX5_nextSlim_71 ?_
          refine r_dup2 C dX5_nextSlim_72 ?_
          refine ldM_world C dX5_nextSlim_73 ?_
          refine r_iconst C dX5_nextSlim_74 ?_
          refine r_iadd C dX5_nextSlim_75 ?_
          refine stM_world C dX5_nextSlim_76 ?_
          first
            | rw [aset_du, wS_aset (by omega)]
            | skip
          refine r_iinc_2 C dX5_nextSlim_77 ?_
          refine r_goto (tgt := 8) C dX5_nextSlim_80 (by decide) ?_
          first
            | (refine ih _ (show (wS m_world - (k + 1)).toNat < mm by omega) (k + 1) s _ _ _ _ _ _ _ (by omega) (by omega) hs0 hs1 ?_ rfl
               first
                 | rw [bst_s hk0, ← es, bsf_no2 (G := fun k => aset m_world (28 + k) (m_world (28 + k) - 1)) c_55]
                 | rw [bst_s hk0, ← es, bsf_no1 (andb2 c_48)]
                 | rw [bst_s hk0, ← es, bsf_no1 (andb1 c_25)])
            | (refine ih _ (show (wS m_world - (k + 1)).toNat < mm by omega) (k + 1) (k, wDl (aset m_world (28 + k) (m_world (28 + k) - 1)), wMx (aset m_world (28 + k) (m_world (28 + k) - 1)), wWh (aset m_world (28 + k) (m_world (28 + k) - 1))) _ _ _ _ _ _ _ (by omega) (by omega) (bs_of hdv k) (by (try simp only); omega) ?_ rfl
               rw [bst_s hk0, ← es, bsf_yes (P := fun k => !decide (m_world (28 + k) = 0) && wHo (aset m_world (28 + k) (m_world (28 + k) - 1))) (G := fun k => aset m_world (28 + k) (m_world (28 + k) - 1)) (by simp [c_25, c_48]; done) c_55])
        · skip
          refine r_aload_0 C dX5_nextSlim_51 ?_
          refine r_cV0i C (c_X5_scores hG hdv hs0) (q0 := 0) rfl rfl q1907 pkX5_scores dX5_nextSlim_52 (fun z w h => ?_)
          obtain ⟨rfl, e, un, no, ce, he, hS, rfl⟩ := h
          refine r_ifge (tgt := 64) C dX5_nextSlim_55 (by decide) (fun c_55 => ?_) (fun c_55 => ?_)
          · skip
            refine r_aload_0 C dX5_nextSlim_64 ?_
            refine gM_world C q1386 dX5_nextSlim_65 ?_
            refine r_bipush C dX5_nextSlim_68 ?_
            refine r_iload_2 C dX5_nextSlim_70 ?_
            refine r_iadd C dX5_nextSlim_71 ?_
            refine r_dup2 C dX5_nextSlim_72 ?_
            refine ldM_world C dX5_nextSlim_73 ?_
            refine r_iconst C dX5_nextSlim_74 ?_
            refine r_iadd C dX5_nextSlim_75 ?_
            refine stM_world C dX5_nextSlim_76 ?_
            first
              | rw [aset_du, wS_aset (by omega)]
              | skip
            refine r_iinc_2 C dX5_nextSlim_77 ?_
            refine r_goto (tgt := 8) C dX5_nextSlim_80 (by decide) ?_
            first
              | (refine ih _ (show (wS m_world - (k + 1)).toNat < mm by omega) (k + 1) s _ _ _ _ _ _ _ (by omega) (by omega) hs0 hs1 ?_ rfl
                 first
                   | rw [bst_s hk0, ← es, bsf_no2 (G := fun k => aset m_world (28 + k) (m_world (28 + k) - 1)) c_55]
                   | rw [bst_s hk0, ← es, bsf_no1 (andb2 c_48)]
                   | rw [bst_s hk0, ← es, bsf_no1 (andb1 c_25)])
              | (refine ih _ (show (wS m_world - (k + 1)).toNat < mm by omega) (k + 1) (k, wDl (aset m_world (28 + k) (m_world (28 + k) - 1)), wMx (aset m_world (28 + k) (m_world (28 + k) - 1)), wWh (aset m_world (28 + k) (m_world (28 + k) - 1))) _ _ _ _ _ _ _ (by omega) (by omega) (bs_of hdv k) (by (try simp only); omega) ?_ rfl
                 rw [bst_s hk0, ← es, bsf_yes (P := fun k => !decide (m_world (28 + k) = 0) && wHo (aset m_world (28 + k) (m_world (28 + k) - 1))) (G := fun k => aset m_world (28 + k) (m_world (28 + k) - 1)) (by simp [c_25, c_48]; done) c_55])
          · skip
            refine r_iload_2 C dX5_nextSlim_58 ?_
            refine r_istore_1 C dX5_nextSlim_59 ?_
            refine r_aload_0 C dX5_nextSlim_60 ?_
            refine r_cV0v C (c_X5_keeps hG hdv rfl hS rfl) (q0 := 0) rfl rfl q1914 pkX5_keeps dX5_nextSlim_61 (fun w h => ?_)
            subst h
            refine r_aload_0 C dX5_nextSlim_64 ?_
            refine gM_world C q1386 dX5_nextSlim_65 ?_
            refine r_bipush C dX5_nextSlim_68 ?_
            refine r_iload_2 C dX5_nextSlim_70 ?_
            refine r_iadd C dX5_nextSlim_71 ?_
            refine r_dup2 C dX5_nextSlim_72 ?_
            refine ldM_world C dX5_nextSlim_73 ?_
            refine r_iconst C dX5_nextSlim_74 ?_
            refine r_iadd C dX5_nextSlim_75 ?_
            refine stM_world C dX5_nextSlim_76 ?_
            first
              | rw [aset_du, wS_aset (by omega)]
              | skip
            refine r_iinc_2 C dX5_nextSlim_77 ?_
            refine r_goto (tgt := 8) C dX5_nextSlim_80 (by decide) ?_
            first
              | (refine ih _ (show (wS m_world - (k + 1)).toNat < mm by omega) (k + 1) s _ _ _ _ _ _ _ (by omega) (by omega) hs0 hs1 ?_ rfl
                 first
                   | rw [bst_s hk0, ← es, bsf_no2 (G := fun k => aset m_world (28 + k) (m_world (28 + k) - 1)) c_55]
                   | rw [bst_s hk0, ← es, bsf_no1 (andb2 c_48)]
                   | rw [bst_s hk0, ← es, bsf_no1 (andb1 c_25)])
              | (refine ih _ (show (wS m_world - (k + 1)).toNat < mm by omega) (k + 1) (k, wDl (aset m_world (28 + k) (m_world (28 + k) - 1)), wMx (aset m_world (28 + k) (m_world (28 + k) - 1)), wWh (aset m_world (28 + k) (m_world (28 + k) - 1))) _ _ _ _ _ _ _ (by omega) (by omega) (bs_of hdv k) (by (try simp only); omega) ?_ rfl
                 rw [bst_s hk0, ← es, bsf_yes (P := fun k => !decide (m_world (28 + k) = 0) && wHo (aset m_world (28 + k) (m_world (28 + k) - 1))) (G := fun k => aset m_world (28 + k) (m_world (28 + k) - 1)) (by simp [c_25, c_48]; done) c_55])
      · skip
        refine r_goto (tgt := 77) C dX5_nextSlim_28 (by decide) ?_
        first
          | rw [aset_du, wS_aset (by omega)]
          | skip
        refine r_iinc_2 C dX5_nextSlim_77 ?_
        refine r_goto (tgt := 8) C dX5_nextSlim_80 (by decide) ?_
        first
          | (refine ih _ (show (wS m_world - (k + 1)).toNat < mm by omega) (k + 1) s _ _ _ _ _ _ _ (by omega) (by omega) hs0 hs1 ?_ rfl
             first
               | rw [bst_s hk0, ← es, bsf_no2 (G := fun k => aset m_world (28 + k) (m_world (28 + k) - 1)) c_55]
               | rw [bst_s hk0, ← es, bsf_no1 (andb2 c_48)]
               | rw [bst_s hk0, ← es, bsf_no1 (andb1 c_25)])
          | (refine ih _ (show (wS m_world - (k + 1)).toNat < mm by omega) (k + 1) (k, wDl (aset m_world (28 + k) (m_world (28 + k) - 1)), wMx (aset m_world (28 + k) (m_world (28 + k) - 1)), wWh (aset m_world (28 + k) (m_world (28 + k) - 1))) _ _ _ _ _ _ _ (by omega) (by omega) (bs_of hdv k) (by (try simp only); omega) ?_ rfl
             rw [bst_s hk0, ← es, bsf_yes (P := fun k => !decide (m_world (28 + k) = 0) && wHo (aset m_world (28 + k) (m_world (28 + k) - 1))) (G := fun k => aset m_world (28 + k) (m_world (28 + k) - 1)) (by simp [c_25, c_48]; done) c_55])
  refine r_aload_0 C dX5_nextSlim_0 ?_
  refine r_cV0v C (c_X5_beginsWithout hG) (q0 := 0) rfl rfl q1903 pkX5_beginsWithout dX5_nextSlim_1 (fun w h => ?_)
  subst h
  refine r_iconst C dX5_nextSlim_4 ?_
  refine r_istore_1 C dX5_nextSlim_5 ?_
  refine r_iconst C dX5_nextSlim_6 ?_
  refine r_istore_2 C dX5_nextSlim_7 ?_
  exact key _ 0 bs0 _ _ _ _ _ _ _ (by omega) (by omega) bs0_ok (by simp) rfl rfl
theorem c_X5_slimsAll (hG : Gok g) (hd : Gd m_world) (hsm : m_strapMany = wS m_world) : XMet g yX5_slimsAll cX5_slimsAll 3 (some .int) 7 0 0 [.ref (ρ 0)] (wM g ρ m_thrown m_world m_fresh m_waysBack m_acts m_images m_hasImage m_endOf m_strapMany m_tape m_taped m_five m_size m_at m_from m_token m_value m_faultKind m_faultPlace m_budgetsTold m_loadsTold m_deadSet m_unknownOf m_nodeOf m_unknowns m_cells m_whole m_ordered m_drawnBy m_left m_aside m_bestDead m_bestAbove m_bestBelow m_widened m_widenedMany m_fewOf m_drawing ++ ex) (pI (fun z wv => z = (slf 49 m_world 0).2 ∧ Gd (slf 49 m_world 0).1 ∧ AgO m_world (slf 49 m_world 0).1 ∧ ∃ e un no ce sm ds um wh b1 b2 b3, wv = (wM g ρ m_thrown ((slf 49 m_world 0).1) m_fresh m_waysBack m_acts m_images m_hasImage (e) (sm) m_tape m_taped m_five m_size m_at m_from m_token m_value m_faultKind m_faultPlace m_budgetsTold m_loadsTold (ds) (un) (no) (um) (ce) (wh) m_ordered m_drawnBy m_left m_aside (b1) (b2) (b3) m_widened m_widenedMany m_fewOf m_drawing ++ ex))) := by
  refine XMet.of (L := [some (.ref (ρ 0)), none, none]) hG (by decide +kernel) (Nat.le_of_ble_eq_true rfl) rfl (fun K C E => ?_)
  have hsu := wSu_in hd
  have key : ∀ (f : Nat) (n : Int) (w e un no ce : Int → Int) (ds um wh b1 b2 b3 : Int), Gd w → AgO m_world w → wS w = wS m_world → wSu w < f → 0 ≤ n → n + f ≤ 100 → slf f w n = slf 49 m_world 0 → AW g K (wM g ρ m_thrown (w) m_fresh m_waysBack m_acts m_images m_hasImage (e) (wS w) m_tape m_taped m_five m_size m_at m_from m_token m_value m_faultKind m_faultPlace m_budgetsTold m_loadsTold (ds) (un) (no) (um) (ce) (wh) m_ordered m_drawnBy m_left m_aside (b1) (b2) (b3) m_widened m_widenedMany m_fewOf m_drawing ++ ex) 0 0 7 [some (.ref (ρ 0)), some (.int (jI n)), some (.int (jI (wNs w).1))] [] := by
    intro f
    induction f with
    | zero =>
      intro n w e un no ce ds um wh b1 b2 b3 hdw hag hsw hf
      have := wSu_in hdw
      omega
    | succ f ih =>
      intro n w e un no ce ds um wh b1 b2 b3 hdw hag hsw hf hn0 hnf hl
      rw [slf] at hl
      have hin := wNs_in hdw
      have hs := hdw.s
      refine r_iload_2 C dX5_slimsAll_7 ?_
      refine r_iconst C dX5_slimsAll_8 ?_
      refine r_if_icmpeq (tgt := 36) C dX5_slimsAll_9 (by decide) (fun c_9 => ?_) (fun c_9 => ?_) (by unfold inR; omega)
      · skip
        refine r_iload_1 C dX5_slimsAll_36 ?_
        refine r_ireturn C E dX5_slimsAll_37 ?_
        rw [if_pos c_9] at hl
        rw [← hl]
        exact ⟨_, rfl, rfl, hdw, hag, _, _, _, _, _, _, _, _, _, _, _, rfl⟩
      · skip
        rw [if_neg c_9] at hl
        have hin2 : 0 ≤ (wNs w).1 ∧ (wNs w).1 < wS w ∧ w (28 + (wNs w).1) ≠ 0 := by omega
        have hdv := hdw.slim hin2.1 hin2.2.1 hin2.2.2
        have hsv : wS (aset w (28 + (wNs w).1) (w (28 + (wNs w).1) - 1)) = wS w := wS_aset (by omega)
        refine r_aload_0 C dX5_slimsAll_12 ?_
        refine gM_world C q1386 dX5_slimsAll_13 ?_
        refine r_bipush C dX5_slimsAll_16 ?_
        refine r_iload_2 C dX5_slimsAll_18 ?_
        refine r_iadd C dX5_slimsAll_19 ?_
        refine r_dup2 C dX5_slimsAll_20 ?_
        refine ldM_world C dX5_slimsAll_21 ?_
        refine r_iconst C dX5_slimsAll_22 ?_
        refine r_isub C dX5_slimsAll_23 ?_
        refine stM_world C dX5_slimsAll_24 ?_
        refine r_iinc_1 C dX5_slimsAll_25 ?_
        refine r_aload_0 C dX5_slimsAll_28 ?_
        refine r_cV0i C (c_X5_nextSlim hG hdv (by rw [hsv])) (q0 := 0) rfl rfl q1989 pkX5_nextSlim dX5_slimsAll_29 (fun z w h => ?_)
        obtain ⟨rfl, e, un, no, ce, ds, um, wh, b1, b2, b3, rfl⟩ := h
        refine r_istore_2 C dX5_slimsAll_32 ?_
        refine r_goto (tgt := 7) C dX5_slimsAll_33 (by decide) ?_
        exact ih (n + 1) _ _ _ _ _ _ _ _ _ _ _ hdv (hag.set (by omega)) (by rw [hsv]; exact hsw) (by have := wSu_slim hdw hin2.1 hin2.2.1; omega) (by omega) (by omega) hl
  refine r_iconst C dX5_slimsAll_0 ?_
  refine r_istore_1 C dX5_slimsAll_1 ?_
  refine r_aload_0 C dX5_slimsAll_2 ?_
  refine r_cV0i C (c_X5_nextSlim hG hd hsm) (q0 := 0) rfl rfl q1989 pkX5_nextSlim dX5_slimsAll_3 (fun z w h => ?_)
  obtain ⟨rfl, e, un, no, ce, ds, um, wh, b1, b2, b3, rfl⟩ := h
  refine r_istore_2 C dX5_slimsAll_6 ?_
  exact key 49 0 m_world _ _ _ _ _ _ _ _ _ _ hd AgO.rf rfl (by omega) (by omega) (by omega) rfl
theorem c_X5_slims (hG : Gok g) (hW : WF m_world) : XMet g yX5_slims cX5_slims 2 (some .int) 8 0 0 [.ref (ρ 0)] (wM g ρ m_thrown m_world m_fresh m_waysBack m_acts m_images m_hasImage m_endOf m_strapMany m_tape m_taped m_five m_size m_at m_from m_token m_value m_faultKind m_faultPlace m_budgetsTold m_loadsTold m_deadSet m_unknownOf m_nodeOf m_unknowns m_cells m_whole m_ordered m_drawnBy m_left m_aside m_bestDead m_bestAbove m_bestBelow m_widened m_widenedMany m_fewOf m_drawing ++ ex) (pI (fun z w => z = spSlims m_world ∧ PubM g ρ ex m_world m_waysBack m_acts m_images m_hasImage m_tape m_taped m_faultKind m_faultPlace w)) := by
  refine XMet.of (L := [some (.ref (ρ 0)), none]) hG (by decide +kernel) (Nat.le_of_ble_eq_true rfl) rfl (fun K C E => ?_)
  have h4 := hW.r (k := 4) (by omega) (by omega)
  refine r_aload_0 C dX5_slims_0 ?_
  refine r_cV0i C (c_X5_isGrid hG (by unfold inR; omega)) (q0 := 0) rfl rfl q1638 pkX5_isGrid dX5_slims_1 (fun z w h => ?_)
  obtain ⟨rfl, rfl⟩ := h
  refine r_ifneB (tgt := 10) C dX5_slims_4 (by decide) (fun c_4 => ?_) (fun c_4 => ?_)
  · skip
    have hd := hW.gd4 c_4
    refine r_aload_0 C dX5_slims_10 ?_
    refine r_cV0i C (c_X5_doesHold hG hd) (q0 := 0) rfl rfl q1770 pkX5_doesHold dX5_slims_11 (fun z w h => ?_)
    obtain ⟨rfl, e, un, no, ce, -, -, rfl⟩ := h
    refine r_ifneB (tgt := 19) C dX5_slims_14 (by decide) (fun c_14 => ?_) (fun c_14 => ?_)
    · skip
      refine r_aload_0 C dX5_slims_19 ?_
      refine r_cV0v C (c_X5_puts hG) (q0 := 0) rfl rfl q1871 pkX5_puts dX5_slims_20 (fun w h => ?_)
      subst h
      refine r_aload_0 C dX5_slims_23 ?_
      refine r_cV0i C (c_X5_slimsAll hG hd rfl) (q0 := 0) rfl rfl q1985 pkX5_slimsAll dX5_slims_24 (fun z w h => ?_)
      obtain ⟨rfl, hdf, hag, e, un, no, ce, sm, ds, um, wh, b1, b2, b3, rfl⟩ := h
      refine r_istore_1 C dX5_slims_27 ?_
      refine r_aload_0 C dX5_slims_28 ?_
      refine r_cV0v C (c_X5_takesOut hG) (q0 := 0) rfl rfl q1879 pkX5_takesOut dX5_slims_29 (fun w h => ?_)
      subst h
      rw [ov_back hag]
      refine r_iload_1 C dX5_slims_32 ?_
      refine r_ireturn C E dX5_slims_33 ?_
      exact ⟨_, rfl, by simp [spSlims, *], PubM.mk⟩
    · skip
      refine r_iconst C dX5_slims_17 ?_
      refine r_ireturn C E dX5_slims_18 ?_
      exact ⟨_, rfl, by simp [spSlims, *], PubM.mk⟩
  · skip
    refine r_bipush C dX5_slims_7 ?_
    refine r_ireturn C E dX5_slims_9 ?_
    exact ⟨_, rfl, by simp [spSlims, *], PubM.mk⟩
theorem c_X5_slim (hG : Gok g) {k : Int} (hk : inR k) (hW : WF m_world) : XMet g yX5_slim cX5_slim 3 (some .int) 8 0 0 [.ref (ρ 0), .int (jI k)] (wM g ρ m_thrown m_world m_fresh m_waysBack m_acts m_images m_hasImage m_endOf m_strapMany m_tape m_taped m_five m_size m_at m_from m_token m_value m_faultKind m_faultPlace m_budgetsTold m_loadsTold m_deadSet m_unknownOf m_nodeOf m_unknowns m_cells m_whole m_ordered m_drawnBy m_left m_aside m_bestDead m_bestAbove m_bestBelow m_widened m_widenedMany m_fewOf m_drawing ++ ex) (pI (fun z w => z = spSlim m_world k ∧ PubM g ρ ex m_world m_waysBack m_acts m_images m_hasImage m_tape m_taped m_faultKind m_faultPlace w)) := by
  refine XMet.of (L := [some (.ref (ρ 0)), some (.int (jI k)), none]) hG (by decide +kernel) (Nat.le_of_ble_eq_true rfl) rfl (fun K C E => ?_)
  refine r_aload_0 C dX5_slim_0 ?_
  refine r_iload_1 C dX5_slim_1 ?_
  refine r_cV1i C (c_X5_isStrapW hG hk hW) (q0 := 0) rfl rfl q1677 pkX5_isStrap dX5_slim_2 (fun z w h => ?_)
  obtain ⟨rfl, e, sm, -, rfl⟩ := h
  refine r_ifneB (tgt := 11) C dX5_slim_5 (by decide) (fun c_5 => ?_) (fun c_5 => ?_)
  · skip
    have hd := hW.gdk c_5
    have hkk := isKb_in c_5
    have hs := hd.s
    refine r_aload_0 C dX5_slim_11 ?_
    refine r_cV0i C (c_X5_doesHold hG hd) (q0 := 0) rfl rfl q1770 pkX5_doesHold dX5_slim_12 (fun z w h => ?_)
    obtain ⟨rfl, e, un, no, ce, -, -, rfl⟩ := h
    refine r_ifneB (tgt := 20) C dX5_slim_15 (by decide) (fun c_15 => ?_) (fun c_15 => ?_)
    · skip
      refine r_aload_0 C dX5_slim_20 ?_
      refine r_cV0v C (c_X5_puts hG) (q0 := 0) rfl rfl q1871 pkX5_puts dX5_slim_21 (fun w h => ?_)
      subst h
      refine r_aload_0 C dX5_slim_24 ?_
      refine r_cV0i C (c_X5_slimsAll hG hd rfl) (q0 := 0) rfl rfl q1985 pkX5_slimsAll dX5_slim_25 (fun z w h => ?_)
      obtain ⟨rfl, hdf, hag, e, un, no, ce, sm, ds, um, wh, b1, b2, b3, rfl⟩ := h
      refine r_pop C dX5_slim_28 ?_
      refine r_aload_0 C dX5_slim_29 ?_
      refine gM_world C q1386 dX5_slim_30 ?_
      refine r_bipush C dX5_slim_33 ?_
      refine r_iload_1 C dX5_slim_35 ?_
      refine r_iadd C dX5_slim_36 ?_
      refine ldM_world C dX5_slim_37 ?_
      refine r_istore_2 C dX5_slim_38 ?_
      refine r_aload_0 C dX5_slim_39 ?_
      refine r_cV0v C (c_X5_takesOut hG) (q0 := 0) rfl rfl q1879 pkX5_takesOut dX5_slim_40 (fun w h => ?_)
      subst h
      rw [ov_back hag]
      refine r_iload_2 C dX5_slim_43 ?_
      refine r_ireturn C E dX5_slim_44 ?_
      exact ⟨_, rfl, by simp [spSlim, *], PubM.mk⟩
    · skip
      refine r_iconst C dX5_slim_18 ?_
      refine r_ireturn C E dX5_slim_19 ?_
      exact ⟨_, rfl, by simp [spSlim, *], PubM.mk⟩
  · skip
    refine r_bipush C dX5_slim_8 ?_
    refine r_ireturn C E dX5_slim_10 ?_
    exact ⟨_, rfl, by simp [spSlim, *], PubM.mk⟩
theorem c_X5_holdsWithout (hG : Gok g) {a b : Int} (hd : Gd m_world) (ha : 0 ≤ a ∧ a < wS m_world) (hb : 0 ≤ b ∧ b < wS m_world) : XMet g yX5_holdsWithout cX5_holdsWithout 6 (some .boolean) 6 0 0 [.ref (ρ 0), .int (jI a), .int (jI b)] (wM g ρ m_thrown m_world m_fresh m_waysBack m_acts m_images m_hasImage m_endOf m_strapMany m_tape m_taped m_five m_size m_at m_from m_token m_value m_faultKind m_faultPlace m_budgetsTold m_loadsTold m_deadSet m_unknownOf m_nodeOf m_unknowns m_cells m_whole m_ordered m_drawnBy m_left m_aside m_bestDead m_bestAbove m_bestBelow m_widened m_widenedMany m_fewOf m_drawing ++ ex) (pI (fun z w => z = (if wHo (w0 (w0 m_world a) b) = true then 1 else 0) ∧ ∃ e un no ce sm ds um wh, w = (wM g ρ m_thrown m_world m_fresh m_waysBack m_acts m_images m_hasImage (e) (sm) m_tape m_taped m_five m_size m_at m_from m_token m_value m_faultKind m_faultPlace m_budgetsTold m_loadsTold (ds) (un) (no) (um) (ce) (wh) m_ordered m_drawnBy m_left m_aside m_bestDead m_bestAbove m_bestBelow m_widened m_widenedMany m_fewOf m_drawing ++ ex))) := by
  refine XMet.of (L := [some (.ref (ρ 0)), some (.int (jI a)), some (.int (jI b)), none, none, none]) hG (by decide +kernel) (Nat.le_of_ble_eq_true rfl) rfl (fun K C E => ?_)
  have hs := hd.s
  have hdv : Gd (w0 (w0 m_world a) b) := (hd.w0 ha.1 ha.2).w0 hb.1 (by rw [wS_w0 ha.1]; exact hb.2)
  refine r_aload_0 C dX5_holdsWithout_0 ?_
  refine gM_world C q1386 dX5_holdsWithout_1 ?_
  refine r_bipush C dX5_holdsWithout_4 ?_
  refine r_iload_1 C dX5_holdsWithout_6 ?_
  refine r_iadd C dX5_holdsWithout_7 ?_
  refine ldM_world C dX5_holdsWithout_8 ?_
  refine r_istore_3 C dX5_holdsWithout_9 ?_
  refine r_aload_0 C dX5_holdsWithout_10 ?_
  refine gM_world C q1386 dX5_holdsWithout_11 ?_
  refine r_bipush C dX5_holdsWithout_14 ?_
  refine r_iload_2 C dX5_holdsWithout_16 ?_
  refine r_iadd C dX5_holdsWithout_17 ?_
  refine ldM_world C dX5_holdsWithout_18 ?_
  refine r_istore_4 C dX5_holdsWithout_19 ?_
  refine r_aload_0 C dX5_holdsWithout_21 ?_
  refine gM_world C q1386 dX5_holdsWithout_22 ?_
  refine r_bipush C dX5_holdsWithout_25 ?_
  refine r_iload_1 C dX5_holdsWithout_27 ?_
  refine r_iadd C dX5_holdsWithout_28 ?_
  refine r_iconst C dX5_holdsWithout_29 ?_
  refine stM_world C dX5_holdsWithout_30 ?_
  refine r_aload_0 C dX5_holdsWithout_31 ?_
  refine gM_world C q1386 dX5_holdsWithout_32 ?_
  refine r_bipush C dX5_holdsWithout_35 ?_
  refine r_iload_2 C dX5_holdsWithout_37 ?_
  refine r_iadd C dX5_holdsWithout_38 ?_
  refine r_iconst C dX5_holdsWithout_39 ?_
  refine stM_world C dX5_holdsWithout_40 ?_
  refine r_aload_0 C dX5_holdsWithout_41 ?_
  refine r_cV0i C (c_X5_doesHold hG hdv) (q0 := 0) rfl rfl q1770 pkX5_doesHold dX5_holdsWithout_42 (fun z w h => ?_)
  obtain ⟨rfl, e, un, no, ce, -, -, rfl⟩ := h
  refine r_istore_5 C dX5_holdsWithout_45 ?_
  refine r_aload_0 C dX5_holdsWithout_47 ?_
  refine gM_world C q1386 dX5_holdsWithout_48 ?_
  refine r_bipush C dX5_holdsWithout_51 ?_
  refine r_iload_2 C dX5_holdsWithout_53 ?_
  refine r_iadd C dX5_holdsWithout_54 ?_
  refine r_iload_4 C dX5_holdsWithout_55 ?_
  refine stM_world C dX5_holdsWithout_57 ?_
  refine r_aload_0 C dX5_holdsWithout_58 ?_
  refine gM_world C q1386 dX5_holdsWithout_59 ?_
  refine r_bipush C dX5_holdsWithout_62 ?_
  refine r_iload_1 C dX5_holdsWithout_64 ?_
  refine r_iadd C dX5_holdsWithout_65 ?_
  refine r_iload_3 C dX5_holdsWithout_66 ?_
  refine stM_world C dX5_holdsWithout_67 ?_
  rw [w0_back]
  refine r_iload_5 C dX5_holdsWithout_68 ?_
  refine r_zreturnB C E dX5_holdsWithout_70 ?_
  exact ⟨_, rfl, rfl, _, _, _, _, _, _, _, _, rfl⟩
theorem c_X5_isPair (hG : Gok g) {a b : Int} (hd : Gd m_world) (ha : 0 ≤ a ∧ a < wS m_world) (hb : 0 ≤ b ∧ b < wS m_world) : XMet g yX5_isPair cX5_isPair 3 (some .boolean) 7 0 0 [.ref (ρ 0), .int (jI a), .int (jI b)] (wM g ρ m_thrown m_world m_fresh m_waysBack m_acts m_images m_hasImage m_endOf m_strapMany m_tape m_taped m_five m_size m_at m_from m_token m_value m_faultKind m_faultPlace m_budgetsTold m_loadsTold m_deadSet m_unknownOf m_nodeOf m_unknowns m_cells m_whole m_ordered m_drawnBy m_left m_aside m_bestDead m_bestAbove m_bestBelow m_widened m_widenedMany m_fewOf m_drawing ++ ex) (pI (fun z w => z = (if wPr m_world a b = true then 1 else 0) ∧ ∃ e un no ce sm ds um wh, w = (wM g ρ m_thrown m_world m_fresh m_waysBack m_acts m_images m_hasImage (e) (sm) m_tape m_taped m_five m_size m_at m_from m_token m_value m_faultKind m_faultPlace m_budgetsTold m_loadsTold (ds) (un) (no) (um) (ce) (wh) m_ordered m_drawnBy m_left m_aside m_bestDead m_bestAbove m_bestBelow m_widened m_widenedMany m_fewOf m_drawing ++ ex))) := by
  refine XMet.of (L := [some (.ref (ρ 0)), some (.int (jI a)), some (.int (jI b))]) hG (by decide +kernel) (Nat.le_of_ble_eq_true rfl) rfl (fun K C E => ?_)
  have hs := hd.s
  have hwa := hd.wd a ha.1 (by omega)
  have hwb := hd.wd b hb.1 (by omega)
  unfold wWd at hwa hwb
  refine r_aload_0 C dX5_isPair_0 ?_
  refine gM_world C q1386 dX5_isPair_1 ?_
  refine r_bipush C dX5_isPair_4 ?_
  refine r_iload_1 C dX5_isPair_6 ?_
  refine r_iadd C dX5_isPair_7 ?_
  refine ldM_world C dX5_isPair_8 ?_
  refine r_ifeq (tgt := 24) C dX5_isPair_9 (by decide) (fun c_9 => ?_) (fun c_9 => ?_)
  · skip
    refine r_iconst C dX5_isPair_24 ?_
    refine r_zreturn C E dX5_isPair_25 (by first | exact Or.inl rfl | exact Or.inr rfl | omega) ?_
    refine ⟨_, rfl, ?_, _, _, _, _, _, _, _, _, rfl⟩
    try rw [w0_same] at c_41
    try rw [w0_same] at c_50
    simp [wPr, *]
  · skip
    refine r_aload_0 C dX5_isPair_12 ?_
    refine gM_world C q1386 dX5_isPair_13 ?_
    refine r_bipush C dX5_isPair_16 ?_
    refine r_iload_2 C dX5_isPair_18 ?_
    refine r_iadd C dX5_isPair_19 ?_
    refine ldM_world C dX5_isPair_20 ?_
    refine r_ifne (tgt := 26) C dX5_isPair_21 (by decide) (fun c_21 => ?_) (fun c_21 => ?_)
    · skip
      refine r_aload_0 C dX5_isPair_26 ?_
      refine r_iload_1 C dX5_isPair_27 ?_
      refine r_iload_2 C dX5_isPair_28 ?_
      refine r_cV2i C (c_X5_holdsWithout hG hd ha hb) (q0 := 0) rfl rfl q2009 pkX5_holdsWithout dX5_isPair_29 (fun z w h => ?_)
      obtain ⟨rfl, e, un, no, ce, sm, ds, um, wh, rfl⟩ := h
      refine r_ifneB (tgt := 57) C dX5_isPair_32 (by decide) (fun c_32 => ?_) (fun c_32 => ?_)
      · skip
        refine r_iconst C dX5_isPair_57 ?_
        refine r_zreturn C E dX5_isPair_58 (by first | exact Or.inl rfl | exact Or.inr rfl | omega) ?_
        refine ⟨_, rfl, ?_, _, _, _, _, _, _, _, _, rfl⟩
        try rw [w0_same] at c_41
        try rw [w0_same] at c_50
        simp [wPr, *]
      · skip
        refine r_aload_0 C dX5_isPair_35 ?_
        refine r_iload_1 C dX5_isPair_36 ?_
        refine r_iload_1 C dX5_isPair_37 ?_
        refine r_cV2i C (c_X5_holdsWithout hG hd ha ha) (q0 := 0) rfl rfl q2009 pkX5_holdsWithout dX5_isPair_38 (fun z w h => ?_)
        obtain ⟨rfl, e, un, no, ce, sm, ds, um, wh, rfl⟩ := h
        refine r_ifeqB (tgt := 57) C dX5_isPair_41 (by decide) (fun c_41 => ?_) (fun c_41 => ?_)
        · skip
          refine r_iconst C dX5_isPair_57 ?_
          refine r_zreturn C E dX5_isPair_58 (by first | exact Or.inl rfl | exact Or.inr rfl | omega) ?_
          refine ⟨_, rfl, ?_, _, _, _, _, _, _, _, _, rfl⟩
          try rw [w0_same] at c_41
          try rw [w0_same] at c_50
          simp [wPr, *]
        · skip
          refine r_aload_0 C dX5_isPair_44 ?_
          refine r_iload_2 C dX5_isPair_45 ?_
          refine r_iload_2 C dX5_isPair_46 ?_
          refine r_cV2i C (c_X5_holdsWithout hG hd hb hb) (q0 := 0) rfl rfl q2009 pkX5_holdsWithout dX5_isPair_47 (fun z w h => ?_)
          obtain ⟨rfl, e, un, no, ce, sm, ds, um, wh, rfl⟩ := h
          refine r_ifeqB (tgt := 57) C dX5_isPair_50 (by decide) (fun c_50 => ?_) (fun c_50 => ?_)
          · skip
            refine r_iconst C dX5_isPair_57 ?_
            refine r_zreturn C E dX5_isPair_58 (by first | exact Or.inl rfl | exact Or.inr rfl | omega) ?_
            refine ⟨_, rfl, ?_, _, _, _, _, _, _, _, _, rfl⟩
            try rw [w0_same] at c_41
            try rw [w0_same] at c_50
            simp [wPr, *]
          · skip
            refine r_iconst C dX5_isPair_53 ?_
            refine r_goto (tgt := 58) C dX5_isPair_54 (by decide) ?_
            refine r_zreturn C E dX5_isPair_58 (by first | exact Or.inl rfl | exact Or.inr rfl | omega) ?_
            refine ⟨_, rfl, ?_, _, _, _, _, _, _, _, _, rfl⟩
            try rw [w0_same] at c_41
            try rw [w0_same] at c_50
            simp [wPr, *]
    · skip
      refine r_iconst C dX5_isPair_24 ?_
      refine r_zreturn C E dX5_isPair_25 (by first | exact Or.inl rfl | exact Or.inr rfl | omega) ?_
      refine ⟨_, rfl, ?_, _, _, _, _, _, _, _, _, rfl⟩
      try rw [w0_same] at c_41
      try rw [w0_same] at c_50
      simp [wPr, *]
theorem c_X5_pairBy (hG : Gok g) {i : Int} (hi : inR i) (hd : Gd m_world) : XMet g yX5_pairBy cX5_pairBy 5 (some .int) 8 0 0 [.ref (ρ 0), .int (jI i)] (wM g ρ m_thrown m_world m_fresh m_waysBack m_acts m_images m_hasImage m_endOf m_strapMany m_tape m_taped m_five m_size m_at m_from m_token m_value m_faultKind m_faultPlace m_budgetsTold m_loadsTold m_deadSet m_unknownOf m_nodeOf m_unknowns m_cells m_whole m_ordered m_drawnBy m_left m_aside m_bestDead m_bestAbove m_bestBelow m_widened m_widenedMany m_fewOf m_drawing ++ ex) (pI (fun z w => z = (if i < 0 then (prS m_world i (wS m_world)).1 else (prS m_world i (wS m_world)).2) ∧ ∃ e un no ce sm ds um wh, w = (wM g ρ m_thrown m_world m_fresh m_waysBack m_acts m_images m_hasImage (e) (sm) m_tape m_taped m_five m_size m_at m_from m_token m_value m_faultKind m_faultPlace m_budgetsTold m_loadsTold (ds) (un) (no) (um) (ce) (wh) m_ordered m_drawnBy m_left m_aside m_bestDead m_bestAbove m_bestBelow m_widened m_widenedMany m_fewOf m_drawing ++ ex))) := by
  refine XMet.of (L := [some (.ref (ρ 0)), some (.int (jI i)), none, none, none]) hG (by decide +kernel) (Nat.le_of_ble_eq_true rfl) rfl (fun K C E => ?_)
  have hs := hd.s
  have outer : ∀ (mm : Nat), ∀ (a n : Int) (l4 : Option Value) (e un no ce : Int → Int) (sm ds um wh : Int), (0 ≤ a) → (a ≤ wS m_world) → (0 ≤ n ∧ n ≤ 12 * a) → ((n, (-1 : Int)) = prS m_world i a) → (wS m_world - a).toNat = mm → AW g K (wM g ρ m_thrown m_world m_fresh m_waysBack m_acts m_images m_hasImage (e) (sm) m_tape m_taped m_five m_size m_at m_from m_token m_value m_faultKind m_faultPlace m_budgetsTold m_loadsTold (ds) (un) (no) (um) (ce) (wh) m_ordered m_drawnBy m_left m_aside m_bestDead m_bestAbove m_bestBelow m_widened m_widenedMany m_fewOf m_drawing ++ ex) 0 0 4 [some (.ref (ρ 0)), some (.int (jI i)), some (.int (jI n)), some (.int (jI a)), l4] [] := by
    intro mm
    induction mm using Nat.strongRecOn with
    | _ mm ih =>
    intro a n l4 e un no ce sm ds um wh ha0 ha hn es hm
    refine r_iload_3 C dX5_pairBy_4 ?_
    refine r_aload_0 C dX5_pairBy_5 ?_
    refine r_cV0i C (c_X5_straps hG hd.l hd.g) (q0 := 0) rfl rfl q1634 pkX5_straps dX5_pairBy_6 (fun z w h => ?_)
    obtain ⟨rfl, e, he, rfl⟩ := h
    refine r_topi (wS m_world) rfl ?_
    refine r_if_icmpge (tgt := 67) C dX5_pairBy_9 (by decide) (fun c_9 => ?_) (fun c_9 => ?_)
    · skip
      refine r_iload_1 C dX5_pairBy_67 ?_
      refine r_ifge (tgt := 75) C dX5_pairBy_68 (by decide) (fun c_68 => ?_) (fun c_68 => ?_)
      · skip
        refine r_iconst C dX5_pairBy_75 ?_
        refine r_ireturn C E dX5_pairBy_76 ?_
        have e : a = wS m_world := by omega
        subst e
        refine ⟨_, rfl, ?_, _, _, _, _, _, _, _, _, rfl⟩
        rw [← es]
        first
          | rw [if_pos c_68]
          | rw [if_neg (by omega)]
      · skip
        refine r_iload_2 C dX5_pairBy_71 ?_
        refine r_goto (tgt := 76) C dX5_pairBy_72 (by decide) ?_
        refine r_ireturn C E dX5_pairBy_76 ?_
        have e : a = wS m_world := by omega
        subst e
        refine ⟨_, rfl, ?_, _, _, _, _, _, _, _, _, rfl⟩
        rw [← es]
        first
          | rw [if_pos c_68]
          | rw [if_neg (by omega)]
    · skip
      have ih0 := ih
      have inner : ∀ (mm : Nat), ∀ (b n : Int) (e un no ce : Int → Int) (sm ds um wh : Int), (a < b) → (b ≤ wS m_world) → (0 ≤ n ∧ n ≤ 12 * a + b) → ((n, (-1 : Int)) = prI m_world i a (prS m_world i a) b) → (wS m_world - b).toNat = mm → AW g K (wM g ρ m_thrown m_world m_fresh m_waysBack m_acts m_images m_hasImage (e) (sm) m_tape m_taped m_five m_size m_at m_from m_token m_value m_faultKind m_faultPlace m_budgetsTold m_loadsTold (ds) (un) (no) (um) (ce) (wh) m_ordered m_drawnBy m_left m_aside m_bestDead m_bestAbove m_bestBelow m_widened m_widenedMany m_fewOf m_drawing ++ ex) 0 0 17 [some (.ref (ρ 0)), some (.int (jI i)), some (.int (jI n)), some (.int (jI a)), some (.int (jI b))] [] := by
        intro mm
        induction mm using Nat.strongRecOn with
        | _ mm ih =>
        intro b n e un no ce sm ds um wh hb0 hb hn es hm
        refine r_iload_4 C dX5_pairBy_17 ?_
        refine r_aload_0 C dX5_pairBy_19 ?_
        refine r_cV0i C (c_X5_straps hG hd.l hd.g) (q0 := 0) rfl rfl q1634 pkX5_straps dX5_pairBy_20 (fun z w h => ?_)
        obtain ⟨rfl, e, he, rfl⟩ := h
        refine r_topi (wS m_world) rfl ?_
        refine r_if_icmpge (tgt := 61) C dX5_pairBy_23 (by decide) (fun c_23 => ?_) (fun c_23 => ?_)
        · skip
          refine r_iinc_3 C dX5_pairBy_61 ?_
          refine r_goto (tgt := 4) C dX5_pairBy_64 (by decide) ?_
          have eb : b = wS m_world := by omega
          subst eb
          refine ih0 _ (show (wS m_world - (a + 1)).toNat < _ by omega) (a + 1) n _ _ _ _ _ _ _ _ _ (by omega) (by omega) (by omega) ?_ rfl
          unfold prS at es ⊢
          rw [foI_s _ _ ha0]
          exact es
        · skip
          refine r_aload_0 C dX5_pairBy_26 ?_
          refine r_iload_3 C dX5_pairBy_27 ?_
          refine r_iload_4 C dX5_pairBy_28 ?_
          refine r_cV2i C (c_X5_isPair hG hd ⟨ha0, c_9⟩ ⟨by omega, c_23⟩) (q0 := 0) rfl rfl q2005 pkX5_isPair dX5_pairBy_30 (fun z w h => ?_)
          obtain ⟨rfl, e, un, no, ce, sm, ds, um, wh, rfl⟩ := h
          refine r_ifneB (tgt := 39) C dX5_pairBy_33 (by decide) (fun c_33 => ?_) (fun c_33 => ?_)
          · skip
            refine r_iload_2 C dX5_pairBy_39 ?_
            refine r_iload_1 C dX5_pairBy_40 ?_
            refine r_if_icmpne (tgt := 52) C dX5_pairBy_41 (by decide) (fun c_41 => ?_) (fun c_41 => ?_)
            · skip
              refine r_iinc_2 C dX5_pairBy_52 ?_
              refine r_iinc_4 C dX5_pairBy_55 ?_
              refine r_goto (tgt := 17) C dX5_pairBy_58 (by decide) ?_
              first
                | (refine ih _ (show (wS m_world - (b + 1)).toNat < mm by omega) (b + 1) (n + 1) _ _ _ _ _ _ _ _ (by omega) (by omega) (by omega) ?_ rfl
                   unfold prI at es ⊢
                   rw [foI_s _ _ (by omega), ← es]
                   unfold prT
                   rw [if_pos (And.intro hb0 (And.intro rfl c_33)), if_neg c_41])
                | (refine ih _ (show (wS m_world - (b + 1)).toNat < mm by omega) (b + 1) n _ _ _ _ _ _ _ _ (by omega) (by omega) (by omega) ?_ rfl
                   unfold prI at es ⊢
                   rw [foI_s _ _ (by omega), ← es]
                   unfold prT
                   rw [if_neg (fun q => c_33 q.2.2)])
            · skip
              refine r_bipush C dX5_pairBy_44 ?_
              refine r_iload_3 C dX5_pairBy_46 ?_
              refine r_imul C dX5_pairBy_47 ?_
              refine r_iload_4 C dX5_pairBy_48 ?_
              refine r_iadd C dX5_pairBy_50 ?_
              refine r_ireturn C E dX5_pairBy_51 ?_
              have hf := prS_found (s := (n, -1)) ha0 c_9 hb0 c_23 es c_33 c_41
              refine ⟨_, rfl, ?_, _, _, _, _, _, _, _, _, rfl⟩
              rw [hf, if_neg (by omega)]
          · skip
            refine r_goto (tgt := 55) C dX5_pairBy_36 (by decide) ?_
            refine r_iinc_4 C dX5_pairBy_55 ?_
            refine r_goto (tgt := 17) C dX5_pairBy_58 (by decide) ?_
            first
              | (refine ih _ (show (wS m_world - (b + 1)).toNat < mm by omega) (b + 1) (n + 1) _ _ _ _ _ _ _ _ (by omega) (by omega) (by omega) ?_ rfl
                 unfold prI at es ⊢
                 rw [foI_s _ _ (by omega), ← es]
                 unfold prT
                 rw [if_pos (And.intro hb0 (And.intro rfl c_33)), if_neg c_41])
              | (refine ih _ (show (wS m_world - (b + 1)).toNat < mm by omega) (b + 1) n _ _ _ _ _ _ _ _ (by omega) (by omega) (by omega) ?_ rfl
                 unfold prI at es ⊢
                 rw [foI_s _ _ (by omega), ← es]
                 unfold prT
                 rw [if_neg (fun q => c_33 q.2.2)])
      refine r_iload_3 C dX5_pairBy_12 ?_
      refine r_iconst C dX5_pairBy_13 ?_
      refine r_iadd C dX5_pairBy_14 ?_
      refine r_istore_4 C dX5_pairBy_15 ?_
      exact inner _ (a + 1) n _ _ _ _ _ _ _ _ (by omega) (by omega) (by omega) (by rw [prI_skip ha0]; exact es) rfl
  refine r_iconst C dX5_pairBy_0 ?_
  refine r_istore_2 C dX5_pairBy_1 ?_
  refine r_iconst C dX5_pairBy_2 ?_
  refine r_istore_3 C dX5_pairBy_3 ?_
  exact outer _ 0 0 _ _ _ _ _ _ _ _ _ (by omega) (by omega) (by omega) rfl rfl
theorem c_X5_pairs (hG : Gok g) (hW : WF m_world) : XMet g yX5_pairs cX5_pairs 1 (some .int) 9 0 0 [.ref (ρ 0)] (wM g ρ m_thrown m_world m_fresh m_waysBack m_acts m_images m_hasImage m_endOf m_strapMany m_tape m_taped m_five m_size m_at m_from m_token m_value m_faultKind m_faultPlace m_budgetsTold m_loadsTold m_deadSet m_unknownOf m_nodeOf m_unknowns m_cells m_whole m_ordered m_drawnBy m_left m_aside m_bestDead m_bestAbove m_bestBelow m_widened m_widenedMany m_fewOf m_drawing ++ ex) (pI (fun z w => z = spPairs m_world ∧ PubM g ρ ex m_world m_waysBack m_acts m_images m_hasImage m_tape m_taped m_faultKind m_faultPlace w)) := by
  refine XMet.of (L := [some (.ref (ρ 0))]) hG (by decide +kernel) (Nat.le_of_ble_eq_true rfl) rfl (fun K C E => ?_)
  have h4 := hW.r (k := 4) (by omega) (by omega)
  refine r_aload_0 C dX5_pairs_0 ?_
  refine r_cV0i C (c_X5_isGrid hG (by unfold inR; omega)) (q0 := 0) rfl rfl q1638 pkX5_isGrid dX5_pairs_1 (fun z w h => ?_)
  obtain ⟨rfl, rfl⟩ := h
  refine r_ifeqB (tgt := 15) C dX5_pairs_4 (by decide) (fun c_4 => ?_) (fun c_4 => ?_)
  · skip
    refine r_bipush C dX5_pairs_15 ?_
    refine r_ireturn C E dX5_pairs_17 ?_
    refine ⟨_, rfl, ?_, PubM.mk⟩
    unfold spPairs
    first
      | rw [if_pos c_4, if_pos (by omega)]
      | rw [if_neg c_4]
  · skip
    have hd := hW.gd4 c_4
    refine r_aload_0 C dX5_pairs_7 ?_
    refine r_iconst C dX5_pairs_8 ?_
    refine r_cV1i C (c_X5_pairBy hG (by unfold inR; omega) hd) (q0 := 0) rfl rfl q2001 pkX5_pairBy dX5_pairs_9 (fun z w h => ?_)
    obtain ⟨rfl, e, un, no, ce, sm, ds, um, wh, rfl⟩ := h
    refine r_goto (tgt := 17) C dX5_pairs_12 (by decide) ?_
    refine r_ireturn C E dX5_pairs_17 ?_
    refine ⟨_, rfl, ?_, PubM.mk⟩
    unfold spPairs
    first
      | rw [if_pos c_4, if_pos (by omega)]
      | rw [if_neg c_4]
theorem c_X5_pair (hG : Gok g) {i : Int} (hi : inR i) (hW : WF m_world) : XMet g yX5_pair cX5_pair 2 (some .int) 9 0 0 [.ref (ρ 0), .int (jI i)] (wM g ρ m_thrown m_world m_fresh m_waysBack m_acts m_images m_hasImage m_endOf m_strapMany m_tape m_taped m_five m_size m_at m_from m_token m_value m_faultKind m_faultPlace m_budgetsTold m_loadsTold m_deadSet m_unknownOf m_nodeOf m_unknowns m_cells m_whole m_ordered m_drawnBy m_left m_aside m_bestDead m_bestAbove m_bestBelow m_widened m_widenedMany m_fewOf m_drawing ++ ex) (pI (fun z w => z = spPair m_world i ∧ PubM g ρ ex m_world m_waysBack m_acts m_images m_hasImage m_tape m_taped m_faultKind m_faultPlace w)) := by
  refine XMet.of (L := [some (.ref (ρ 0)), some (.int (jI i))]) hG (by decide +kernel) (Nat.le_of_ble_eq_true rfl) rfl (fun K C E => ?_)
  have h4 := hW.r (k := 4) (by omega) (by omega)
  refine r_aload_0 C dX5_pair_0 ?_
  refine r_cV0i C (c_X5_isGrid hG (by unfold inR; omega)) (q0 := 0) rfl rfl q1638 pkX5_isGrid dX5_pair_1 (fun z w h => ?_)
  obtain ⟨rfl, rfl⟩ := h
  refine r_ifeqB (tgt := 19) C dX5_pair_4 (by decide) (fun c_4 => ?_) (fun c_4 => ?_)
  · skip
    refine r_bipush C dX5_pair_19 ?_
    refine r_ireturn C E dX5_pair_21 ?_
    refine ⟨_, rfl, ?_, PubM.mk⟩
    unfold spPair
    first
      | rw [if_pos (And.intro c_4 c_8), if_neg (by omega)]
      | rw [if_neg (fun q => c_4 q.1)]
      | rw [if_neg (by omega)]
  · skip
    have hd := hW.gd4 c_4
    refine r_iload_1 C dX5_pair_7 ?_
    refine r_iflt (tgt := 19) C dX5_pair_8 (by decide) (fun c_8 => ?_) (fun c_8 => ?_)
    · skip
      refine r_bipush C dX5_pair_19 ?_
      refine r_ireturn C E dX5_pair_21 ?_
      refine ⟨_, rfl, ?_, PubM.mk⟩
      unfold spPair
      first
        | rw [if_pos (And.intro c_4 c_8), if_neg (by omega)]
        | rw [if_neg (fun q => c_4 q.1)]
        | rw [if_neg (by omega)]
    · skip
      refine r_aload_0 C dX5_pair_11 ?_
      refine r_iload_1 C dX5_pair_12 ?_
      refine r_cV1i C (c_X5_pairBy hG hi hd) (q0 := 0) rfl rfl q2001 pkX5_pairBy dX5_pair_13 (fun z w h => ?_)
      obtain ⟨rfl, e, un, no, ce, sm, ds, um, wh, rfl⟩ := h
      refine r_goto (tgt := 21) C dX5_pair_16 (by decide) ?_
      refine r_ireturn C E dX5_pair_21 ?_
      refine ⟨_, rfl, ?_, PubM.mk⟩
      unfold spPair
      first
        | rw [if_pos (And.intro c_4 c_8), if_neg (by omega)]
        | rw [if_neg (fun q => c_4 q.1)]
        | rw [if_neg (by omega)]
theorem c_X5_draws1 (hG : Gok g) {n : Int} (hn : 0 ≤ n ∧ n ≤ 99) (hdr : 0 ≤ m_drawing ∧ m_drawing < 2147483648) : XMet g yX5_draws1 cX5_draws1 2 (some .int) 0 0 0 [.ref (ρ 0), .int (jI n)] (wM g ρ m_thrown m_world m_fresh m_waysBack m_acts m_images m_hasImage m_endOf m_strapMany m_tape m_taped m_five m_size m_at m_from m_token m_value m_faultKind m_faultPlace m_budgetsTold m_loadsTold m_deadSet m_unknownOf m_nodeOf m_unknowns m_cells m_whole m_ordered m_drawnBy m_left m_aside m_bestDead m_bestAbove m_bestBelow m_widened m_widenedMany m_fewOf m_drawing ++ ex) (pI (fun z w => z = lcg m_drawing / 65536 % (n + 1) ∧ w = (wM g ρ m_thrown m_world m_fresh m_waysBack m_acts m_images m_hasImage m_endOf m_strapMany m_tape m_taped m_five m_size m_at m_from m_token m_value m_faultKind m_faultPlace m_budgetsTold m_loadsTold m_deadSet m_unknownOf m_nodeOf m_unknowns m_cells m_whole m_ordered m_drawnBy m_left m_aside m_bestDead m_bestAbove m_bestBelow m_widened m_widenedMany m_fewOf (lcg m_drawing) ++ ex))) := by
  refine XMet.of (L := [some (.ref (ρ 0)), some (.int (jI n))]) hG (by decide +kernel) (Nat.le_of_ble_eq_true rfl) rfl (fun K C E => ?_)
  have hl := lcg_in m_drawing
  have hq : 0 ≤ lcg m_drawing / 65536 ∧ lcg m_drawing / 65536 ≤ 32768 := by omega
  refine r_aload_0 C dX5_draws1_0 ?_
  refine r_ldc2 C 1103515245 q2029 dX5_draws1_1 ?_
  refine r_aload_0 C dX5_draws1_4 ?_
  refine gM_drawing C q1422 dX5_draws1_5 ?_
  refine r_lmul C dX5_draws1_8 ?_
  refine r_ldc2 C 12345 q2030 dX5_draws1_9 ?_
  refine r_ladd C dX5_draws1_12 ?_
  refine r_ldc2 C 2147483648 q2031 dX5_draws1_13 ?_
  refine r_lrem C dX5_draws1_16 ?_
  refine r_topl (lcg m_drawing) (pl_tmod (by omega)) ?_
  refine pM_drawing C q1422 dX5_draws1_17 ?_
  refine r_aload_0 C dX5_draws1_20 ?_
  refine gM_drawing C q1422 dX5_draws1_21 ?_
  refine r_ldc2 C 65536 q2032 dX5_draws1_24 ?_
  refine r_ldiv C dX5_draws1_27 ?_
  refine r_topl (lcg m_drawing / 65536) (pl_tdiv (by omega)) ?_
  refine r_iload_1 C dX5_draws1_28 ?_
  refine r_iconst C dX5_draws1_29 ?_
  refine r_iadd C dX5_draws1_30 ?_
  refine r_i2l C dX5_draws1_31 ?_
  refine r_lrem C dX5_draws1_32 ?_
  refine r_topl (lcg m_drawing / 65536 % (n + 1)) (pl_tmod (by omega)) ?_
  refine r_l2i C dX5_draws1_33 ?_
  refine r_ireturn C E dX5_draws1_34 ?_
  exact ⟨_, rfl, rfl, rfl⟩
theorem c_X5_tries (hG : Gok g) {seed n : Int} (hse : 0 ≤ seed ∧ seed ≤ 2147483647) (hn1 : 1 ≤ n ∧ n ≤ 100) (hd : Gd m_world) : XMet g yX5_tries cX5_tries 6 (some .int) 6 0 0 [.ref (ρ 0), .int (jI seed), .int (jI n)] (wM g ρ m_thrown m_world m_fresh m_waysBack m_acts m_images m_hasImage m_endOf m_strapMany m_tape m_taped m_five m_size m_at m_from m_token m_value m_faultKind m_faultPlace m_budgetsTold m_loadsTold m_deadSet m_unknownOf m_nodeOf m_unknowns m_cells m_whole m_ordered m_drawnBy m_left m_aside m_bestDead m_bestAbove m_bestBelow m_widened m_widenedMany m_fewOf m_drawing ++ ex) (pI (fun z w => z = (trS m_world seed n).2.1 ∧ ∃ e un no ce sm ds um wh, ∃ dr ad, w = (wM g ρ m_thrown m_world m_fresh m_waysBack m_acts m_images m_hasImage (e) (sm) m_tape m_taped m_five m_size m_at m_from m_token m_value m_faultKind m_faultPlace m_budgetsTold m_loadsTold (ds) (un) (no) (um) (ce) (wh) m_ordered m_drawnBy m_left (ad) m_bestDead ((trS m_world seed n).2.2.1) ((trS m_world seed n).2.2.2) m_widened m_widenedMany m_fewOf (dr) ++ ex))) := by
  refine XMet.of (L := [some (.ref (ρ 0)), some (.int (jI seed)), some (.int (jI n)), none, none, none]) hG (by decide +kernel) (Nat.le_of_ble_eq_true rfl) rfl (fun K C E => ?_)
  have hn := hd.n
  have hs := hd.s
  have outer : ∀ (mm : Nat), ∀ (k : Int) (s : Int × Int × Int × Int) (ww : Int → Int) (l5 : Option Value) (e un no ce : Int → Int) (sm ds um wh : Int), (0 ≤ k) → (k ≤ n) → (∀ j, ¬ (6 ≤ j ∧ j < 6 + wN m_world) → ww j = m_world j) → (0 ≤ s.1 ∧ s.1 < 2147483648) → (0 ≤ s.2.2.1 ∧ s.2.2.1 ≤ 7653631721472) → (0 < s.2.2.2 ∧ s.2.2.2 ≤ 8589934592) → (s = trS m_world seed k) → (n - k).toNat = mm → AW g K (wM g ρ m_thrown (ww) m_fresh m_waysBack m_acts m_images m_hasImage (e) (sm) m_tape m_taped m_five m_size m_at m_from m_token m_value m_faultKind m_faultPlace m_budgetsTold m_loadsTold (ds) (un) (no) (um) (ce) (wh) m_ordered m_drawnBy m_left (ov m_world m_aside) m_bestDead (s.2.2.1) (s.2.2.2) m_widened m_widenedMany m_fewOf (s.1) ++ ex) 0 0 25 [some (.ref (ρ 0)), some (.int (jI seed)), some (.int (jI n)), some (.int (jI s.2.1)), some (.int (jI k)), l5] [] := by
    intro mm
    induction mm using Nat.strongRecOn with
    | _ mm ih =>
    intro k s ww l5 e un no ce sm ds um wh hk0 hk hww hs1 hs3 hs4 es hm
    refine r_iload_4 C dX5_tries_25 ?_
    refine r_iload_2 C dX5_tries_27 ?_
    refine r_if_icmpge (tgt := 135) C dX5_tries_28 (by decide) (fun c_28 => ?_) (fun c_28 => ?_)
    · skip
      refine r_aload_0 C dX5_tries_135 ?_
      refine r_cV0v C (c_X5_takesOut hG) (q0 := 0) rfl rfl q1879 pkX5_takesOut dX5_tries_136 (fun w h => ?_)
      subst h
      rw [ov_back (fun j hj => hww j (by omega))]
      refine r_iload_3 C dX5_tries_139 ?_
      refine r_ireturn C E dX5_tries_140 ?_
      have e : k = n := by omega
      subst e
      subst es
      exact ⟨_, rfl, rfl, _, _, _, _, _, _, _, _, _, _, rfl⟩
    · skip
      have ih0 := ih
      have hdT := hd.tr s.1
      have inner : ∀ (mm : Nat), ∀ (v : Int) (ww : Int → Int), (0 ≤ v) → (v ≤ wN m_world) → (∀ j, ¬ (6 ≤ j ∧ j < 6 + wN m_world) → ww j = m_world j) → (∀ u, 0 ≤ u → u < v → ww (6 + u) = trV m_world s.1 u) → (wN m_world - v).toNat = mm → AW g K (wM g ρ m_thrown (ww) m_fresh m_waysBack m_acts m_images m_hasImage (e) (sm) m_tape m_taped m_five m_size m_at m_from m_token m_value m_faultKind m_faultPlace m_budgetsTold m_loadsTold (ds) (un) (no) (um) (ce) (wh) m_ordered m_drawnBy m_left (ov m_world m_aside) m_bestDead (s.2.2.1) (s.2.2.2) m_widened m_widenedMany m_fewOf (itN lcg v.toNat s.1) ++ ex) 0 0 34 [some (.ref (ρ 0)), some (.int (jI seed)), some (.int (jI n)), some (.int (jI s.2.1)), some (.int (jI k)), some (.int (jI v))] [] := by
        intro mm
        induction mm using Nat.strongRecOn with
        | _ mm ih =>
        intro v ww hv0 hv hw1 hw2 hm
        refine r_iload_5 C dX5_tries_34 ?_
        refine r_aload_0 C dX5_tries_36 ?_
        refine r_cV0i C (c_X5_nodes hG) (q0 := 0) rfl rfl q1654 pkX5_nodes dX5_tries_37 (fun z w h => ?_)
        obtain ⟨rfl, rfl⟩ := h
        refine r_topi (wN m_world) (by unfold wN; rw [hw1 0 (by omega), hw1 1 (by omega)]) ?_
        refine r_if_icmpge (tgt := 73) C dX5_tries_40 (by decide) (fun c_40 => ?_) (fun c_40 => ?_)
        · skip
          have ev : v = wN m_world := by omega
          subst ev
          have ew : ww = trW m_world s.1 := by
            funext j
            unfold trW
            split
            · rename_i q
              have := hw2 (j - 6) (by omega) (by omega)
              rwa [show 6 + (j - 6) = j by omega] at this
            · rename_i q; exact hw1 j q
          subst ew
          have hmx := hdT.mx
          have hwh := hdT.who
          have hcm := cmpF_in (a := wMx (trW m_world s.1)) (b := wWh (trW m_world s.1)) (c := s.2.2.1) (d := s.2.2.2)
          refine r_iload_3 C dX5_tries_73 ?_
          refine r_aload_0 C dX5_tries_74 ?_
          refine r_cV0i C (c_X5_doesHold hG hdT) (q0 := 0) rfl rfl q1770 pkX5_doesHold dX5_tries_75 (fun z w h => ?_)
          obtain ⟨rfl, e, un, no, ce, he, hS, rfl⟩ := h
          refine r_ifeqB (tgt := 85) C dX5_tries_78 (by decide) (fun c_78 => ?_) (fun c_78 => ?_)
          · skip
            refine r_iconst C dX5_tries_85 ?_
            refine r_iadd C dX5_tries_86 ?_
            refine r_istore_3 C dX5_tries_87 ?_
            refine r_aload_0 C dX5_tries_88 ?_
            refine r_cV0l C (c_X5_mostDrop hG hdT hS rfl) (q0 := 0) rfl rfl q1755 pkX5_mostDrop dX5_tries_89 (fun z w h => ?_)
            obtain ⟨rfl, rfl⟩ := h
            refine r_aload_0 C dX5_tries_92 ?_
            refine gM_whole C q1411 dX5_tries_93 ?_
            refine r_aload_0 C dX5_tries_96 ?_
            refine gM_bestAbove C q1417 dX5_tries_97 ?_
            refine r_aload_0 C dX5_tries_100 ?_
            refine gM_bestBelow C q1418 dX5_tries_101 ?_
            refine r_cS4i C (c_X5_compares hG (by omega) (by omega) (by omega) (by omega)) q1911 pkX5_compares dX5_tries_104 (fun z w h => ?_)
            obtain ⟨rfl, rfl⟩ := h
            refine r_ifgt (tgt := 113) C dX5_tries_107 (by decide) (fun c_107 => ?_) (fun c_107 => ?_)
            · skip
              refine r_aload_0 C dX5_tries_113 ?_
              refine r_aload_0 C dX5_tries_114 ?_
              refine r_cV0l C (c_X5_mostDrop hG hdT hS rfl) (q0 := 0) rfl rfl q1755 pkX5_mostDrop dX5_tries_115 (fun z w h => ?_)
              obtain ⟨rfl, rfl⟩ := h
              refine pM_bestAbove C q1417 dX5_tries_118 ?_
              refine r_aload_0 C dX5_tries_121 ?_
              refine r_aload_0 C dX5_tries_122 ?_
              refine gM_whole C q1411 dX5_tries_123 ?_
              refine pM_bestBelow C q1418 dX5_tries_126 ?_
              refine r_iinc_4 C dX5_tries_129 ?_
              refine r_goto (tgt := 25) C dX5_tries_132 (by decide) ?_
              first
                | (refine ih0 _ (show (n - (k + 1)).toNat < _ by omega) (k + 1) (itN lcg (wN m_world).toNat s.1, s.2.1 + 1, s.2.2) _ _ _ _ _ _ _ _ _ _ (by omega) (by omega) hw1 (itN_in hs1 _) hs3 hs4 ?_ rfl
                   unfold trS at es ⊢
                   rw [foI_s _ _ hk0, ← es]
                   unfold trT
                   rw [if_pos c_78, if_pos c_107])
                | (refine ih0 _ (show (n - (k + 1)).toNat < _ by omega) (k + 1) (itN lcg (wN m_world).toNat s.1, s.2.1 + 0, s.2.2) _ _ _ _ _ _ _ _ _ _ (by omega) (by omega) hw1 (itN_in hs1 _) hs3 hs4 ?_ rfl
                   unfold trS at es ⊢
                   rw [foI_s _ _ hk0, ← es]
                   unfold trT
                   rw [if_neg c_78, if_pos c_107])
                | (refine ih0 _ (show (n - (k + 1)).toNat < _ by omega) (k + 1) (itN lcg (wN m_world).toNat s.1, s.2.1 + 1, (wMx (trW m_world s.1), wWh (trW m_world s.1))) _ _ _ _ _ _ _ _ _ _ (by omega) (by omega) hw1 (itN_in hs1 _) hmx hwh ?_ rfl
                   unfold trS at es ⊢
                   rw [foI_s _ _ hk0, ← es]
                   unfold trT
                   rw [if_pos c_78, if_neg (by omega)])
                | (refine ih0 _ (show (n - (k + 1)).toNat < _ by omega) (k + 1) (itN lcg (wN m_world).toNat s.1, s.2.1 + 0, (wMx (trW m_world s.1), wWh (trW m_world s.1))) _ _ _ _ _ _ _ _ _ _ (by omega) (by omega) hw1 (itN_in hs1 _) hmx hwh ?_ rfl
                   unfold trS at es ⊢
                   rw [foI_s _ _ hk0, ← es]
                   unfold trT
                   rw [if_neg c_78, if_neg (by omega)])
            · skip
              refine r_goto (tgt := 129) C dX5_tries_110 (by decide) ?_
              refine r_iinc_4 C dX5_tries_129 ?_
              refine r_goto (tgt := 25) C dX5_tries_132 (by decide) ?_
              first
                | (refine ih0 _ (show (n - (k + 1)).toNat < _ by omega) (k + 1) (itN lcg (wN m_world).toNat s.1, s.2.1 + 1, s.2.2) _ _ _ _ _ _ _ _ _ _ (by omega) (by omega) hw1 (itN_in hs1 _) hs3 hs4 ?_ rfl
                   unfold trS at es ⊢
                   rw [foI_s _ _ hk0, ← es]
                   unfold trT
                   rw [if_pos c_78, if_pos c_107])
                | (refine ih0 _ (show (n - (k + 1)).toNat < _ by omega) (k + 1) (itN lcg (wN m_world).toNat s.1, s.2.1 + 0, s.2.2) _ _ _ _ _ _ _ _ _ _ (by omega) (by omega) hw1 (itN_in hs1 _) hs3 hs4 ?_ rfl
                   unfold trS at es ⊢
                   rw [foI_s _ _ hk0, ← es]
                   unfold trT
                   rw [if_neg c_78, if_pos c_107])
                | (refine ih0 _ (show (n - (k + 1)).toNat < _ by omega) (k + 1) (itN lcg (wN m_world).toNat s.1, s.2.1 + 1, (wMx (trW m_world s.1), wWh (trW m_world s.1))) _ _ _ _ _ _ _ _ _ _ (by omega) (by omega) hw1 (itN_in hs1 _) hmx hwh ?_ rfl
                   unfold trS at es ⊢
                   rw [foI_s _ _ hk0, ← es]
                   unfold trT
                   rw [if_pos c_78, if_neg (by omega)])
                | (refine ih0 _ (show (n - (k + 1)).toNat < _ by omega) (k + 1) (itN lcg (wN m_world).toNat s.1, s.2.1 + 0, (wMx (trW m_world s.1), wWh (trW m_world s.1))) _ _ _ _ _ _ _ _ _ _ (by omega) (by omega) hw1 (itN_in hs1 _) hmx hwh ?_ rfl
                   unfold trS at es ⊢
                   rw [foI_s _ _ hk0, ← es]
                   unfold trT
                   rw [if_neg c_78, if_neg (by omega)])
          · skip
            refine r_iconst C dX5_tries_81 ?_
            refine r_goto (tgt := 86) C dX5_tries_82 (by decide) ?_
            refine r_iadd C dX5_tries_86 ?_
            refine r_istore_3 C dX5_tries_87 ?_
            refine r_aload_0 C dX5_tries_88 ?_
            refine r_cV0l C (c_X5_mostDrop hG hdT hS rfl) (q0 := 0) rfl rfl q1755 pkX5_mostDrop dX5_tries_89 (fun z w h => ?_)
            obtain ⟨rfl, rfl⟩ := h
            refine r_aload_0 C dX5_tries_92 ?_
            refine gM_whole C q1411 dX5_tries_93 ?_
            refine r_aload_0 C dX5_tries_96 ?_
            refine gM_bestAbove C q1417 dX5_tries_97 ?_
            refine r_aload_0 C dX5_tries_100 ?_
            refine gM_bestBelow C q1418 dX5_tries_101 ?_
            refine r_cS4i C (c_X5_compares hG (by omega) (by omega) (by omega) (by omega)) q1911 pkX5_compares dX5_tries_104 (fun z w h => ?_)
            obtain ⟨rfl, rfl⟩ := h
            refine r_ifgt (tgt := 113) C dX5_tries_107 (by decide) (fun c_107 => ?_) (fun c_107 => ?_)
            · skip
              refine r_aload_0 C dX5_tries_113 ?_
              refine r_aload_0 C dX5_tries_114 ?_
              refine r_cV0l C (c_X5_mostDrop hG hdT hS rfl) (q0 := 0) rfl rfl q1755 pkX5_mostDrop dX5_tries_115 (fun z w h => ?_)
              obtain ⟨rfl, rfl⟩ := h
              refine pM_bestAbove C q1417 dX5_tries_118 ?_
              refine r_aload_0 C dX5_tries_121 ?_
              refine r_aload_0 C dX5_tries_122 ?_
              refine gM_whole C q1411 dX5_tries_123 ?_
              refine pM_bestBelow C q1418 dX5_tries_126 ?_
              refine r_iinc_4 C dX5_tries_129 ?_
              refine r_goto (tgt := 25) C dX5_tries_132 (by decide) ?_
              first
                | (refine ih0 _ (show (n - (k + 1)).toNat < _ by omega) (k + 1) (itN lcg (wN m_world).toNat s.1, s.2.1 + 1, s.2.2) _ _ _ _ _ _ _ _ _ _ (by omega) (by omega) hw1 (itN_in hs1 _) hs3 hs4 ?_ rfl
                   unfold trS at es ⊢
                   rw [foI_s _ _ hk0, ← es]
                   unfold trT
                   rw [if_pos c_78, if_pos c_107])
                | (refine ih0 _ (show (n - (k + 1)).toNat < _ by omega) (k + 1) (itN lcg (wN m_world).toNat s.1, s.2.1 + 0, s.2.2) _ _ _ _ _ _ _ _ _ _ (by omega) (by omega) hw1 (itN_in hs1 _) hs3 hs4 ?_ rfl
                   unfold trS at es ⊢
                   rw [foI_s _ _ hk0, ← es]
                   unfold trT
                   rw [if_neg c_78, if_pos c_107])
                | (refine ih0 _ (show (n - (k + 1)).toNat < _ by omega) (k + 1) (itN lcg (wN m_world).toNat s.1, s.2.1 + 1, (wMx (trW m_world s.1), wWh (trW m_world s.1))) _ _ _ _ _ _ _ _ _ _ (by omega) (by omega) hw1 (itN_in hs1 _) hmx hwh ?_ rfl
                   unfold trS at es ⊢
                   rw [foI_s _ _ hk0, ← es]
                   unfold trT
                   rw [if_pos c_78, if_neg (by omega)])
                | (refine ih0 _ (show (n - (k + 1)).toNat < _ by omega) (k + 1) (itN lcg (wN m_world).toNat s.1, s.2.1 + 0, (wMx (trW m_world s.1), wWh (trW m_world s.1))) _ _ _ _ _ _ _ _ _ _ (by omega) (by omega) hw1 (itN_in hs1 _) hmx hwh ?_ rfl
                   unfold trS at es ⊢
                   rw [foI_s _ _ hk0, ← es]
                   unfold trT
                   rw [if_neg c_78, if_neg (by omega)])
            · skip
              refine r_goto (tgt := 129) C dX5_tries_110 (by decide) ?_
              refine r_iinc_4 C dX5_tries_129 ?_
              refine r_goto (tgt := 25) C dX5_tries_132 (by decide) ?_
              first
                | (refine ih0 _ (show (n - (k + 1)).toNat < _ by omega) (k + 1) (itN lcg (wN m_world).toNat s.1, s.2.1 + 1, s.2.2) _ _ _ _ _ _ _ _ _ _ (by omega) (by omega) hw1 (itN_in hs1 _) hs3 hs4 ?_ rfl
                   unfold trS at es ⊢
                   rw [foI_s _ _ hk0, ← es]
                   unfold trT
                   rw [if_pos c_78, if_pos c_107])
                | (refine ih0 _ (show (n - (k + 1)).toNat < _ by omega) (k + 1) (itN lcg (wN m_world).toNat s.1, s.2.1 + 0, s.2.2) _ _ _ _ _ _ _ _ _ _ (by omega) (by omega) hw1 (itN_in hs1 _) hs3 hs4 ?_ rfl
                   unfold trS at es ⊢
                   rw [foI_s _ _ hk0, ← es]
                   unfold trT
                   rw [if_neg c_78, if_pos c_107])
                | (refine ih0 _ (show (n - (k + 1)).toNat < _ by omega) (k + 1) (itN lcg (wN m_world).toNat s.1, s.2.1 + 1, (wMx (trW m_world s.1), wWh (trW m_world s.1))) _ _ _ _ _ _ _ _ _ _ (by omega) (by omega) hw1 (itN_in hs1 _) hmx hwh ?_ rfl
                   unfold trS at es ⊢
                   rw [foI_s _ _ hk0, ← es]
                   unfold trT
                   rw [if_pos c_78, if_neg (by omega)])
                | (refine ih0 _ (show (n - (k + 1)).toNat < _ by omega) (k + 1) (itN lcg (wN m_world).toNat s.1, s.2.1 + 0, (wMx (trW m_world s.1), wWh (trW m_world s.1))) _ _ _ _ _ _ _ _ _ _ (by omega) (by omega) hw1 (itN_in hs1 _) hmx hwh ?_ rfl
                   unfold trS at es ⊢
                   rw [foI_s _ _ hk0, ← es]
                   unfold trT
                   rw [if_neg c_78, if_neg (by omega)])
        · skip
          have hdi := itN_in hs1 v.toNat
          have hld := hd.ld v hv0 (by omega)
          refine r_aload_0 C dX5_tries_43 ?_
          refine gM_world C q1386 dX5_tries_44 ?_
          refine r_bipush C dX5_tries_47 ?_
          refine r_iload_5 C dX5_tries_49 ?_
          refine r_iadd C dX5_tries_51 ?_
          refine r_aload_0 C dX5_tries_52 ?_
          refine r_aload_0 C dX5_tries_53 ?_
          refine gM_aside C q1415 dX5_tries_54 ?_
          refine r_bipush C dX5_tries_57 ?_
          refine r_iload_5 C dX5_tries_59 ?_
          refine r_iadd C dX5_tries_61 ?_
          refine ldM_aside C dX5_tries_62 ?_
          refine r_topi (m_world (6 + v)) (ov_in (by omega) (by omega)) ?_
          refine r_cV1i C (c_X5_draws1 hG hld hdi) (q0 := 0) rfl rfl q2025 pkX5_draws1 dX5_tries_63 (fun z w h => ?_)
          obtain ⟨rfl, rfl⟩ := h
          refine stM_world C dX5_tries_66 ?_
          refine r_iinc_5 C dX5_tries_67 ?_
          refine r_goto (tgt := 34) C dX5_tries_70 (by decide) ?_
          have ed : lcg (itN lcg v.toNat s.1) = itN lcg (v + 1).toNat s.1 := by rw [show (v + 1).toNat = v.toNat + 1 by omega]; rfl
          rw [ed]
          refine ih _ (show (wN m_world - (v + 1)).toNat < mm by omega) (v + 1) _ (by omega) (by omega) (fun j hj => by rw [aset_ne (by omega)]; exact hw1 j hj) (fun u a b => ?_) rfl
          by_cases eu : u = v
          · rw [eu, aset_at]; rfl
          · rw [aset_ne (by omega)]; exact hw2 u a (by omega)
      refine r_iconst C dX5_tries_31 ?_
      refine r_istore_5 C dX5_tries_32 ?_
      exact inner _ 0 ww (by omega) (by omega) hww (fun u _ _ => by omega) rfl
  refine r_aload_0 C dX5_tries_0 ?_
  refine r_cV0v C (c_X5_puts hG) (q0 := 0) rfl rfl q1871 pkX5_puts dX5_tries_1 (fun w h => ?_)
  subst h
  refine r_aload_0 C dX5_tries_4 ?_
  refine r_iload_1 C dX5_tries_5 ?_
  refine r_i2l C dX5_tries_6 ?_
  refine pM_drawing C q1422 dX5_tries_7 ?_
  refine r_iconst C dX5_tries_10 ?_
  refine r_istore_3 C dX5_tries_11 ?_
  refine r_aload_0 C dX5_tries_12 ?_
  refine r_lconst0 C dX5_tries_13 ?_
  refine pM_bestAbove C q1417 dX5_tries_14 ?_
  refine r_aload_0 C dX5_tries_17 ?_
  refine r_lconst1 C dX5_tries_18 ?_
  refine pM_bestBelow C q1418 dX5_tries_19 ?_
  refine r_iconst C dX5_tries_22 ?_
  refine r_istore_4 C dX5_tries_23 ?_
  exact outer _ 0 (seed, 0, 0, 1) m_world _ _ _ _ _ _ _ _ _ (by omega) (by omega) (fun _ _ => rfl) ⟨hse.1, by (try simp only); omega⟩ (by (try simp only); omega) (by (try simp only); omega) rfl rfl
end M14

