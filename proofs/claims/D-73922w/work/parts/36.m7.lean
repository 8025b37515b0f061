section M7
variable {g : GX} {ρ : Nat → Nat} {ex : va_W}
variable {m_thrown : Int} {m_world : Int → Int} {m_fresh : Int → Int} {m_waysBack : Int → Int} {m_acts : Int} {m_images : Int → Int} {m_hasImage : Int → Int} {m_endOf : Int → Int} {m_strapMany : Int} {m_tape : Int → Int} {m_taped : Int} {m_five : Int → Int} {m_size : Int} {m_at : Int} {m_from : Int} {m_token : Int} {m_value : Int} {m_faultKind : Int} {m_faultPlace : Int} {m_budgetsTold : Int} {m_loadsTold : Int} {m_deadSet : Int} {m_unknownOf : Int → Int} {m_nodeOf : Int → Int} {m_unknowns : Int} {m_cells : Int → Int} {m_whole : Int} {m_ordered : Int → Int} {m_drawnBy : Int → Int} {m_left : Int → Int} {m_aside : Int → Int} {m_bestDead : Int} {m_bestAbove : Int} {m_bestBelow : Int} {m_widened : Int → Int} {m_widenedMany : Int} {m_fewOf : Int → Int} {m_drawing : Int}
theorem c_X5_solves (hG : Gok g) {F : Int} (h4 : 0 < m_world 4 ∧ m_world 4 ≤ 1000) (hg : GW (m_world 0) (m_world 1)) (hw : WdOk (fun k => m_world (28 + k))) (hF : NSet (m_world 0) (m_world 1) F) : XMet g yX5_solves cX5_solves 3 none 3 0 0 [.ref (ρ 0), .int (jI F)] (wM g ρ m_thrown m_world m_fresh m_waysBack m_acts m_images m_hasImage m_endOf m_strapMany m_tape m_taped m_five m_size m_at m_from m_token m_value m_faultKind m_faultPlace m_budgetsTold m_loadsTold m_deadSet m_unknownOf m_nodeOf m_unknowns m_cells m_whole m_ordered m_drawnBy m_left m_aside m_bestDead m_bestAbove m_bestBelow m_widened m_widenedMany m_fewOf m_drawing ++ ex) (pV (fun w => ∃ e un no ce, Ends (m_world 0) (m_world 1) e ∧ SolM (m_world 0) (m_world 1) (fun k => m_world (28 + k)) F un no ce ∧ w = (wM g ρ m_thrown m_world m_fresh m_waysBack m_acts m_images m_hasImage (e) (sN (m_world 0) (m_world 1)) m_tape m_taped m_five m_size m_at m_from m_token m_value m_faultKind m_faultPlace m_budgetsTold m_loadsTold (bsD (bsP (m_world 0 * m_world 1) - 1) (gR (m_world 0) (m_world 1) (fun k => m_world (28 + k)) F)) (un) (no) (gm (m_world 0) (m_world 1) (fun k => m_world (28 + k)) F) (ce) (wh (m_world 0) (m_world 1) (fun k => m_world (28 + k)) F) m_ordered m_drawnBy m_left m_aside m_bestDead m_bestAbove m_bestBelow m_widened m_widenedMany m_fewOf m_drawing ++ ex))) := by
  refine XMet.of (L := [some (.ref (ρ 0)), some (.int (jI F)), none]) hG (by decide +kernel) (Nat.le_of_ble_eq_true rfl) rfl (fun K C E => ?_)
  have hn1 := hg.n1
  have hn9 := hg.2.2
  have hF0 := hF.1
  have hF5 := hF.s512 hg
  have hwR : ∀ k, 0 ≤ k → k < 12 → inR (m_world (28 + k)) := fun k h1 h2 => by have := hw k h1 h2; simp only [] at this; unfold inR; omega
  generalize hwd : (fun k => m_world (28 + k)) = wd at hw
  have hok := sol_ok hg hw hF
  have hRin := rch_in (wd := wd) hg hF0 hF5
  generalize hn : m_world 0 * m_world 1 = n at *
  have hP0 : 0 < bsP n := bsP_0
  have hdl : bsD (bsP n - 1) (gR (m_world 0) (m_world 1) wd F) < 512 := by
    have h9 : bsP n ≤ 512 := by
      unfold bsP
      have : 2 ^ n.toNat ≤ 2 ^ 9 := Nat.pow_le_pow_right (by decide) (by omega)
      omega
    have := bsD_lt (a := bsP n - 1) (b := gR (m_world 0) (m_world 1) wd F) (n := 9) (by have : ((2 ^ 9 : Nat) : Int) = 512 := rfl; omega)
    simpa using this
  have hdb : ∀ v, 0 ≤ v → v < n → bsB (bsD (bsP n - 1) (gR (m_world 0) (m_world 1) wd F)) v = !bsB (gR (m_world 0) (m_world 1) wd F) v := fun v h1 h2 => by
    rw [bsB_D, bsB_full (by omega) h1]
    simp [h2]
  have key : ∀ (mm : Nat), ∀ (v : Int) (e un no : Int → Int), (0 ≤ v) → (v ≤ n) → (Ends (m_world 0) (m_world 1) e) → (∀ u, 0 ≤ u → u < v → un u = gx (m_world 0) (m_world 1) wd F u) → (∀ i, 0 ≤ i → i < uC (gR (m_world 0) (m_world 1) wd F) F v → 0 ≤ no i ∧ no i < v ∧ gx (m_world 0) (m_world 1) wd F (no i) = i) → (n - v).toNat = mm → AW g K (wM g ρ m_thrown m_world m_fresh m_waysBack m_acts m_images m_hasImage (e) (sN (m_world 0) (m_world 1)) m_tape m_taped m_five m_size m_at m_from m_token m_value m_faultKind m_faultPlace m_budgetsTold m_loadsTold (bsD (bsP n - 1) (gR (m_world 0) (m_world 1) wd F)) (un) (no) (uC (gR (m_world 0) (m_world 1) wd F) F v) m_cells m_whole m_ordered m_drawnBy m_left m_aside m_bestDead m_bestAbove m_bestBelow m_widened m_widenedMany m_fewOf m_drawing ++ ex) 0 0 32 [some (.ref (ρ 0)), some (.int (jI F)), some (.int (jI v))] [] := by
    intro mm
    induction mm using Nat.strongRecOn with
    | _ mm ih =>
    intro v e un no hv0 hv he hun hno hm
    have hu1 := uC_nn (R := gR (m_world 0) (m_world 1) wd F) (F := F) hv0
    have hus := uC_s (R := gR (m_world 0) (m_world 1) wd F) (F := F) hv0
    refine r_iload_2 C dX5_solves_32 ?_
    refine r_aload_0 C dX5_solves_33 ?_
    refine r_cV0i C (c_X5_nodes hG) (q0 := 0) rfl rfl q1654 pkX5_nodes dX5_solves_34 (fun z w h => ?_)
    obtain ⟨rfl, rfl⟩ := h
    refine r_topi n hn ?_
    refine r_if_icmpge (tgt := 105) C dX5_solves_37 (by decide) (fun c_37 => ?_) (fun c_37 => ?_)
    · skip
      have ev : v = n := by omega
      subst ev
      have hgm : uC (gR (m_world 0) (m_world 1) wd F) F v = gm (m_world 0) (m_world 1) wd F := by unfold gm; rw [hn]
      rw [hgm] at hno hu1 ⊢
      refine r_aload_0 C dX5_solves_105 ?_
      refine r_cV0v C (c_X5_laysCells hG (c := m_world 0) (r := m_world 1) (iv := gx (m_world 0) (m_world 1) wd F) hg he rfl (by omega) (fun v h1 h2 => hun v h1 (by omega)) (fun v h1 h2 => gx_in h1 h2) (fun u v h1 h2 h3 h4 h5 h6 => ix_inj h1 h3 h5 h6) hwR) (q0 := 0) rfl rfl q1665 pkX5_laysCells dX5_solves_106 (fun w h => ?_)
      obtain ⟨ce0, hR0, rfl⟩ := h
      rw [hwd] at hR0
      refine r_aload_0 C dX5_solves_109 ?_
      refine r_cV0v C (c_X5_brings hG (A := gA (m_world 0) (m_world 1) wd F) (by omega) hR0 hok.1) (q0 := 0) rfl rfl q1669 pkX5_brings dX5_solves_110 (fun w h => ?_)
      obtain ⟨ce, hR, rfl⟩ := h
      refine r_return C E dX5_solves_113 ?_
      refine ⟨rfl, e, un, no, ce, he, ?_, ?_⟩
      · rw [hwd]
        exact ⟨fun v h1 h2 => hun v h1 (by omega), fun i h1 h2 => by rw [hn]; exact hno i h1 h2, hR⟩
      · rw [hwd]
        rfl
    · skip
      refine r_aload_0 C dX5_solves_40 ?_
      refine gM_unknownOf C q1407 dX5_solves_41 ?_
      refine r_iload_2 C dX5_solves_44 ?_
      refine r_iconst C dX5_solves_45 ?_
      refine stM_unknownOf C dX5_solves_46 ?_
      refine r_aload_0 C dX5_solves_47 ?_
      refine gM_deadSet C q1406 dX5_solves_48 ?_
      refine r_iload_2 C dX5_solves_51 ?_
      refine r_cS2i C (c_X5_isOf hG ⟨bsD_0, by omega⟩ (by omega)) q1606 pkX5_isOf dX5_solves_52 (fun z w h => ?_)
      obtain ⟨rfl, rfl⟩ := h
      refine r_ifne (tgt := 99) C dX5_solves_55 (by decide) (fun c_55 => ?_) (fun c_55 => ?_) (by unfold inR; split <;> omega)
      · skip
        have hk : ukB (gR (m_world 0) (m_world 1) wd F) F v = false := by
          unfold ukB
          rw [hdb v hv0 c_37] at c_55
          first
            | (have : bsB F v = true := by cases hb : bsB F v <;> simp_all
               rw [this]; simp)
            | (have : bsB (gR (m_world 0) (m_world 1) wd F) v = false := by cases hb : bsB (gR (m_world 0) (m_world 1) wd F) v <;> simp_all
               rw [this]; simp)
        rw [hk, if_neg (by simp)] at hus
        rw [← hus]
        refine r_iinc_2 C dX5_solves_99 ?_
        refine r_goto (tgt := 32) C dX5_solves_102 (by decide) ?_
        refine ih _ (show (n - (v + 1)).toNat < mm by omega) (v + 1) e _ no (by omega) (by omega) he (fun u h1 h2 => ?_) (fun i h1 h2 => ?_) rfl
        · by_cases eu : u = v
          · subst eu
            rw [aset_at]
            unfold gx ix
            rw [hk]
            rfl
          · rw [aset_ne eu]
            exact hun u h1 (by omega)
        · rw [hus] at h2
          have := hno i h1 h2
          exact ⟨this.1, by omega, this.2.2⟩
      · skip
        refine r_iload_1 C dX5_solves_58 ?_
        refine r_iload_2 C dX5_solves_59 ?_
        refine r_cS2i C (c_X5_isOf hG (by omega) (by omega)) q1606 pkX5_isOf dX5_solves_60 (fun z w h => ?_)
        obtain ⟨rfl, rfl⟩ := h
        refine r_ifeq (tgt := 69) C dX5_solves_63 (by decide) (fun c_63 => ?_) (fun c_63 => ?_) (by unfold inR; split <;> omega)
        · skip
          have hk : ukB (gR (m_world 0) (m_world 1) wd F) F v = true := by
            unfold ukB
            rw [hdb v hv0 c_37] at c_55
            have h1 : bsB F v = false := by cases hb : bsB F v <;> simp_all
            have h2 : bsB (gR (m_world 0) (m_world 1) wd F) v = true := by cases hb : bsB (gR (m_world 0) (m_world 1) wd F) v <;> simp_all
            rw [h1, h2]; rfl
          rw [hk, if_pos rfl] at hus
          refine r_aload_0 C dX5_solves_69 ?_
          refine gM_unknownOf C q1407 dX5_solves_70 ?_
          refine r_iload_2 C dX5_solves_73 ?_
          refine r_aload_0 C dX5_solves_74 ?_
          refine gM_unknowns C q1409 dX5_solves_75 ?_
          refine stM_unknownOf C dX5_solves_78 ?_
          refine r_aload_0 C dX5_solves_79 ?_
          refine gM_nodeOf C q1408 dX5_solves_80 ?_
          refine r_aload_0 C dX5_solves_83 ?_
          refine gM_unknowns C q1409 dX5_solves_84 ?_
          refine r_iload_2 C dX5_solves_87 ?_
          refine stM_nodeOf C dX5_solves_88 ?_
          refine r_aload_0 C dX5_solves_89 ?_
          refine r_dup C dX5_solves_90 ?_
          refine gM_unknowns C q1409 dX5_solves_91 ?_
          refine r_iconst C dX5_solves_94 ?_
          refine r_iadd C dX5_solves_95 ?_
          refine pM_unknowns C q1409 dX5_solves_96 ?_
          refine r_iinc_2 C dX5_solves_99 ?_
          refine r_goto (tgt := 32) C dX5_solves_102 (by decide) ?_
          rw [← hus]
          refine ih _ (show (n - (v + 1)).toNat < mm by omega) (v + 1) e _ _ (by omega) (by omega) he (fun u h1 h2 => ?_) (fun i h1 h2 => ?_) rfl
          · by_cases eu : u = v
            · subst eu
              rw [aset_at]
              unfold gx ix
              rw [hk]
              rfl
            · rw [aset_ne eu, aset_ne eu]
              exact hun u h1 (by omega)
          · rw [hus] at h2
            by_cases ei : i = uC (gR (m_world 0) (m_world 1) wd F) F v
            · rw [ei, aset_at]
              refine ⟨hv0, by omega, ?_⟩
              unfold gx ix
              rw [hk]
              rfl
            · rw [aset_ne ei]
              have := hno i h1 (by omega)
              exact ⟨this.1, by omega, this.2.2⟩
        · skip
          refine r_goto (tgt := 99) C dX5_solves_66 (by decide) ?_
          have hk : ukB (gR (m_world 0) (m_world 1) wd F) F v = false := by
            unfold ukB
            rw [hdb v hv0 c_37] at c_55
            first
              | (have : bsB F v = true := by cases hb : bsB F v <;> simp_all
                 rw [this]; simp)
              | (have : bsB (gR (m_world 0) (m_world 1) wd F) v = false := by cases hb : bsB (gR (m_world 0) (m_world 1) wd F) v <;> simp_all
                 rw [this]; simp)
          rw [hk, if_neg (by simp)] at hus
          rw [← hus]
          refine r_iinc_2 C dX5_solves_99 ?_
          refine r_goto (tgt := 32) C dX5_solves_102 (by decide) ?_
          refine ih _ (show (n - (v + 1)).toNat < mm by omega) (v + 1) e _ no (by omega) (by omega) he (fun u h1 h2 => ?_) (fun i h1 h2 => ?_) rfl
          · by_cases eu : u = v
            · subst eu
              rw [aset_at]
              unfold gx ix
              rw [hk]
              rfl
            · rw [aset_ne eu]
              exact hun u h1 (by omega)
          · rw [hus] at h2
            have := hno i h1 h2
            exact ⟨this.1, by omega, this.2.2⟩
  refine r_aload_0 C dX5_solves_0 ?_
  refine r_cV0i C (c_X5_straps hG h4 hg) (q0 := 0) rfl rfl q1634 pkX5_straps dX5_solves_1 (fun z w h => ?_)
  obtain ⟨rfl, e, he, rfl⟩ := h
  refine r_pop C dX5_solves_4 ?_
  refine r_aload_0 C dX5_solves_5 ?_
  refine r_iconst C dX5_solves_6 ?_
  refine r_aload_0 C dX5_solves_7 ?_
  refine r_cV0i C (c_X5_nodes hG) (q0 := 0) rfl rfl q1654 pkX5_nodes dX5_solves_8 (fun z w h => ?_)
  obtain ⟨rfl, rfl⟩ := h
  refine r_topi n hn ?_
  refine r_ishl C (_) dX5_solves_11 (jI_shl (by omega) (by omega)) ?_
  refine r_iconst C dX5_solves_12 ?_
  refine r_isub C dX5_solves_13 ?_
  refine r_aload_0 C dX5_solves_14 ?_
  refine r_iload_1 C dX5_solves_15 ?_
  refine r_cV1i C (c_X5_comesTo hG hg he rfl hwR hF0 hF5) (q0 := 0) rfl rfl q1661 pkX5_comesTo dX5_solves_16 (fun z w h => ?_)
  obtain ⟨rfl, rfl⟩ := h
  rw [hwd]
  refine r_iconst C dX5_solves_19 ?_
  refine r_ixor C (_) dX5_solves_20 (jI_not (by omega)) ?_
  refine r_iand C (_) dX5_solves_21 (jI_andn (by omega) (by omega)) ?_
  refine pM_deadSet C q1406 dX5_solves_22 ?_
  refine r_aload_0 C dX5_solves_25 ?_
  refine r_iconst C dX5_solves_26 ?_
  refine pM_unknowns C q1409 dX5_solves_27 ?_
  refine r_iconst C dX5_solves_30 ?_
  refine r_istore_2 C dX5_solves_31 ?_
  exact key _ 0 e m_unknownOf m_nodeOf (by omega) (by omega) he (fun u h1 h2 => by omega) (fun i h1 h2 => by rw [uC_0] at h2; omega) rfl
end M7

