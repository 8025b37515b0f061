section X3
variable {g : GX} {σ : Nat → Nat} {ex : va_W}
variable {x_tape : Int → Int} {x_taped : Int} {x_faultKind : Int} {x_faultPlace : Int} {x_bestStarved : Int} {x_bestMost : Int} {x_bestWhole : Int} {x_draws : Int → Int} {x_left : Int → Int} {x_mosts : Int → Int} {x_widened : Int → Int} {x_drawn : Int} {x_img : Nat → Option Nat} {n_width : Int → Int} {n_from : Int → Int} {n_to : Int → Int} {n_load : Int → Int} {n_group : Int → Int} {n_budget : Int → Int} {n_columns : Int} {n_rows : Int} {n_limit : Int} {n_wear : Int} {n_straps : Int} {n_pads : Int} {n_lines : Int} {n_mod : Int} {n_asz : Int} {n_el : Nat → Option Nat} {i_width : Int → Int} {i_load : Int → Int} {i_pads : Int} {i_reached : Int} {i_place : Int → Int} {i_table : Int → Int} {i_drop : Int → Int} {i_size : Int} {i_whole : Int} {t_width : Int → Int} {t_load : Int → Int} {t_pads : Int} {t_reached : Int} {t_place : Int → Int} {t_table : Int → Int} {t_drop : Int → Int} {t_size : Int} {t_whole : Int}
theorem c_X4_lays_I (hG : Gok g) {c r R F : Int} (hg : GW c r) (hcc : n_columns = c) (hrr : n_rows = r) (hs : n_straps = sN c r) (he : ∀ k : Int, 0 ≤ k → k < sN c r → n_from k = sF c r k ∧ n_to k = sT c r k) (hw : ∀ k, 0 ≤ k → k < 12 → 0 ≤ i_width k ∧ i_width k ≤ 4) (hR : 0 ≤ R ∧ R < 512) (hF : 0 ≤ F ∧ F < 512) (hok : BrOk (mA c r i_width (ix R F) (sN c r)) (uC R F (c * r))) : XMet g yX4_lays cX4_lays 5 none 2 0 0 [.ref (σ 16), .int (jI R), .int (jI F)] (wX g σ x_tape x_taped x_faultKind x_faultPlace x_bestStarved x_bestMost x_bestWhole x_draws x_left x_mosts x_widened x_drawn x_img n_width n_from n_to n_load n_group n_budget n_columns n_rows n_limit n_wear n_straps n_pads n_lines n_mod n_asz n_el i_width i_load i_pads i_reached i_place i_table i_drop i_size i_whole t_width t_load t_pads t_reached t_place t_table t_drop t_size t_whole ++ ex) (pV (fun w => ∃ pl tb, (∀ v, 0 ≤ v → v < c * r → pl v = ix R F v) ∧ RepX tb (uC R F (c * r)) (bT (mA c r i_width (ix R F) (sN c r)) (uC R F (c * r)).toNat) ∧ w = (wX g σ x_tape x_taped x_faultKind x_faultPlace x_bestStarved x_bestMost x_bestWhole x_draws x_left x_mosts x_widened x_drawn x_img n_width n_from n_to n_load n_group n_budget n_columns n_rows n_limit n_wear n_straps n_pads n_lines n_mod n_asz n_el i_width i_load i_pads i_reached (pl) (tb) i_drop (uC R F (c * r)) (bV (mA c r i_width (ix R F) (sN c r)) (uC R F (c * r)).toNat) t_width t_load t_pads t_reached t_place t_table t_drop t_size t_whole ++ ex))) := by
  refine XMet.of (L := [some (.ref (σ 16)), some (.int (jI R)), some (.int (jI F)), none, none]) hG (by decide +kernel) (Nat.le_of_ble_eq_true rfl) rfl (fun K C E => ?_)
  have h12 := sN_12 hg
  have h00 := sN_0 (c := c) (r := r)
  have hn1 := hg.n1
  have hn9 := hg.2.2
  subst hcc hrr hs
  generalize hmm : uC R F (n_columns * n_rows) = m at *
  have hm9 : 0 ≤ m ∧ m ≤ 9 := by
    have := uC_nn (R := R) (F := F) (v := n_columns * n_rows) (by omega)
    omega
  have key3 : ∀ (mm : Nat), ∀ (k : Int) (pl tb : Int → Int) (l4 : Option Value), (0 ≤ k) → (k ≤ sN n_columns n_rows) → (∀ v, 0 ≤ v → v < n_columns * n_rows → pl v = ix R F v) → (RepX tb m (bT (mA n_columns n_rows i_width (ix R F) k) 0)) → (sN n_columns n_rows - k).toNat = mm → AW g K (wX g σ x_tape x_taped x_faultKind x_faultPlace x_bestStarved x_bestMost x_bestWhole x_draws x_left x_mosts x_widened x_drawn x_img n_width n_from n_to n_load n_group n_budget n_columns n_rows n_limit n_wear (sN n_columns n_rows) n_pads n_lines n_mod n_asz n_el i_width i_load i_pads i_reached (pl) (tb) i_drop (m) i_whole t_width t_load t_pads t_reached t_place t_table t_drop t_size t_whole ++ ex) 0 0 130 [some (.ref (σ 16)), some (.int (jI R)), some (.int (jI F)), some (.int (jI k)), l4] [] := by
    intro mm
    induction mm using Nat.strongRecOn with
    | _ mm ih =>
    intro k pl tb l4 hk0 hk hpl hRp hm
    refine r_iload_3 C dX4_lays_130 ?_
    refine r_aload_0 C dX4_lays_131 ?_
    refine gI_this011 C q299 dX4_lays_132 ?_
    refine gGN_now C q345 dX4_lays_135 ?_
    refine gTN_straps C q237 dX4_lays_138 ?_
    refine r_if_icmpge (tgt := 238) C dX4_lays_141 (by decide) (fun c_141 => ?_) (fun c_141 => ?_)
    · skip
      have ek : k = sN n_columns n_rows := by omega
      subst ek
      refine r_aload_0 C dX4_lays_238 ?_
      refine r_cV0v C (c_X4_turns_I hG hm9 hRp hok) (q0 := 16) rfl rfl q740 pkX4_turns dX4_lays_239 (fun w h => ?_)
      obtain ⟨tb2, hR2, rfl⟩ := h
      refine r_return C E dX4_lays_242 ?_
      exact ⟨rfl, pl, tb2, hpl, hR2, rfl⟩
    · skip
      have q := sl_in hg hk0 c_141
      have qe := he k hk0 c_141
      have ia := ix_in (R := R) (F := F) (v := sF n_columns n_rows k) (n := n_columns * n_rows) (by omega) (by omega)
      have ib := ix_in (R := R) (F := F) (v := sT n_columns n_rows k) (n := n_columns * n_rows) (by omega) (by omega)
      rw [hmm] at ia ib
      have hne : ix R F (sF n_columns n_rows k) = ix R F (sT n_columns n_rows k) → ix R F (sF n_columns n_rows k) = -1 := fun z => Classical.byContradiction fun z2 => by
        have := ix_inj (R := R) (F := F) (show 0 ≤ sF n_columns n_rows k by omega) (show 0 ≤ sT n_columns n_rows k by omega) z z2
        omega
      have hwk := hw k hk0 (by omega)
      refine r_aload_0 C dX4_lays_144 ?_
      refine r_aload_0 C dX4_lays_145 ?_
      refine gI_place C q292 dX4_lays_146 ?_
      refine r_aload_0 C dX4_lays_149 ?_
      refine gI_this011 C q299 dX4_lays_150 ?_
      refine gGN_now C q345 dX4_lays_153 ?_
      refine gTN_from C q199 dX4_lays_156 ?_
      refine r_iload_3 C dX4_lays_159 ?_
      refine ld_n_from C dX4_lays_160 ?_
      refine r_topi (sF n_columns n_rows k) qe.1 ?_
      refine ld_i_place C dX4_lays_161 ?_
      refine r_topi (ix R F (sF n_columns n_rows k)) (hpl _ (by omega) (by omega)) ?_
      refine r_aload_0 C dX4_lays_162 ?_
      refine gI_place C q292 dX4_lays_163 ?_
      refine r_aload_0 C dX4_lays_166 ?_
      refine gI_this011 C q299 dX4_lays_167 ?_
      refine gGN_now C q345 dX4_lays_170 ?_
      refine gTN_to C q203 dX4_lays_173 ?_
      refine r_iload_3 C dX4_lays_176 ?_
      refine ld_n_to C dX4_lays_177 ?_
      refine r_topi (sT n_columns n_rows k) qe.2 ?_
      refine ld_i_place C dX4_lays_178 ?_
      refine r_topi (ix R F (sT n_columns n_rows k)) (hpl _ (by omega) (by omega)) ?_
      refine r_aload_0 C dX4_lays_179 ?_
      refine gII_width C q301 dX4_lays_180 ?_
      refine r_iload_3 C dX4_lays_183 ?_
      refine ld_i_width C dX4_lays_184 ?_
      refine r_cV3v C (c_X4_ties_I hG (by omega) (by omega) (by unfold inR; omega)) (q0 := 16) rfl rfl q736 pkX4_ties dX4_lays_185 (fun w h => ?_)
      subst h
      refine r_aload_0 C dX4_lays_188 ?_
      refine r_aload_0 C dX4_lays_189 ?_
      refine gI_place C q292 dX4_lays_190 ?_
      refine r_aload_0 C dX4_lays_193 ?_
      refine gI_this011 C q299 dX4_lays_194 ?_
      refine gGN_now C q345 dX4_lays_197 ?_
      refine gTN_to C q203 dX4_lays_200 ?_
      refine r_iload_3 C dX4_lays_203 ?_
      refine ld_n_to C dX4_lays_204 ?_
      refine r_topi (sT n_columns n_rows k) qe.2 ?_
      refine ld_i_place C dX4_lays_205 ?_
      refine r_topi (ix R F (sT n_columns n_rows k)) (hpl _ (by omega) (by omega)) ?_
      refine r_aload_0 C dX4_lays_206 ?_
      refine gI_place C q292 dX4_lays_207 ?_
      refine r_aload_0 C dX4_lays_210 ?_
      refine gI_this011 C q299 dX4_lays_211 ?_
      refine gGN_now C q345 dX4_lays_214 ?_
      refine gTN_from C q199 dX4_lays_217 ?_
      refine r_iload_3 C dX4_lays_220 ?_
      refine ld_n_from C dX4_lays_221 ?_
      refine r_topi (sF n_columns n_rows k) qe.1 ?_
      refine ld_i_place C dX4_lays_222 ?_
      refine r_topi (ix R F (sF n_columns n_rows k)) (hpl _ (by omega) (by omega)) ?_
      refine r_aload_0 C dX4_lays_223 ?_
      refine gII_width C q301 dX4_lays_224 ?_
      refine r_iload_3 C dX4_lays_227 ?_
      refine ld_i_width C dX4_lays_228 ?_
      refine r_cV3v C (c_X4_ties_I hG (by omega) (by omega) (by unfold inR; omega)) (q0 := 16) rfl rfl q736 pkX4_ties dX4_lays_229 (fun w h => ?_)
      subst h
      refine r_iinc_3 C dX4_lays_232 ?_
      refine r_goto (tgt := 130) C dX4_lays_235 (by decide) ?_
      exact ih _ (show (sN n_columns n_rows - (k + 1)).toNat < mm by omega) (k + 1) pl _ _ (by omega) (by omega) hpl (ties_rep hm9.2 hk0 hRp ia ib hne) rfl
  have key2 : ∀ (mm : Nat), ∀ (i : Int) (pl tb : Int → Int) (l4 : Option Value), (0 ≤ i) → (i ≤ m) → (∀ v, 0 ≤ v → v < n_columns * n_rows → pl v = ix R F v) → (∀ u x, 0 ≤ u → u < i → 0 ≤ x → x < 2 * m → tb (18 * u + x) = if x = m + u then 1 else 0) → (m - i).toNat = mm → AW g K (wX g σ x_tape x_taped x_faultKind x_faultPlace x_bestStarved x_bestMost x_bestWhole x_draws x_left x_mosts x_widened x_drawn x_img n_width n_from n_to n_load n_group n_budget n_columns n_rows n_limit n_wear (sN n_columns n_rows) n_pads n_lines n_mod n_asz n_el i_width i_load i_pads i_reached (pl) (tb) i_drop (m) i_whole t_width t_load t_pads t_reached t_place t_table t_drop t_size t_whole ++ ex) 0 0 69 [some (.ref (σ 16)), some (.int (jI R)), some (.int (jI F)), some (.int (jI i)), l4] [] := by
    intro mm
    induction mm using Nat.strongRecOn with
    | _ mm ih =>
    intro i pl tb l4 hi0 hi hpl hz hm
    refine r_iload_3 C dX4_lays_69 ?_
    refine r_aload_0 C dX4_lays_70 ?_
    refine gI_size C q296 dX4_lays_71 ?_
    refine r_if_icmpge (tgt := 128) C dX4_lays_74 (by decide) (fun c_74 => ?_) (fun c_74 => ?_)
    · skip
      refine r_iconst C dX4_lays_128 ?_
      refine r_istore_3 C dX4_lays_129 ?_
      refine key3 _ 0 pl tb _ (by omega) h00 hpl (fun i' y a1 a2 a3 a4 => ?_) rfl
      show _ = bT (mA n_columns n_rows i_width (ix R F) 0) 0 i' (cm m y)
      rw [hz i' y a1 (by omega) a3 a4, bT_0]
      unfold cm
      by_cases hy : y < m
      · rw [if_pos hy, if_pos (show y < 9 by omega), if_neg (show ¬ y = m + i' by omega)]
        rfl
      · rw [if_neg hy, if_neg (show ¬ 9 + (y - m) < 9 by omega)]
        by_cases hyi : y = m + i'
        · rw [if_pos hyi, if_pos (by omega)]
        · rw [if_neg hyi, if_neg (by omega)]
    · skip
      have ih0 := ih
      have inner : ∀ (mm : Nat), ∀ (x : Int) (tb : Int → Int), (0 ≤ x) → (x ≤ 2 * m) → (∀ u y, 0 ≤ u → u < i → 0 ≤ y → y < 2 * m → tb (18 * u + y) = if y = m + u then 1 else 0) → (∀ y, 0 ≤ y → y < x → tb (18 * i + y) = if y = m + i then 1 else 0) → (2 * m - x).toNat = mm → AW g K (wX g σ x_tape x_taped x_faultKind x_faultPlace x_bestStarved x_bestMost x_bestWhole x_draws x_left x_mosts x_widened x_drawn x_img n_width n_from n_to n_load n_group n_budget n_columns n_rows n_limit n_wear (sN n_columns n_rows) n_pads n_lines n_mod n_asz n_el i_width i_load i_pads i_reached (pl) (tb) i_drop (m) i_whole t_width t_load t_pads t_reached t_place t_table t_drop t_size t_whole ++ ex) 0 0 80 [some (.ref (σ 16)), some (.int (jI R)), some (.int (jI F)), some (.int (jI i)), some (.int (jI x))] [] := by
        intro mm
        induction mm using Nat.strongRecOn with
        | _ mm ih =>
        intro x tb hx0 hx hz hz2 hm
        refine r_iload_4 C dX4_lays_80 ?_
        refine r_iconst C dX4_lays_82 ?_
        refine r_aload_0 C dX4_lays_83 ?_
        refine gI_size C q296 dX4_lays_84 ?_
        refine r_imul C dX4_lays_87 ?_
        refine r_if_icmpge (tgt := 122) C dX4_lays_88 (by decide) (fun c_88 => ?_) (fun c_88 => ?_)
        · skip
          refine r_iinc_3 C dX4_lays_122 ?_
          refine r_goto (tgt := 69) C dX4_lays_125 (by decide) ?_
          refine ih0 _ (show (m - (i + 1)).toNat < _ by omega) (i + 1) pl tb _ (by omega) (by omega) hpl (fun u y a1 a2 a3 a4 => ?_) rfl
          by_cases eu : u = i
          · rw [eu]; exact hz2 y a3 (by omega)
          · exact hz u y a1 (by omega) a3 a4
        · skip
          refine r_aload_0 C dX4_lays_91 ?_
          refine gI_table C q293 dX4_lays_92 ?_
          refine r_iload_3 C dX4_lays_95 ?_
          refine ld_i_tab C dX4_lays_96 ?_
          refine r_iload_4 C dX4_lays_97 ?_
          refine r_iload_4 C dX4_lays_99 ?_
          refine r_aload_0 C dX4_lays_101 ?_
          refine gI_size C q296 dX4_lays_102 ?_
          refine r_iload_3 C dX4_lays_105 ?_
          refine r_iadd C dX4_lays_106 ?_
          refine r_if_icmpne (tgt := 114) C dX4_lays_107 (by decide) (fun c_107 => ?_) (fun c_107 => ?_)
          · skip
            refine r_lconst0 C dX4_lays_114 ?_
            refine st_i_row C dX4_lays_115 ?_
            refine r_iinc_4 C dX4_lays_116 ?_
            refine r_goto (tgt := 80) C dX4_lays_119 (by decide) ?_
            refine ih _ (show (2 * m - (x + 1)).toNat < mm by omega) (x + 1) _ (by omega) (by omega) (fun u y a1 a2 a3 a4 => ?_) (fun y a1 a2 => ?_) rfl
            · rw [aset_ne (by omega)]
              exact hz u y a1 a2 a3 a4
            · by_cases ey : y = x
              · rw [ey, aset_at]
                first
                  | rw [if_pos c_107]
                  | rw [if_neg c_107]
              · rw [aset_ne (by omega)]
                exact hz2 y a1 (by omega)
          · skip
            refine r_lconst1 C dX4_lays_110 ?_
            refine r_goto (tgt := 115) C dX4_lays_111 (by decide) ?_
            refine st_i_row C dX4_lays_115 ?_
            refine r_iinc_4 C dX4_lays_116 ?_
            refine r_goto (tgt := 80) C dX4_lays_119 (by decide) ?_
            refine ih _ (show (2 * m - (x + 1)).toNat < mm by omega) (x + 1) _ (by omega) (by omega) (fun u y a1 a2 a3 a4 => ?_) (fun y a1 a2 => ?_) rfl
            · rw [aset_ne (by omega)]
              exact hz u y a1 a2 a3 a4
            · by_cases ey : y = x
              · rw [ey, aset_at]
                first
                  | rw [if_pos c_107]
                  | rw [if_neg c_107]
              · rw [aset_ne (by omega)]
                exact hz2 y a1 (by omega)
      refine r_iconst C dX4_lays_77 ?_
      refine r_istore_4 C dX4_lays_78 ?_
      exact inner _ 0 tb (by omega) (by omega) hz (fun y _ _ => by omega) rfl
  have key1 : ∀ (mm : Nat), ∀ (v : Int) (pl : Int → Int), (0 ≤ v) → (v ≤ n_columns * n_rows) → (∀ u, 0 ≤ u → u < v → pl u = ix R F u) → (n_columns * n_rows - v).toNat = mm → AW g K (wX g σ x_tape x_taped x_faultKind x_faultPlace x_bestStarved x_bestMost x_bestWhole x_draws x_left x_mosts x_widened x_drawn x_img n_width n_from n_to n_load n_group n_budget n_columns n_rows n_limit n_wear (sN n_columns n_rows) n_pads n_lines n_mod n_asz n_el i_width i_load i_pads i_reached (pl) i_table i_drop (uC R F v) i_whole t_width t_load t_pads t_reached t_place t_table t_drop t_size t_whole ++ ex) 0 0 7 [some (.ref (σ 16)), some (.int (jI R)), some (.int (jI F)), some (.int (jI v)), none] [] := by
    intro mm
    induction mm using Nat.strongRecOn with
    | _ mm ih =>
    intro v pl hv0 hv hpl hm
    have hus := uC_s (R := R) (F := F) hv0
    have hun := uC_nn (R := R) (F := F) hv0
    refine r_iload_3 C dX4_lays_7 ?_
    refine r_aload_0 C dX4_lays_8 ?_
    refine r_cU0i C (c_X2_many_I hG) (q0 := 16) rfl rfl q728 pkU_X2_many dX4_lays_9 (fun z w h => ?_)
    obtain ⟨rfl, rfl⟩ := h
    refine r_if_icmpge (tgt := 67) C dX4_lays_12 (by decide) (fun c_12 => ?_) (fun c_12 => ?_)
    · skip
      refine r_iconst C dX4_lays_67 ?_
      refine r_istore_3 C dX4_lays_68 ?_
      have ev : v = n_columns * n_rows := by omega
      subst ev
      rw [hmm]
      exact key2 _ 0 pl _ _ (by omega) hm9.1 hpl (fun u x _ _ => by omega) rfl
    · skip
      refine r_aload_0 C dX4_lays_15 ?_
      refine gI_place C q292 dX4_lays_16 ?_
      refine r_iload_3 C dX4_lays_19 ?_
      refine r_iconst C dX4_lays_20 ?_
      refine st_i_place C dX4_lays_21 ?_
      refine r_iload_1 C dX4_lays_22 ?_
      refine r_iload_3 C dX4_lays_23 ?_
      refine r_cSN2i C (c_X0_isOn hG (by omega) (by omega)) q735 pkX0_isOn dX4_lays_24 (fun z w h => ?_)
      obtain ⟨rfl, rfl⟩ := h
      refine r_ifeqB (tgt := 61) C dX4_lays_27 (by decide) (fun c_27 => ?_) (fun c_27 => ?_)
      · skip
        refine r_iinc_3 C dX4_lays_61 ?_
        refine r_goto (tgt := 7) C dX4_lays_64 (by decide) ?_
        first
          | (have hk : ukB R F v = true := by unfold ukB; simp [c_27, c_35]
             rw [hk, if_pos rfl] at hus
             rw [← hus]
             refine ih _ (show (n_columns * n_rows - (v + 1)).toNat < mm by omega) (v + 1) _ (by omega) (by omega) (fun u a1 a2 => ?_) rfl
             by_cases e : u = v
             · rw [e, aset_at]
               unfold ix
               rw [if_pos hk]
             · rw [aset_ne e, aset_ne e]
               exact hpl u a1 (by omega))
          | (have hk : ukB R F v = false := by
               unfold ukB
               first
                 | (rw [show bsB R v = false by simpa using c_27]; rfl)
                 | (rw [c_35]; simp)
             rw [hk, if_neg (by simp)] at hus
             rw [← hus]
             refine ih _ (show (n_columns * n_rows - (v + 1)).toNat < mm by omega) (v + 1) _ (by omega) (by omega) (fun u a1 a2 => ?_) rfl
             by_cases e : u = v
             · rw [e, aset_at]
               unfold ix
               rw [hk]
               rfl
             · rw [aset_ne e]
               exact hpl u a1 (by omega))
      · skip
        refine r_iload_2 C dX4_lays_30 ?_
        refine r_iload_3 C dX4_lays_31 ?_
        refine r_cSN2i C (c_X0_isOn hG (by omega) (by omega)) q735 pkX0_isOn dX4_lays_32 (fun z w h => ?_)
        obtain ⟨rfl, rfl⟩ := h
        refine r_ifeqB (tgt := 41) C dX4_lays_35 (by decide) (fun c_35 => ?_) (fun c_35 => ?_)
        · skip
          refine r_aload_0 C dX4_lays_41 ?_
          refine gI_place C q292 dX4_lays_42 ?_
          refine r_iload_3 C dX4_lays_45 ?_
          refine r_aload_0 C dX4_lays_46 ?_
          refine gI_size C q296 dX4_lays_47 ?_
          refine st_i_place C dX4_lays_50 ?_
          refine r_aload_0 C dX4_lays_51 ?_
          refine r_dup C dX4_lays_52 ?_
          refine gI_size C q296 dX4_lays_53 ?_
          refine r_iconst C dX4_lays_56 ?_
          refine r_iadd C dX4_lays_57 ?_
          refine pI_size C q296 dX4_lays_58 ?_
          refine r_iinc_3 C dX4_lays_61 ?_
          refine r_goto (tgt := 7) C dX4_lays_64 (by decide) ?_
          first
            | (have hk : ukB R F v = true := by unfold ukB; simp [c_27, c_35]
               rw [hk, if_pos rfl] at hus
               rw [← hus]
               refine ih _ (show (n_columns * n_rows - (v + 1)).toNat < mm by omega) (v + 1) _ (by omega) (by omega) (fun u a1 a2 => ?_) rfl
               by_cases e : u = v
               · rw [e, aset_at]
                 unfold ix
                 rw [if_pos hk]
               · rw [aset_ne e, aset_ne e]
                 exact hpl u a1 (by omega))
            | (have hk : ukB R F v = false := by
                 unfold ukB
                 first
                   | (rw [show bsB R v = false by simpa using c_27]; rfl)
                   | (rw [c_35]; simp)
               rw [hk, if_neg (by simp)] at hus
               rw [← hus]
               refine ih _ (show (n_columns * n_rows - (v + 1)).toNat < mm by omega) (v + 1) _ (by omega) (by omega) (fun u a1 a2 => ?_) rfl
               by_cases e : u = v
               · rw [e, aset_at]
                 unfold ix
                 rw [hk]
                 rfl
               · rw [aset_ne e]
                 exact hpl u a1 (by omega))
        · skip
          refine r_goto (tgt := 61) C dX4_lays_38 (by decide) ?_
          refine r_iinc_3 C dX4_lays_61 ?_
          refine r_goto (tgt := 7) C dX4_lays_64 (by decide) ?_
          first
            | (have hk : ukB R F v = true := by unfold ukB; simp [c_27, c_35]
               rw [hk, if_pos rfl] at hus
               rw [← hus]
               refine ih _ (show (n_columns * n_rows - (v + 1)).toNat < mm by omega) (v + 1) _ (by omega) (by omega) (fun u a1 a2 => ?_) rfl
               by_cases e : u = v
               · rw [e, aset_at]
                 unfold ix
                 rw [if_pos hk]
               · rw [aset_ne e, aset_ne e]
                 exact hpl u a1 (by omega))
            | (have hk : ukB R F v = false := by
                 unfold ukB
                 first
                   | (rw [show bsB R v = false by simpa using c_27]; rfl)
                   | (rw [c_35]; simp)
               rw [hk, if_neg (by simp)] at hus
               rw [← hus]
               refine ih _ (show (n_columns * n_rows - (v + 1)).toNat < mm by omega) (v + 1) _ (by omega) (by omega) (fun u a1 a2 => ?_) rfl
               by_cases e : u = v
               · rw [e, aset_at]
                 unfold ix
                 rw [hk]
                 rfl
               · rw [aset_ne e]
                 exact hpl u a1 (by omega))
  refine r_aload_0 C dX4_lays_0 ?_
  refine r_iconst C dX4_lays_1 ?_
  refine pI_size C q296 dX4_lays_2 ?_
  refine r_iconst C dX4_lays_5 ?_
  refine r_istore_3 C dX4_lays_6 ?_
  exact key1 _ 0 _ (by omega) (by omega) (fun u _ _ => by omega) rfl
theorem c_X4_solves_I (hG : Gok g) {w : Int → Int} (hd : Gd w) (hN : NB w n_columns n_rows n_limit n_wear n_straps n_from n_to) (hX : SX w i_width i_load i_pads) : XMet g yX4_solves cX4_solves 3 (some (.object "SupplyGrid$Solved")) 3 0 0 [.ref (σ 16)] (wX g σ x_tape x_taped x_faultKind x_faultPlace x_bestStarved x_bestMost x_bestWhole x_draws x_left x_mosts x_widened x_drawn x_img n_width n_from n_to n_load n_group n_budget n_columns n_rows n_limit n_wear n_straps n_pads n_lines n_mod n_asz n_el i_width i_load i_pads i_reached i_place i_table i_drop i_size i_whole t_width t_load t_pads t_reached t_place t_table t_drop t_size t_whole ++ ex) (pA (fun a ww => a = σ 16 ∧ ∃ pl tb dr, SS w (wR w) pl tb dr (wm w) (wWh w) ∧ ww = (wX g σ x_tape x_taped x_faultKind x_faultPlace x_bestStarved x_bestMost x_bestWhole x_draws x_left x_mosts x_widened x_drawn x_img n_width n_from n_to n_load n_group n_budget n_columns n_rows n_limit n_wear n_straps n_pads n_lines n_mod n_asz n_el i_width i_load i_pads (wR w) (pl) (tb) (dr) (wm w) (wWh w) t_width t_load t_pads t_reached t_place t_table t_drop t_size t_whole ++ ex))) := by
  refine XMet.of (L := [some (.ref (σ 16)), none, none]) hG (by decide +kernel) (Nat.le_of_ble_eq_true rfl) rfl (fun K C E => ?_)
  obtain ⟨hc, hr, hlim, hwe, hs, he⟩ := hN
  obtain ⟨hxw, hxl, hxp⟩ := hX
  have hn := hd.n
  have h12 := hd.s
  have hp5 := hd.p5
  have hr5 := hd.r
  have hok := sol_ok hd.g hd.wd hd.pads
  subst hxp hs
  have hwc : ∀ k, 0 ≤ k → k < sN (w 0) (w 1) → i_width k = wWd w k := fun k a b => by
    unfold wS at h12
    exact hxw k a (by omega)
  have hw4 : ∀ k, 0 ≤ k → k < 12 → 0 ≤ i_width k ∧ i_width k ≤ 4 := fun k a b => by rw [hxw k a b]; exact hd.wd k a b
  have hre : rch (w 0) (w 1) i_width (w 5) = wR w := rch_cong hwc
  have hmA : mA (w 0) (w 1) i_width (ix (wR w) (w 5)) (sN (w 0) (w 1)) = gA (w 0) (w 1) (wWd w) (w 5) := by
    funext i j
    exact mA_cong hwc
  have hwm : uC (wR w) (w 5) (w 0 * w 1) = wm w := rfl
  have outer : ∀ (mm : Nat), ∀ (v : Int) (pl tb dr : Int → Int) (l2 : Option Value), (0 ≤ v) → (v ≤ wN w) → (∀ v, 0 ≤ v → v < w 0 * w 1 → pl v = gx (w 0) (w 1) (wWd w) (w 5) v) → (RepX tb (wm w) (bT (gA (w 0) (w 1) (wWd w) (w 5)) (wm w).toNat)) → (∀ u, 0 ≤ u → u < v → dr u = wDr w u) → (wN w - v).toNat = mm → AW g K (wX g σ x_tape x_taped x_faultKind x_faultPlace x_bestStarved x_bestMost x_bestWhole x_draws x_left x_mosts x_widened x_drawn x_img n_width n_from n_to n_load n_group n_budget n_columns n_rows n_limit n_wear (wS w) n_pads n_lines n_mod n_asz n_el i_width i_load (w 5) (wR w) (pl) (tb) (dr) (wm w) (wWh w) t_width t_load t_pads t_reached t_place t_table t_drop t_size t_whole ++ ex) 0 0 26 [some (.ref (σ 16)), some (.int (jI v)), l2] [] := by
    intro mm
    induction mm using Nat.strongRecOn with
    | _ mm ih =>
    intro v pl tb dr l2 hv0 hv hpl hRp hdr hm
    refine r_iload_1 C dX4_solves_26 ?_
    refine r_aload_0 C dX4_solves_27 ?_
    refine r_cU0i C (c_X2_many_I hG) (q0 := 16) rfl rfl q728 pkU_X2_many dX4_solves_28 (fun z w h => ?_)
    obtain ⟨rfl, rfl⟩ := h
    refine r_topi (wN w) (by rw [hc, hr]; rfl) ?_
    refine r_if_icmpge (tgt := 86) C dX4_solves_31 (by decide) (fun c_31 => ?_) (fun c_31 => ?_)
    · skip
      refine r_aload_0 C dX4_solves_86 ?_
      refine r_areturn C E (Or.inl ⟨_, rfl⟩) dX4_solves_87 ?_
      have ev : v = wN w := by omega
      subst ev
      exact ⟨_, rfl, rfl, pl, tb, dr, ⟨rfl, hpl, rfl, hRp, hdr, rfl⟩, rfl⟩
    · skip
      have ih0 := ih
      have inner : ∀ (mm : Nat), ∀ (u s : Int) (dr : Int → Int), (0 ≤ u) → (u ≤ wN w) → (s = foI (fun u s => s + w (6 + u) * wMv w v u) 0 u) → (dr v = s) → (∀ u, 0 ≤ u → u < v → dr u = wDr w u) → (wN w - u).toNat = mm → AW g K (wX g σ x_tape x_taped x_faultKind x_faultPlace x_bestStarved x_bestMost x_bestWhole x_draws x_left x_mosts x_widened x_drawn x_img n_width n_from n_to n_load n_group n_budget n_columns n_rows n_limit n_wear (wS w) n_pads n_lines n_mod n_asz n_el i_width i_load (w 5) (wR w) (pl) (tb) (dr) (wm w) (wWh w) t_width t_load t_pads t_reached t_place t_table t_drop t_size t_whole ++ ex) 0 0 43 [some (.ref (σ 16)), some (.int (jI v)), some (.int (jI u))] [] := by
        intro mm
        induction mm using Nat.strongRecOn with
        | _ mm ih =>
        intro u s dr hu0 hu es hdv hdr hm
        refine r_iload_2 C dX4_solves_43 ?_
        refine r_aload_0 C dX4_solves_44 ?_
        refine r_cU0i C (c_X2_many_I hG) (q0 := 16) rfl rfl q728 pkU_X2_many dX4_solves_45 (fun z w h => ?_)
        obtain ⟨rfl, rfl⟩ := h
        refine r_topi (wN w) (by rw [hc, hr]; rfl) ?_
        refine r_if_icmpge (tgt := 80) C dX4_solves_48 (by decide) (fun c_48 => ?_) (fun c_48 => ?_)
        · skip
          refine r_iinc_1 C dX4_solves_80 ?_
          refine r_goto (tgt := 26) C dX4_solves_83 (by decide) ?_
          have eu : u = wN w := by omega
          subst eu
          refine ih0 _ (show (wN w - (v + 1)).toNat < _ by omega) (v + 1) pl tb dr _ (by omega) (by omega) hpl hRp (fun x a b => ?_) rfl
          by_cases ex : x = v
          · rw [ex, hdv, es]; rfl
          · exact hdr x a (by omega)
        · skip
          have hld := hd.ld u hu0 (by omega)
          refine r_aload_0 C dX4_solves_51 ?_
          refine gI_drop C q294 dX4_solves_52 ?_
          refine r_iload_1 C dX4_solves_55 ?_
          refine r_dup2 C dX4_solves_56 ?_
          refine ld_i_drop C dX4_solves_57 ?_
          refine r_topl s hdv ?_
          refine r_aload_0 C dX4_solves_58 ?_
          refine gII_load C q305 dX4_solves_59 ?_
          refine r_iload_2 C dX4_solves_62 ?_
          refine ld_i_load C dX4_solves_63 ?_
          refine r_topi (w (6 + u)) (hxl u hu0 (by omega)) ?_
          refine r_i2l C dX4_solves_64 ?_
          refine r_aload_0 C dX4_solves_65 ?_
          refine r_iload_1 C dX4_solves_66 ?_
          refine r_iload_2 C dX4_solves_67 ?_
          refine r_cV2l C (c_X4_moves_I hG (F := w 5) (wd := wWd w) hd.g hpl rfl hRp ⟨hv0, c_31⟩ ⟨hu0, c_48⟩) (q0 := 16) rfl rfl q744 pkX4_moves dX4_solves_68 (fun z w h => ?_)
          obtain ⟨rfl, rfl⟩ := h
          refine r_lmul C dX4_solves_71 ?_
          refine r_ladd C dX4_solves_72 ?_
          refine st_i_drop C dX4_solves_73 ?_
          refine r_iinc_2 C dX4_solves_74 ?_
          refine r_goto (tgt := 43) C dX4_solves_77 (by decide) ?_
          refine ih _ (show (wN w - (u + 1)).toNat < mm by omega) (u + 1) _ _ (by omega) (by omega) (by rw [foI_s _ _ hu0, ← es]; rfl) (aset_at _ _ _) (fun x a b => ?_) rfl
          rw [aset_ne (by omega)]
          exact hdr x a b
      refine r_aload_0 C dX4_solves_34 ?_
      refine gI_drop C q294 dX4_solves_35 ?_
      refine r_iload_1 C dX4_solves_38 ?_
      refine r_lconst0 C dX4_solves_39 ?_
      refine st_i_drop C dX4_solves_40 ?_
      refine r_iconst C dX4_solves_41 ?_
      refine r_istore_2 C dX4_solves_42 ?_
      exact inner _ 0 0 _ (by omega) (by omega) rfl (aset_at _ _ _) (fun x a b => by rw [aset_ne (by omega)]; exact hdr x a b) rfl
  refine r_aload_0 C dX4_solves_0 ?_
  refine r_aload_0 C dX4_solves_1 ?_
  refine r_aload_0 C dX4_solves_2 ?_
  refine gII_pads C q309 dX4_solves_3 ?_
  refine r_cU1i C (c_X3_reach_I hG hd.g rfl he hw4 hp5.1 hp5.2) (q0 := 16) rfl rfl q717 pkU_X3_reach dX4_solves_6 (fun z w h => ?_)
  obtain ⟨rfl, rfl⟩ := h
  rw [hre]
  refine pII_reached C q312 dX4_solves_9 ?_
  refine r_aload_0 C dX4_solves_12 ?_
  refine r_aload_0 C dX4_solves_13 ?_
  refine gII_reached C q312 dX4_solves_14 ?_
  refine r_aload_0 C dX4_solves_17 ?_
  refine gII_pads C q309 dX4_solves_18 ?_
  refine r_cV2v C (c_X4_lays_I hG hd.g hc hr rfl he hw4 (by omega) hp5 (by rw [hmA]; exact hok.1)) (q0 := 16) rfl rfl q724 pkX4_lays dX4_solves_21 (fun w h => ?_)
  obtain ⟨pl, tb, hpl, hRp, rfl⟩ := h
  rw [hmA] at hRp ⊢
  refine r_iconst C dX4_solves_24 ?_
  refine r_istore_1 C dX4_solves_25 ?_
  exact outer _ 0 pl tb _ _ (by omega) (by omega) hpl hRp (fun u _ _ => by omega) rfl

theorem c_X4_lays_Y (hG : Gok g) {c r R F : Int} (hg : GW c r) (hcc : n_columns = c) (hrr : n_rows = r) (hs : n_straps = sN c r) (he : ∀ k : Int, 0 ≤ k → k < sN c r → n_from k = sF c r k ∧ n_to k = sT c r k) (hw : ∀ k, 0 ≤ k → k < 12 → 0 ≤ t_width k ∧ t_width k ≤ 4) (hR : 0 ≤ R ∧ R < 512) (hF : 0 ≤ F ∧ F < 512) (hok : BrOk (mA c r t_width (ix R F) (sN c r)) (uC R F (c * r))) : XMet g yX4_lays cX4_lays 5 none 2 0 0 [.ref (σ 31), .int (jI R), .int (jI F)] (wX g σ x_tape x_taped x_faultKind x_faultPlace x_bestStarved x_bestMost x_bestWhole x_draws x_left x_mosts x_widened x_drawn x_img n_width n_from n_to n_load n_group n_budget n_columns n_rows n_limit n_wear n_straps n_pads n_lines n_mod n_asz n_el i_width i_load i_pads i_reached i_place i_table i_drop i_size i_whole t_width t_load t_pads t_reached t_place t_table t_drop t_size t_whole ++ ex) (pV (fun w => ∃ pl tb, (∀ v, 0 ≤ v → v < c * r → pl v = ix R F v) ∧ RepX tb (uC R F (c * r)) (bT (mA c r t_width (ix R F) (sN c r)) (uC R F (c * r)).toNat) ∧ w = (wX g σ x_tape x_taped x_faultKind x_faultPlace x_bestStarved x_bestMost x_bestWhole x_draws x_left x_mosts x_widened x_drawn x_img n_width n_from n_to n_load n_group n_budget n_columns n_rows n_limit n_wear n_straps n_pads n_lines n_mod n_asz n_el i_width i_load i_pads i_reached i_place i_table i_drop i_size i_whole t_width t_load t_pads t_reached (pl) (tb) t_drop (uC R F (c * r)) (bV (mA c r t_width (ix R F) (sN c r)) (uC R F (c * r)).toNat) ++ ex))) := by
  refine XMet.of (L := [some (.ref (σ 31)), some (.int (jI R)), some (.int (jI F)), none, none]) hG (by decide +kernel) (Nat.le_of_ble_eq_true rfl) rfl (fun K C E => ?_)
  have h12 := sN_12 hg
  have h00 := sN_0 (c := c) (r := r)
  have hn1 := hg.n1
  have hn9 := hg.2.2
  subst hcc hrr hs
  generalize hmm : uC R F (n_columns * n_rows) = m at *
  have hm9 : 0 ≤ m ∧ m ≤ 9 := by
    have := uC_nn (R := R) (F := F) (v := n_columns * n_rows) (by omega)
    omega
  have key3 : ∀ (mm : Nat), ∀ (k : Int) (pl tb : Int → Int) (l4 : Option Value), (0 ≤ k) → (k ≤ sN n_columns n_rows) → (∀ v, 0 ≤ v → v < n_columns * n_rows → pl v = ix R F v) → (RepX tb m (bT (mA n_columns n_rows t_width (ix R F) k) 0)) → (sN n_columns n_rows - k).toNat = mm → AW g K (wX g σ x_tape x_taped x_faultKind x_faultPlace x_bestStarved x_bestMost x_bestWhole x_draws x_left x_mosts x_widened x_drawn x_img n_width n_from n_to n_load n_group n_budget n_columns n_rows n_limit n_wear (sN n_columns n_rows) n_pads n_lines n_mod n_asz n_el i_width i_load i_pads i_reached i_place i_table i_drop i_size i_whole t_width t_load t_pads t_reached (pl) (tb) t_drop (m) t_whole ++ ex) 0 0 130 [some (.ref (σ 31)), some (.int (jI R)), some (.int (jI F)), some (.int (jI k)), l4] [] := by
    intro mm
    induction mm using Nat.strongRecOn with
    | _ mm ih =>
    intro k pl tb l4 hk0 hk hpl hRp hm
    refine r_iload_3 C dX4_lays_130 ?_
    refine r_aload_0 C dX4_lays_131 ?_
    refine gY_this011 C q299 dX4_lays_132 ?_
    refine gGN_now C q345 dX4_lays_135 ?_
    refine gTN_straps C q237 dX4_lays_138 ?_
    refine r_if_icmpge (tgt := 238) C dX4_lays_141 (by decide) (fun c_141 => ?_) (fun c_141 => ?_)
    · skip
      have ek : k = sN n_columns n_rows := by omega
      subst ek
      refine r_aload_0 C dX4_lays_238 ?_
      refine r_cV0v C (c_X4_turns_Y hG hm9 hRp hok) (q0 := 31) rfl rfl q740 pkX4_turns dX4_lays_239 (fun w h => ?_)
      obtain ⟨tb2, hR2, rfl⟩ := h
      refine r_return C E dX4_lays_242 ?_
      exact ⟨rfl, pl, tb2, hpl, hR2, rfl⟩
    · skip
      have q := sl_in hg hk0 c_141
      have qe := he k hk0 c_141
      have ia := ix_in (R := R) (F := F) (v := sF n_columns n_rows k) (n := n_columns * n_rows) (by omega) (by omega)
      have ib := ix_in (R := R) (F := F) (v := sT n_columns n_rows k) (n := n_columns * n_rows) (by omega) (by omega)
      rw [hmm] at ia ib
      have hne : ix R F (sF n_columns n_rows k) = ix R F (sT n_columns n_rows k) → ix R F (sF n_columns n_rows k) = -1 := fun z => Classical.byContradiction fun z2 => by
        have := ix_inj (R := R) (F := F) (show 0 ≤ sF n_columns n_rows k by omega) (show 0 ≤ sT n_columns n_rows k by omega) z z2
        omega
      have hwk := hw k hk0 (by omega)
      refine r_aload_0 C dX4_lays_144 ?_
      refine r_aload_0 C dX4_lays_145 ?_
      refine gY_place C q292 dX4_lays_146 ?_
      refine r_aload_0 C dX4_lays_149 ?_
      refine gY_this011 C q299 dX4_lays_150 ?_
      refine gGN_now C q345 dX4_lays_153 ?_
      refine gTN_from C q199 dX4_lays_156 ?_
      refine r_iload_3 C dX4_lays_159 ?_
      refine ld_n_from C dX4_lays_160 ?_
      refine r_topi (sF n_columns n_rows k) qe.1 ?_
      refine ld_t_place C dX4_lays_161 ?_
      refine r_topi (ix R F (sF n_columns n_rows k)) (hpl _ (by omega) (by omega)) ?_
      refine r_aload_0 C dX4_lays_162 ?_
      refine gY_place C q292 dX4_lays_163 ?_
      refine r_aload_0 C dX4_lays_166 ?_
      refine gY_this011 C q299 dX4_lays_167 ?_
      refine gGN_now C q345 dX4_lays_170 ?_
      refine gTN_to C q203 dX4_lays_173 ?_
      refine r_iload_3 C dX4_lays_176 ?_
      refine ld_n_to C dX4_lays_177 ?_
      refine r_topi (sT n_columns n_rows k) qe.2 ?_
      refine ld_t_place C dX4_lays_178 ?_
      refine r_topi (ix R F (sT n_columns n_rows k)) (hpl _ (by omega) (by omega)) ?_
      refine r_aload_0 C dX4_lays_179 ?_
      refine gYI_width C q301 dX4_lays_180 ?_
      refine r_iload_3 C dX4_lays_183 ?_
      refine ld_t_width C dX4_lays_184 ?_
      refine r_cV3v C (c_X4_ties_Y hG (by omega) (by omega) (by unfold inR; omega)) (q0 := 31) rfl rfl q736 pkX4_ties dX4_lays_185 (fun w h => ?_)
      subst h
      refine r_aload_0 C dX4_lays_188 ?_
      refine r_aload_0 C dX4_lays_189 ?_
      refine gY_place C q292 dX4_lays_190 ?_
      refine r_aload_0 C dX4_lays_193 ?_
      refine gY_this011 C q299 dX4_lays_194 ?_
      refine gGN_now C q345 dX4_lays_197 ?_
      refine gTN_to C q203 dX4_lays_200 ?_
      refine r_iload_3 C dX4_lays_203 ?_
      refine ld_n_to C dX4_lays_204 ?_
      refine r_topi (sT n_columns n_rows k) qe.2 ?_
      refine ld_t_place C dX4_lays_205 ?_
      refine r_topi (ix R F (sT n_columns n_rows k)) (hpl _ (by omega) (by omega)) ?_
      refine r_aload_0 C dX4_lays_206 ?_
      refine gY_place C q292 dX4_lays_207 ?_
      refine r_aload_0 C dX4_lays_210 ?_
      refine gY_this011 C q299 dX4_lays_211 ?_
      refine gGN_now C q345 dX4_lays_214 ?_
      refine gTN_from C q199 dX4_lays_217 ?_
      refine r_iload_3 C dX4_lays_220 ?_
      refine ld_n_from C dX4_lays_221 ?_
      refine r_topi (sF n_columns n_rows k) qe.1 ?_
      refine ld_t_place C dX4_lays_222 ?_
      refine r_topi (ix R F (sF n_columns n_rows k)) (hpl _ (by omega) (by omega)) ?_
      refine r_aload_0 C dX4_lays_223 ?_
      refine gYI_width C q301 dX4_lays_224 ?_
      refine r_iload_3 C dX4_lays_227 ?_
      refine ld_t_width C dX4_lays_228 ?_
      refine r_cV3v C (c_X4_ties_Y hG (by omega) (by omega) (by unfold inR; omega)) (q0 := 31) rfl rfl q736 pkX4_ties dX4_lays_229 (fun w h => ?_)
      subst h
      refine r_iinc_3 C dX4_lays_232 ?_
      refine r_goto (tgt := 130) C dX4_lays_235 (by decide) ?_
      exact ih _ (show (sN n_columns n_rows - (k + 1)).toNat < mm by omega) (k + 1) pl _ _ (by omega) (by omega) hpl (ties_rep hm9.2 hk0 hRp ia ib hne) rfl
  have key2 : ∀ (mm : Nat), ∀ (i : Int) (pl tb : Int → Int) (l4 : Option Value), (0 ≤ i) → (i ≤ m) → (∀ v, 0 ≤ v → v < n_columns * n_rows → pl v = ix R F v) → (∀ u x, 0 ≤ u → u < i → 0 ≤ x → x < 2 * m → tb (18 * u + x) = if x = m + u then 1 else 0) → (m - i).toNat = mm → AW g K (wX g σ x_tape x_taped x_faultKind x_faultPlace x_bestStarved x_bestMost x_bestWhole x_draws x_left x_mosts x_widened x_drawn x_img n_width n_from n_to n_load n_group n_budget n_columns n_rows n_limit n_wear (sN n_columns n_rows) n_pads n_lines n_mod n_asz n_el i_width i_load i_pads i_reached i_place i_table i_drop i_size i_whole t_width t_load t_pads t_reached (pl) (tb) t_drop (m) t_whole ++ ex) 0 0 69 [some (.ref (σ 31)), some (.int (jI R)), some (.int (jI F)), some (.int (jI i)), l4] [] := by
    intro mm
    induction mm using Nat.strongRecOn with
    | _ mm ih =>
    intro i pl tb l4 hi0 hi hpl hz hm
    refine r_iload_3 C dX4_lays_69 ?_
    refine r_aload_0 C dX4_lays_70 ?_
    refine gY_size C q296 dX4_lays_71 ?_
    refine r_if_icmpge (tgt := 128) C dX4_lays_74 (by decide) (fun c_74 => ?_) (fun c_74 => ?_)
    · skip
      refine r_iconst C dX4_lays_128 ?_
      refine r_istore_3 C dX4_lays_129 ?_
      refine key3 _ 0 pl tb _ (by omega) h00 hpl (fun i' y a1 a2 a3 a4 => ?_) rfl
      show _ = bT (mA n_columns n_rows t_width (ix R F) 0) 0 i' (cm m y)
      rw [hz i' y a1 (by omega) a3 a4, bT_0]
      unfold cm
      by_cases hy : y < m
      · rw [if_pos hy, if_pos (show y < 9 by omega), if_neg (show ¬ y = m + i' by omega)]
        rfl
      · rw [if_neg hy, if_neg (show ¬ 9 + (y - m) < 9 by omega)]
        by_cases hyi : y = m + i'
        · rw [if_pos hyi, if_pos (by omega)]
        · rw [if_neg hyi, if_neg (by omega)]
    · skip
      have ih0 := ih
      have inner : ∀ (mm : Nat), ∀ (x : Int) (tb : Int → Int), (0 ≤ x) → (x ≤ 2 * m) → (∀ u y, 0 ≤ u → u < i → 0 ≤ y → y < 2 * m → tb (18 * u + y) = if y = m + u then 1 else 0) → (∀ y, 0 ≤ y → y < x → tb (18 * i + y) = if y = m + i then 1 else 0) → (2 * m - x).toNat = mm → AW g K (wX g σ x_tape x_taped x_faultKind x_faultPlace x_bestStarved x_bestMost x_bestWhole x_draws x_left x_mosts x_widened x_drawn x_img n_width n_from n_to n_load n_group n_budget n_columns n_rows n_limit n_wear (sN n_columns n_rows) n_pads n_lines n_mod n_asz n_el i_width i_load i_pads i_reached i_place i_table i_drop i_size i_whole t_width t_load t_pads t_reached (pl) (tb) t_drop (m) t_whole ++ ex) 0 0 80 [some (.ref (σ 31)), some (.int (jI R)), some (.int (jI F)), some (.int (jI i)), some (.int (jI x))] [] := by
        intro mm
        induction mm using Nat.strongRecOn with
        | _ mm ih =>
        intro x tb hx0 hx hz hz2 hm
        refine r_iload_4 C dX4_lays_80 ?_
        refine r_iconst C dX4_lays_82 ?_
        refine r_aload_0 C dX4_lays_83 ?_
        refine gY_size C q296 dX4_lays_84 ?_
        refine r_imul C dX4_lays_87 ?_
        refine r_if_icmpge (tgt := 122) C dX4_lays_88 (by decide) (fun c_88 => ?_) (fun c_88 => ?_)
        · skip
          refine r_iinc_3 C dX4_lays_122 ?_
          refine r_goto (tgt := 69) C dX4_lays_125 (by decide) ?_
          refine ih0 _ (show (m - (i + 1)).toNat < _ by omega) (i + 1) pl tb _ (by omega) (by omega) hpl (fun u y a1 a2 a3 a4 => ?_) rfl
          by_cases eu : u = i
          · rw [eu]; exact hz2 y a3 (by omega)
          · exact hz u y a1 (by omega) a3 a4
        · skip
          refine r_aload_0 C dX4_lays_91 ?_
          refine gY_table C q293 dX4_lays_92 ?_
          refine r_iload_3 C dX4_lays_95 ?_
          refine ld_t_tab C dX4_lays_96 ?_
          refine r_iload_4 C dX4_lays_97 ?_
          refine r_iload_4 C dX4_lays_99 ?_
          refine r_aload_0 C dX4_lays_101 ?_
          refine gY_size C q296 dX4_lays_102 ?_
          refine r_iload_3 C dX4_lays_105 ?_
          refine r_iadd C dX4_lays_106 ?_
          refine r_if_icmpne (tgt := 114) C dX4_lays_107 (by decide) (fun c_107 => ?_) (fun c_107 => ?_)
          · skip
            refine r_lconst0 C dX4_lays_114 ?_
            refine st_t_row C dX4_lays_115 ?_
            refine r_iinc_4 C dX4_lays_116 ?_
            refine r_goto (tgt := 80) C dX4_lays_119 (by decide) ?_
            refine ih _ (show (2 * m - (x + 1)).toNat < mm by omega) (x + 1) _ (by omega) (by omega) (fun u y a1 a2 a3 a4 => ?_) (fun y a1 a2 => ?_) rfl
            · rw [aset_ne (by omega)]
              exact hz u y a1 a2 a3 a4
            · by_cases ey : y = x
              · rw [ey, aset_at]
                first
                  | rw [if_pos c_107]
                  | rw [if_neg c_107]
              · rw [aset_ne (by omega)]
                exact hz2 y a1 (by omega)
          · skip
            refine r_lconst1 C dX4_lays_110 ?_
            refine r_goto (tgt := 115) C dX4_lays_111 (by decide) ?_
            refine st_t_row C dX4_lays_115 ?_
            refine r_iinc_4 C dX4_lays_116 ?_
            refine r_goto (tgt := 80) C dX4_lays_119 (by decide) ?_
            refine ih _ (show (2 * m - (x + 1)).toNat < mm by omega) (x + 1) _ (by omega) (by omega) (fun u y a1 a2 a3 a4 => ?_) (fun y a1 a2 => ?_) rfl
            · rw [aset_ne (by omega)]
              exact hz u y a1 a2 a3 a4
            · by_cases ey : y = x
              · rw [ey, aset_at]
                first
                  | rw [if_pos c_107]
                  | rw [if_neg c_107]
              · rw [aset_ne (by omega)]
                exact hz2 y a1 (by omega)
      refine r_iconst C dX4_lays_77 ?_
      refine r_istore_4 C dX4_lays_78 ?_
      exact inner _ 0 tb (by omega) (by omega) hz (fun y _ _ => by omega) rfl
  have key1 : ∀ (mm : Nat), ∀ (v : Int) (pl : Int → Int), (0 ≤ v) → (v ≤ n_columns * n_rows) → (∀ u, 0 ≤ u → u < v → pl u = ix R F u) → (n_columns * n_rows - v).toNat = mm → AW g K (wX g σ x_tape x_taped x_faultKind x_faultPlace x_bestStarved x_bestMost x_bestWhole x_draws x_left x_mosts x_widened x_drawn x_img n_width n_from n_to n_load n_group n_budget n_columns n_rows n_limit n_wear (sN n_columns n_rows) n_pads n_lines n_mod n_asz n_el i_width i_load i_pads i_reached i_place i_table i_drop i_size i_whole t_width t_load t_pads t_reached (pl) t_table t_drop (uC R F v) t_whole ++ ex) 0 0 7 [some (.ref (σ 31)), some (.int (jI R)), some (.int (jI F)), some (.int (jI v)), none] [] := by
    intro mm
    induction mm using Nat.strongRecOn with
    | _ mm ih =>
    intro v pl hv0 hv hpl hm
    have hus := uC_s (R := R) (F := F) hv0
    have hun := uC_nn (R := R) (F := F) hv0
    refine r_iload_3 C dX4_lays_7 ?_
    refine r_aload_0 C dX4_lays_8 ?_
    refine r_cU0i C (c_X2_many_Y hG) (q0 := 31) rfl rfl q728 pkU_X2_many dX4_lays_9 (fun z w h => ?_)
    obtain ⟨rfl, rfl⟩ := h
    refine r_if_icmpge (tgt := 67) C dX4_lays_12 (by decide) (fun c_12 => ?_) (fun c_12 => ?_)
    · skip
      refine r_iconst C dX4_lays_67 ?_
      refine r_istore_3 C dX4_lays_68 ?_
      have ev : v = n_columns * n_rows := by omega
      subst ev
      rw [hmm]
      exact key2 _ 0 pl _ _ (by omega) hm9.1 hpl (fun u x _ _ => by omega) rfl
    · skip
      refine r_aload_0 C dX4_lays_15 ?_
      refine gY_place C q292 dX4_lays_16 ?_
      refine r_iload_3 C dX4_lays_19 ?_
      refine r_iconst C dX4_lays_20 ?_
      refine st_t_place C dX4_lays_21 ?_
      refine r_iload_1 C dX4_lays_22 ?_
      refine r_iload_3 C dX4_lays_23 ?_
      refine r_cSN2i C (c_X0_isOn hG (by omega) (by omega)) q735 pkX0_isOn dX4_lays_24 (fun z w h => ?_)
      obtain ⟨rfl, rfl⟩ := h
      refine r_ifeqB (tgt := 61) C dX4_lays_27 (by decide) (fun c_27 => ?_) (fun c_27 => ?_)
      · skip
        refine r_iinc_3 C dX4_lays_61 ?_
        refine r_goto (tgt := 7) C dX4_lays_64 (by decide) ?_
        first
          | (have hk : ukB R F v = true := by unfold ukB; simp [c_27, c_35]
             rw [hk, if_pos rfl] at hus
             rw [← hus]
             refine ih _ (show (n_columns * n_rows - (v + 1)).toNat < mm by omega) (v + 1) _ (by omega) (by omega) (fun u a1 a2 => ?_) rfl
             by_cases e : u = v
             · rw [e, aset_at]
               unfold ix
               rw [if_pos hk]
             · rw [aset_ne e, aset_ne e]
               exact hpl u a1 (by omega))
          | (have hk : ukB R F v = false := by
               unfold ukB
               first
                 | (rw [show bsB R v = false by simpa using c_27]; rfl)
                 | (rw [c_35]; simp)
             rw [hk, if_neg (by simp)] at hus
             rw [← hus]
             refine ih _ (show (n_columns * n_rows - (v + 1)).toNat < mm by omega) (v + 1) _ (by omega) (by omega) (fun u a1 a2 => ?_) rfl
             by_cases e : u = v
             · rw [e, aset_at]
               unfold ix
               rw [hk]
               rfl
             · rw [aset_ne e]
               exact hpl u a1 (by omega))
      · skip
        refine r_iload_2 C dX4_lays_30 ?_
        refine r_iload_3 C dX4_lays_31 ?_
        refine r_cSN2i C (c_X0_isOn hG (by omega) (by omega)) q735 pkX0_isOn dX4_lays_32 (fun z w h => ?_)
        obtain ⟨rfl, rfl⟩ := h
        refine r_ifeqB (tgt := 41) C dX4_lays_35 (by decide) (fun c_35 => ?_) (fun c_35 => ?_)
        · skip
          refine r_aload_0 C dX4_lays_41 ?_
          refine gY_place C q292 dX4_lays_42 ?_
          refine r_iload_3 C dX4_lays_45 ?_
          refine r_aload_0 C dX4_lays_46 ?_
          refine gY_size C q296 dX4_lays_47 ?_
          refine st_t_place C dX4_lays_50 ?_
          refine r_aload_0 C dX4_lays_51 ?_
          refine r_dup C dX4_lays_52 ?_
          refine gY_size C q296 dX4_lays_53 ?_
          refine r_iconst C dX4_lays_56 ?_
          refine r_iadd C dX4_lays_57 ?_
          refine pY_size C q296 dX4_lays_58 ?_
          refine r_iinc_3 C dX4_lays_61 ?_
          refine r_goto (tgt := 7) C dX4_lays_64 (by decide) ?_
          first
            | (have hk : ukB R F v = true := by unfold ukB; simp [c_27, c_35]
               rw [hk, if_pos rfl] at hus
               rw [← hus]
               refine ih _ (show (n_columns * n_rows - (v + 1)).toNat < mm by omega) (v + 1) _ (by omega) (by omega) (fun u a1 a2 => ?_) rfl
               by_cases e : u = v
               · rw [e, aset_at]
                 unfold ix
                 rw [if_pos hk]
               · rw [aset_ne e, aset_ne e]
                 exact hpl u a1 (by omega))
            | (have hk : ukB R F v = false := by
                 unfold ukB
                 first
                   | (rw [show bsB R v = false by simpa using c_27]; rfl)
                   | (rw [c_35]; simp)
               rw [hk, if_neg (by simp)] at hus
               rw [← hus]
               refine ih _ (show (n_columns * n_rows - (v + 1)).toNat < mm by omega) (v + 1) _ (by omega) (by omega) (fun u a1 a2 => ?_) rfl
               by_cases e : u = v
               · rw [e, aset_at]
                 unfold ix
                 rw [hk]
                 rfl
               · rw [aset_ne e]
                 exact hpl u a1 (by omega))
        · skip
          refine r_goto (tgt := 61) C dX4_lays_38 (by decide) ?_
          refine r_iinc_3 C dX4_lays_61 ?_
          refine r_goto (tgt := 7) C dX4_lays_64 (by decide) ?_
          first
            | (have hk : ukB R F v = true := by unfold ukB; simp [c_27, c_35]
               rw [hk, if_pos rfl] at hus
               rw [← hus]
               refine ih _ (show (n_columns * n_rows - (v + 1)).toNat < mm by omega) (v + 1) _ (by omega) (by omega) (fun u a1 a2 => ?_) rfl
               by_cases e : u = v
               · rw [e, aset_at]
                 unfold ix
                 rw [if_pos hk]
               · rw [aset_ne e, aset_ne e]
                 exact hpl u a1 (by omega))
            | (have hk : ukB R F v = false := by
                 unfold ukB
                 first
                   | (rw [show bsB R v = false by simpa using c_27]; rfl)
                   | (rw [c_35]; simp)
               rw [hk, if_neg (by simp)] at hus
               rw [← hus]
               refine ih _ (show (n_columns * n_rows - (v + 1)).toNat < mm by omega) (v + 1) _ (by omega) (by omega) (fun u a1 a2 => ?_) rfl
               by_cases e : u = v
               · rw [e, aset_at]
                 unfold ix
                 rw [hk]
                 rfl
               · rw [aset_ne e]
                 exact hpl u a1 (by omega))
  refine r_aload_0 C dX4_lays_0 ?_
  refine r_iconst C dX4_lays_1 ?_
  refine pY_size C q296 dX4_lays_2 ?_
  refine r_iconst C dX4_lays_5 ?_
  refine r_istore_3 C dX4_lays_6 ?_
  exact key1 _ 0 _ (by omega) (by omega) (fun u _ _ => by omega) rfl
theorem c_X4_solves_Y (hG : Gok g) {w : Int → Int} (hd : Gd w) (hN : NB w n_columns n_rows n_limit n_wear n_straps n_from n_to) (hX : SX w t_width t_load t_pads) : XMet g yX4_solves cX4_solves 3 (some (.object "SupplyGrid$Solved")) 3 0 0 [.ref (σ 31)] (wX g σ x_tape x_taped x_faultKind x_faultPlace x_bestStarved x_bestMost x_bestWhole x_draws x_left x_mosts x_widened x_drawn x_img n_width n_from n_to n_load n_group n_budget n_columns n_rows n_limit n_wear n_straps n_pads n_lines n_mod n_asz n_el i_width i_load i_pads i_reached i_place i_table i_drop i_size i_whole t_width t_load t_pads t_reached t_place t_table t_drop t_size t_whole ++ ex) (pA (fun a ww => a = σ 31 ∧ ∃ pl tb dr, SS w (wR w) pl tb dr (wm w) (wWh w) ∧ ww = (wX g σ x_tape x_taped x_faultKind x_faultPlace x_bestStarved x_bestMost x_bestWhole x_draws x_left x_mosts x_widened x_drawn x_img n_width n_from n_to n_load n_group n_budget n_columns n_rows n_limit n_wear n_straps n_pads n_lines n_mod n_asz n_el i_width i_load i_pads i_reached i_place i_table i_drop i_size i_whole t_width t_load t_pads (wR w) (pl) (tb) (dr) (wm w) (wWh w) ++ ex))) := by
  refine XMet.of (L := [some (.ref (σ 31)), none, none]) hG (by decide +kernel) (Nat.le_of_ble_eq_true rfl) rfl (fun K C E => ?_)
  obtain ⟨hc, hr, hlim, hwe, hs, he⟩ := hN
  obtain ⟨hxw, hxl, hxp⟩ := hX
  have hn := hd.n
  have h12 := hd.s
  have hp5 := hd.p5
  have hr5 := hd.r
  have hok := sol_ok hd.g hd.wd hd.pads
  subst hxp hs
  have hwc : ∀ k, 0 ≤ k → k < sN (w 0) (w 1) → t_width k = wWd w k := fun k a b => by
    unfold wS at h12
    exact hxw k a (by omega)
  have hw4 : ∀ k, 0 ≤ k → k < 12 → 0 ≤ t_width k ∧ t_width k ≤ 4 := fun k a b => by rw [hxw k a b]; exact hd.wd k a b
  have hre : rch (w 0) (w 1) t_width (w 5) = wR w := rch_cong hwc
  have hmA : mA (w 0) (w 1) t_width (ix (wR w) (w 5)) (sN (w 0) (w 1)) = gA (w 0) (w 1) (wWd w) (w 5) := by
    funext i j
    exact mA_cong hwc
  have hwm : uC (wR w) (w 5) (w 0 * w 1) = wm w := rfl
  have outer : ∀ (mm : Nat), ∀ (v : Int) (pl tb dr : Int → Int) (l2 : Option Value), (0 ≤ v) → (v ≤ wN w) → (∀ v, 0 ≤ v → v < w 0 * w 1 → pl v = gx (w 0) (w 1) (wWd w) (w 5) v) → (RepX tb (wm w) (bT (gA (w 0) (w 1) (wWd w) (w 5)) (wm w).toNat)) → (∀ u, 0 ≤ u → u < v → dr u = wDr w u) → (wN w - v).toNat = mm → AW g K (wX g σ x_tape x_taped x_faultKind x_faultPlace x_bestStarved x_bestMost x_bestWhole x_draws x_left x_mosts x_widened x_drawn x_img n_width n_from n_to n_load n_group n_budget n_columns n_rows n_limit n_wear (wS w) n_pads n_lines n_mod n_asz n_el i_width i_load i_pads i_reached i_place i_table i_drop i_size i_whole t_width t_load (w 5) (wR w) (pl) (tb) (dr) (wm w) (wWh w) ++ ex) 0 0 26 [some (.ref (σ 31)), some (.int (jI v)), l2] [] := by
    intro mm
    induction mm using Nat.strongRecOn with
    | _ mm ih =>
    intro v pl tb dr l2 hv0 hv hpl hRp hdr hm
    refine r_iload_1 C dX4_solves_26 ?_
    refine r_aload_0 C dX4_solves_27 ?_
    refine r_cU0i C (c_X2_many_Y hG) (q0 := 31) rfl rfl q728 pkU_X2_many dX4_solves_28 (fun z w h => ?_)
    obtain ⟨rfl, rfl⟩ := h
    refine r_topi (wN w) (by rw [hc, hr]; rfl) ?_
    refine r_if_icmpge (tgt := 86) C dX4_solves_31 (by decide) (fun c_31 => ?_) (fun c_31 => ?_)
    · skip
      refine r_aload_0 C dX4_solves_86 ?_
      refine r_areturn C E (Or.inl ⟨_, rfl⟩) dX4_solves_87 ?_
      have ev : v = wN w := by omega
      subst ev
      exact ⟨_, rfl, rfl, pl, tb, dr, ⟨rfl, hpl, rfl, hRp, hdr, rfl⟩, rfl⟩
    · skip
      have ih0 := ih
      have inner : ∀ (mm : Nat), ∀ (u s : Int) (dr : Int → Int), (0 ≤ u) → (u ≤ wN w) → (s = foI (fun u s => s + w (6 + u) * wMv w v u) 0 u) → (dr v = s) → (∀ u, 0 ≤ u → u < v → dr u = wDr w u) → (wN w - u).toNat = mm → AW g K (wX g σ x_tape x_taped x_faultKind x_faultPlace x_bestStarved x_bestMost x_bestWhole x_draws x_left x_mosts x_widened x_drawn x_img n_width n_from n_to n_load n_group n_budget n_columns n_rows n_limit n_wear (wS w) n_pads n_lines n_mod n_asz n_el i_width i_load i_pads i_reached i_place i_table i_drop i_size i_whole t_width t_load (w 5) (wR w) (pl) (tb) (dr) (wm w) (wWh w) ++ ex) 0 0 43 [some (.ref (σ 31)), some (.int (jI v)), some (.int (jI u))] [] := by
        intro mm
        induction mm using Nat.strongRecOn with
        | _ mm ih =>
        intro u s dr hu0 hu es hdv hdr hm
        refine r_iload_2 C dX4_solves_43 ?_
        refine r_aload_0 C dX4_solves_44 ?_
        refine r_cU0i C (c_X2_many_Y hG) (q0 := 31) rfl rfl q728 pkU_X2_many dX4_solves_45 (fun z w h => ?_)
        obtain ⟨rfl, rfl⟩ := h
        refine r_topi (wN w) (by rw [hc, hr]; rfl) ?_
        refine r_if_icmpge (tgt := 80) C dX4_solves_48 (by decide) (fun c_48 => ?_) (fun c_48 => ?_)
        · skip
          refine r_iinc_1 C dX4_solves_80 ?_
          refine r_goto (tgt := 26) C dX4_solves_83 (by decide) ?_
          have eu : u = wN w := by omega
          subst eu
          refine ih0 _ (show (wN w - (v + 1)).toNat < _ by omega) (v + 1) pl tb dr _ (by omega) (by omega) hpl hRp (fun x a b => ?_) rfl
          by_cases ex : x = v
          · rw [ex, hdv, es]; rfl
          · exact hdr x a (by omega)
        · skip
          have hld := hd.ld u hu0 (by omega)
          refine r_aload_0 C dX4_solves_51 ?_
          refine gY_drop C q294 dX4_solves_52 ?_
          refine r_iload_1 C dX4_solves_55 ?_
          refine r_dup2 C dX4_solves_56 ?_
          refine ld_t_drop C dX4_solves_57 ?_
          refine r_topl s hdv ?_
          refine r_aload_0 C dX4_solves_58 ?_
          refine gYI_load C q305 dX4_solves_59 ?_
          refine r_iload_2 C dX4_solves_62 ?_
          refine ld_t_load C dX4_solves_63 ?_
          refine r_topi (w (6 + u)) (hxl u hu0 (by omega)) ?_
          refine r_i2l C dX4_solves_64 ?_
          refine r_aload_0 C dX4_solves_65 ?_
          refine r_iload_1 C dX4_solves_66 ?_
          refine r_iload_2 C dX4_solves_67 ?_
          refine r_cV2l C (c_X4_moves_Y hG (F := w 5) (wd := wWd w) hd.g hpl rfl hRp ⟨hv0, c_31⟩ ⟨hu0, c_48⟩) (q0 := 31) rfl rfl q744 pkX4_moves dX4_solves_68 (fun z w h => ?_)
          obtain ⟨rfl, rfl⟩ := h
          refine r_lmul C dX4_solves_71 ?_
          refine r_ladd C dX4_solves_72 ?_
          refine st_t_drop C dX4_solves_73 ?_
          refine r_iinc_2 C dX4_solves_74 ?_
          refine r_goto (tgt := 43) C dX4_solves_77 (by decide) ?_
          refine ih _ (show (wN w - (u + 1)).toNat < mm by omega) (u + 1) _ _ (by omega) (by omega) (by rw [foI_s _ _ hu0, ← es]; rfl) (aset_at _ _ _) (fun x a b => ?_) rfl
          rw [aset_ne (by omega)]
          exact hdr x a b
      refine r_aload_0 C dX4_solves_34 ?_
      refine gY_drop C q294 dX4_solves_35 ?_
      refine r_iload_1 C dX4_solves_38 ?_
      refine r_lconst0 C dX4_solves_39 ?_
      refine st_t_drop C dX4_solves_40 ?_
      refine r_iconst C dX4_solves_41 ?_
      refine r_istore_2 C dX4_solves_42 ?_
      exact inner _ 0 0 _ (by omega) (by omega) rfl (aset_at _ _ _) (fun x a b => by rw [aset_ne (by omega)]; exact hdr x a b) rfl
  refine r_aload_0 C dX4_solves_0 ?_
  refine r_aload_0 C dX4_solves_1 ?_
  refine r_aload_0 C dX4_solves_2 ?_
  refine gYI_pads C q309 dX4_solves_3 ?_
  refine r_cU1i C (c_X3_reach_Y hG hd.g rfl he hw4 hp5.1 hp5.2) (q0 := 31) rfl rfl q717 pkU_X3_reach dX4_solves_6 (fun z w h => ?_)
  obtain ⟨rfl, rfl⟩ := h
  rw [hre]
  refine pYI_reached C q312 dX4_solves_9 ?_
  refine r_aload_0 C dX4_solves_12 ?_
  refine r_aload_0 C dX4_solves_13 ?_
  refine gYI_reached C q312 dX4_solves_14 ?_
  refine r_aload_0 C dX4_solves_17 ?_
  refine gYI_pads C q309 dX4_solves_18 ?_
  refine r_cV2v C (c_X4_lays_Y hG hd.g hc hr rfl he hw4 (by omega) hp5 (by rw [hmA]; exact hok.1)) (q0 := 31) rfl rfl q724 pkX4_lays dX4_solves_21 (fun w h => ?_)
  obtain ⟨pl, tb, hpl, hRp, rfl⟩ := h
  rw [hmA] at hRp ⊢
  refine r_iconst C dX4_solves_24 ?_
  refine r_istore_1 C dX4_solves_25 ?_
  exact outer _ 0 pl tb _ _ (by omega) (by omega) hpl hRp (fun u _ _ => by omega) rfl

end X3

