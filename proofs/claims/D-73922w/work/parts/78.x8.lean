section X8
variable {g : GX} {σ : Nat → Nat} {ex : va_W}
variable {x_tape : Int → Int} {x_taped : Int} {x_faultKind : Int} {x_faultPlace : Int} {x_bestStarved : Int} {x_bestMost : Int} {x_bestWhole : Int} {x_draws : Int → Int} {x_left : Int → Int} {x_mosts : Int → Int} {x_widened : Int → Int} {x_drawn : Int} {x_img : Nat → Option Nat} {n_width : Int → Int} {n_from : Int → Int} {n_to : Int → Int} {n_load : Int → Int} {n_group : Int → Int} {n_budget : Int → Int} {n_columns : Int} {n_rows : Int} {n_limit : Int} {n_wear : Int} {n_straps : Int} {n_pads : Int} {n_lines : Int} {n_mod : Int} {n_asz : Int} {n_el : Nat → Option Nat} {i_width : Int → Int} {i_load : Int → Int} {i_pads : Int} {i_reached : Int} {i_place : Int → Int} {i_table : Int → Int} {i_drop : Int → Int} {i_size : Int} {i_whole : Int} {t_width : Int → Int} {t_load : Int → Int} {t_pads : Int} {t_reached : Int} {t_place : Int → Int} {t_table : Int → Int} {t_drop : Int → Int} {t_size : Int} {t_whole : Int}
theorem c_X0_pad (hG : Gok g) {i : Int} {w : Int → Int} (hi : inR i) (hW : NW w n_width n_from n_to n_load n_group n_budget n_columns n_rows n_limit n_wear n_straps n_pads n_lines) : XMet g yX0_pad cX0_pad 5 (some .int) (73) 0 0 [.ref (σ 0), .int (jI i)] (wX g σ x_tape x_taped x_faultKind x_faultPlace x_bestStarved x_bestMost x_bestWhole x_draws x_left x_mosts x_widened x_drawn x_img n_width n_from n_to n_load n_group n_budget n_columns n_rows n_limit n_wear n_straps n_pads n_lines n_mod n_asz n_el i_width i_load i_pads i_reached i_place i_table i_drop i_size i_whole t_width t_load t_pads t_reached t_place t_table t_drop t_size t_whole ++ ex) (pI (fun z ww => z = spPad w i ∧ PubX g σ ex x_tape x_taped x_faultKind x_faultPlace x_img n_width n_from n_to n_load n_group n_budget n_columns n_rows n_limit n_wear n_straps n_pads n_lines n_mod n_asz n_el ww)) := by
  refine XMet.of (L := [some (.ref (σ 0)), some (.int (jI i)), none, none, none]) hG (by decide +kernel) (Nat.le_of_ble_eq_true rfl) rfl (fun K C E => ?_)
  have hi2 := hi.2
  refine r_aload_0 C dX0_pad_0 ?_
  refine gG_now C q346 dX0_pad_1 ?_
  refine r_cV0i C (c_X1_is hG hW.inR4) (q0 := 7) rfl rfl q696 pkX1_is dX0_pad_4 (fun z w h => ?_)
  obtain ⟨rfl, rfl⟩ := h
  refine r_ifeqB (tgt := 14) C dX0_pad_7 (by decide) (fun c_7 => ?_) (fun c_7 => ?_)
  · skip
    refine r_bipush C dX0_pad_14 ?_
    refine r_ireturn C E dX0_pad_16 ?_
    rw [hW.ln] at c_7
    refine ⟨_, rfl, ?_, PubX.mk⟩
    unfold spPad
    first
      | rw [if_neg (by intro h; exact c_7 h.1)]
      | rw [if_neg (by intro h; omega)]
  · skip
    refine r_iload_1 C dX0_pad_10 ?_
    refine r_ifge (tgt := 17) C dX0_pad_11 (by decide) (fun c_11 => ?_) (fun c_11 => ?_)
    · skip
      rw [hW.ln] at c_7
      have hd := hW.wf.gd4 c_7
      have hn := hd.n
      have hwi : ∀ q, NSet (w 0) (w 1) q → (wNp (aset w 5 (bsO (w 5) q))).1 = -1 ∨ (0 ≤ (wNp (aset w 5 (bsO (w 5) q))).1 ∧ (wNp (aset w 5 (bsO (w 5) q))).1 < wN w) := fun q hq => by
        have h := wNp_in (hd.pad (hd.pads.O hq))
        rw [wN_aset (by omega)] at h
        omega
      have key : ∀ (mm : Nat), ∀ (k q v bs bm bw : Int) (yw yl : Int → Int) (yp yr : Int) (yc yt yd : Int → Int) (yz yo : Int), (0 ≤ k) → (k ≤ i) → (NSet (w 0) (w 1) q) → (v = -1 ∨ (0 ≤ v ∧ v < wN w)) → ((bsO (w 5) q, v) = pdS w k.toNat) → (i - k).toNat = mm → AW g K (wX g σ x_tape x_taped x_faultKind x_faultPlace (bs) (bm) (bw) x_draws x_left x_mosts x_widened x_drawn x_img n_width n_from n_to n_load n_group n_budget n_columns n_rows n_limit n_wear n_straps n_pads n_lines n_mod n_asz n_el i_width i_load i_pads i_reached i_place i_table i_drop i_size i_whole (yw) (yl) (yp) (yr) (yc) (yt) (yd) (yz) (yo) ++ ex) 0 0 28 [some (.ref (σ 0)), some (.int (jI i)), some (.int (jI q)), some (.int (jI v)), some (.int (jI k))] [] := by
        intro mm
        induction mm using Nat.strongRecOn with
        | _ mm ih =>
        intro k q v bs bm bw yw yl yp yr yc yt yd yz yo hk0 hk hq hv es hm
        have hq0 := hq.1
        refine r_iload_4 C dX0_pad_28 ?_
        refine r_iload_1 C dX0_pad_30 ?_
        refine r_if_icmpge (tgt := 57) C dX0_pad_31 (by decide) (fun c_31 => ?_) (fun c_31 => ?_)
        · skip
          refine r_iload_3 C dX0_pad_57 ?_
          refine r_ireturn C E dX0_pad_58 ?_
          refine ⟨_, rfl, ?_, PubX.mk⟩
          unfold spPad
          rw [if_pos (And.intro c_7 (by omega))]
          first
            | (have e : k = i := by omega
               rw [← e, ← es])
            | (rw [pdS_stuck (k := k.toNat) (i := i.toNat) (by rw [← es]; exact c_36) (by omega)]; exact c_36)
        · skip
          refine r_iload_3 C dX0_pad_34 ?_
          refine r_iconst C dX0_pad_35 ?_
          refine r_if_icmpeq (tgt := 57) C dX0_pad_36 (by decide) (fun c_36 => ?_) (fun c_36 => ?_) (by unfold inR; omega)
          · skip
            refine r_iload_3 C dX0_pad_57 ?_
            refine r_ireturn C E dX0_pad_58 ?_
            refine ⟨_, rfl, ?_, PubX.mk⟩
            unfold spPad
            rw [if_pos (And.intro c_7 (by omega))]
            first
              | (have e : k = i := by omega
                 rw [← e, ← es])
              | (rw [pdS_stuck (k := k.toNat) (i := i.toNat) (by rw [← es]; exact c_36) (by omega)]; exact c_36)
          · skip
            have hv2 : 0 ≤ v ∧ v < wN w := by omega
            have hP := bsP_9 hv2.1 (show v < 9 by omega)
            have hP0 := bsP_0 (k := v)
            have hNq : NSet (w 0) (w 1) (bsO q (bsP v)) := hq.O (NSet.P hv2.1 hv2.2)
            have hin := hwi _ hNq
            refine r_iload_2 C dX0_pad_39 ?_
            refine r_iconst C dX0_pad_40 ?_
            refine r_iload_3 C dX0_pad_41 ?_
            refine r_ishl C (_) dX0_pad_42 (jI_shl (by omega) (by omega)) ?_
            refine r_ior C (_) dX0_pad_43 (jI_or (by omega) (by omega)) ?_
            refine r_istore_2 C dX0_pad_44 ?_
            refine r_aload_0 C dX0_pad_45 ?_
            refine r_iload_2 C dX0_pad_46 ?_
            refine r_cV1i C (c_X0_bestPad hG hd hW hNq) (q0 := 0) rfl rfl q995 pkX0_bestPad dX0_pad_47 (fun z w h => ?_)
            obtain ⟨rfl, bs, bm, bw, yw, yl, yp, yr, yc, yt, yd, yz, yo, rfl⟩ := h
            refine r_istore_3 C dX0_pad_50 ?_
            refine r_iinc_4 C dX0_pad_51 ?_
            refine r_goto (tgt := 28) C dX0_pad_54 (by decide) ?_
            refine ih _ (show (i - (k + 1)).toNat < mm by omega) (k + 1) _ _ _ _ _ _ _ _ _ _ _ _ _ _ (by omega) (by omega) hNq hin ?_ rfl
            rw [show (k + 1).toNat = k.toNat + 1 by omega, pdS, ← es, if_neg c_36, bsO_assoc]
      refine r_iconst C dX0_pad_17 ?_
      refine r_istore_2 C dX0_pad_18 ?_
      refine r_aload_0 C dX0_pad_19 ?_
      refine r_iload_2 C dX0_pad_20 ?_
      refine r_cV1i C (c_X0_bestPad hG hd hW NSet.z) (q0 := 0) rfl rfl q995 pkX0_bestPad dX0_pad_21 (fun z w h => ?_)
      have hin := hwi 0 NSet.z
      obtain ⟨rfl, bs, bm, bw, yw, yl, yp, yr, yc, yt, yd, yz, yo, rfl⟩ := h
      refine r_istore_3 C dX0_pad_24 ?_
      refine r_iconst C dX0_pad_25 ?_
      refine r_istore_4 C dX0_pad_26 ?_
      refine key _ 0 0 _ _ _ _ _ _ _ _ _ _ _ _ _ (by omega) (by omega) NSet.z hin ?_ rfl
      rw [bsO_z hd.p5.1, aset_same]
      rfl
    · skip
      refine r_bipush C dX0_pad_14 ?_
      refine r_ireturn C E dX0_pad_16 ?_
      rw [hW.ln] at c_7
      refine ⟨_, rfl, ?_, PubX.mk⟩
      unfold spPad
      first
        | rw [if_neg (by intro h; exact c_7 h.1)]
        | rw [if_neg (by intro h; omega)]
theorem c_X0_bestPads (hG : Gok g) {n : Int} {w : Int → Int} (hn9 : 0 ≤ n ∧ n ≤ 9) (hd : Gd w) (hW : NW w n_width n_from n_to n_load n_group n_budget n_columns n_rows n_limit n_wear n_straps n_pads n_lines) : XMet g yX0_bestPads cX0_bestPads 5 (some .int) (72) 0 0 [.ref (σ 0), .int (jI n)] (wX g σ x_tape x_taped x_faultKind x_faultPlace x_bestStarved x_bestMost x_bestWhole x_draws x_left x_mosts x_widened x_drawn x_img n_width n_from n_to n_load n_group n_budget n_columns n_rows n_limit n_wear n_straps n_pads n_lines n_mod n_asz n_el i_width i_load i_pads i_reached i_place i_table i_drop i_size i_whole t_width t_load t_pads t_reached t_place t_table t_drop t_size t_whole ++ ex) (pI (fun z ww => z = (wBp w n).1 ∧ ∃ (bs bm bw : Int) (yw yl : Int → Int) (yp yr : Int) (yc yt yd : Int → Int) (yz yo : Int), ((wBp w n).1 ≠ -1 → bm = (wBp w n).2.2.1 ∧ bw = (wBp w n).2.2.2) ∧ ww = (wX g σ x_tape x_taped x_faultKind x_faultPlace (bs) (bm) (bw) x_draws x_left x_mosts x_widened x_drawn x_img n_width n_from n_to n_load n_group n_budget n_columns n_rows n_limit n_wear n_straps n_pads n_lines n_mod n_asz n_el i_width i_load i_pads i_reached i_place i_table i_drop i_size i_whole (yw) (yl) (yp) (yr) (yc) (yt) (yd) (yz) (yo) ++ ex))) := by
  refine XMet.of (L := [some (.ref (σ 0)), some (.int (jI n)), none, none, none]) hG (by decide +kernel) (Nat.le_of_ble_eq_true rfl) rfl (fun K C E => ?_)
  have hp5 := hd.p5
  have hpd := hW.pd
  have hn := hd.n
  have hPN : 0 < bsP (wN w) := bsP_0
  have hPN9 : bsP (wN w) ≤ 512 := by
    unfold bsP
    have : 2 ^ (wN w).toNat ≤ 2 ^ 9 := Nat.pow_le_pow_right (by decide) (by omega)
    omega
  have key : ∀ (mm : Nat), ∀ (v : Int) (s : Bst) (bs bm bw : Int) (yw yl : Int → Int) (yp yr : Int) (yc yt yd : Int → Int) (yz yo : Int) (l4 : Option Value), (0 ≤ v) → (v ≤ bsP (wN w)) → (BsOk s) → (s = bs0 ∨ ((0 ≤ s.1 ∧ s.1 < 512) ∧ bs = s.2.1 ∧ bm = s.2.2.1 ∧ bw = s.2.2.2)) → (s = bst (bpP w n) (fun v => aset w 5 (bsO (w 5) v)) bs0 v) → (512 - v).toNat = mm → AW g K (wX g σ x_tape x_taped x_faultKind x_faultPlace (bs) (bm) (bw) x_draws x_left x_mosts x_widened x_drawn x_img n_width n_from n_to n_load n_group n_budget n_columns n_rows n_limit n_wear n_straps n_pads n_lines n_mod n_asz n_el i_width i_load i_pads i_reached i_place i_table i_drop i_size i_whole (yw) (yl) (yp) (yr) (yc) (yt) (yd) (yz) (yo) ++ ex) 0 0 4 [some (.ref (σ 0)), some (.int (jI n)), some (.int (jI s.1)), some (.int (jI v)), l4] [] := by
    intro mm
    induction mm using Nat.strongRecOn with
    | _ mm ih =>
    intro v s bs bm bw yw yl yp yr yc yt yd yz yo l4 hv0 hv hs hs1 es hm
    have hs2 : -1 ≤ s.1 ∧ s.1 < 512 := by
      rcases hs1 with h | h
      · rw [h]; simp
      · omega
    refine r_iload_3 C dX0_bestPads_4 ?_
    refine r_iconst C dX0_bestPads_5 ?_
    refine r_aload_0 C dX0_bestPads_6 ?_
    refine gG_now C q346 dX0_bestPads_7 ?_
    refine r_cV0i C (c_X1_many hG) (q0 := 7) rfl rfl q768 pkX1_many dX0_bestPads_10 (fun z w h => ?_)
    obtain ⟨rfl, rfl⟩ := h
    refine r_topi (wN w) (by rw [hW.c, hW.r]; rfl) ?_
    refine r_ishl C (_) dX0_bestPads_13 (jI_shl (by omega) (by omega)) ?_
    refine r_if_icmpge (tgt := 78) C dX0_bestPads_14 (by decide) (fun c_14 => ?_) (fun c_14 => ?_)
    · skip
      refine r_iload_2 C dX0_bestPads_78 ?_
      refine r_ireturn C E dX0_bestPads_79 ?_
      have e : v = bsP (wN w) := by omega
      subst e
      rw [wBp_cut hd] at es
      subst es
      refine ⟨_, rfl, rfl, _, _, _, _, _, _, _, _, _, _, _, _, fun hne => ?_, rfl⟩
      rcases hs1 with h | h
      · rw [h] at hne; exact absurd rfl hne
      · exact h.2.2
    · skip
      have hbc := bitc_in (s := v)
      have hpc := pc12_9 (s := v) (by omega)
      refine r_iload_3 C dX0_bestPads_17 ?_
      refine r_cS1i C (c_J10_bitCount hG hv0 (by omega)) q1029 pkJ10_bitCount dX0_bestPads_18 (fun z w h => ?_)
      obtain ⟨rfl, rfl⟩ := h
      refine r_topi (bitc v) hpc ?_
      refine r_iload_1 C dX0_bestPads_21 ?_
      refine r_if_icmpne (tgt := 72) C dX0_bestPads_22 (by decide) (fun c_22 => ?_) (fun c_22 => ?_)
      · skip
        refine r_iinc_3 C dX0_bestPads_72 ?_
        refine r_goto (tgt := 4) C dX0_bestPads_75 (by decide) ?_
        first
          | (have h : ¬ bitc v = n := c_22
             refine ih _ (show (512 - (v + 1)).toNat < mm by omega) (v + 1) s _ _ _ _ _ _ _ _ _ _ _ _ _ (by omega) (by omega) hs hs1 ?_ rfl
             rw [bst_s hv0, ← es, bsf_no1 (bpP_no (Or.inr (Or.inl h)))])
          | (have h : ¬ bsA v (w 5) = 0 := c_34
             refine ih _ (show (512 - (v + 1)).toNat < mm by omega) (v + 1) s _ _ _ _ _ _ _ _ _ _ _ _ _ (by omega) (by omega) hs hs1 ?_ rfl
             rw [bst_s hv0, ← es, bsf_no1 (bpP_no (Or.inr (Or.inr h)))])
          | (have h : ¬ sc (aset w 5 (bsO (w 5) v)) s.2.1 s.2.2.1 s.2.2.2 < 0 := c_58
             refine ih _ (show (512 - (v + 1)).toNat < mm by omega) (v + 1) s _ _ _ _ _ _ _ _ _ _ _ _ _ (by omega) (by omega) hs (Or.inr ⟨h10, rfl, rfl, rfl⟩) ?_ rfl
             rw [bst_s hv0, ← es, bsf_no2 (G := fun v => aset w 5 (bsO (w 5) v)) (by omega)])
          | (refine ih _ (show (512 - (v + 1)).toNat < mm by omega) (v + 1) (v, wDl (aset w 5 (bsO (w 5) v)), wMx (aset w 5 (bsO (w 5) v)), wWh (aset w 5 (bsO (w 5) v))) _ _ _ _ _ _ _ _ _ _ _ _ _ (by omega) (by omega) (bs_of hdv v) (Or.inr ⟨⟨hv0, by (try simp only); omega⟩, rfl, rfl, rfl⟩) ?_ rfl
             rw [bst_s hv0, ← es, bsf_yes (P := bpP w n) (G := fun v => aset w 5 (bsO (w 5) v)) hPv]
             first
               | exact c_58
               | (rcases hs1 with h | h
                  · rw [h]; exact sc_10 hdv
                  · exact absurd c_49 (by omega)))
      · skip
        refine r_iload_3 C dX0_bestPads_25 ?_
        refine r_aload_0 C dX0_bestPads_26 ?_
        refine gG_now C q346 dX0_bestPads_27 ?_
        refine gTN_pads C q244 dX0_bestPads_30 ?_
        refine r_topi (w 5) hpd ?_
        refine r_iand C (_) dX0_bestPads_33 (jI_and (by omega) (by omega)) ?_
        have hA : 0 ≤ bsA v (w 5) := bsA_0
        have hA2 : bsA v (w 5) < 512 := by
          have := bsA_lt (a := v) (b := w 5) (n := 9) (by have : ((2 ^ 9 : Nat) : Int) = 512 := rfl; omega)
          simpa using this
        refine r_ifeq (tgt := 40) C dX0_bestPads_34 (by decide) (fun c_34 => ?_) (fun c_34 => ?_)
        · skip
          have hPv : bpP w n v = true := by
            unfold bpP
            simp [c_14, c_22, c_34]
          have hdv := bpP_gd hd v hv0 (by omega) hPv
          have hNv := (hW.nb hd).of (u := aset w 5 (bsO (w 5) v)) (lo_aset (by omega))
          have hNq : NSet (w 0) (w 1) v := ⟨hv0, c_14⟩
          refine r_aload_0 C dX0_bestPads_40 ?_
          refine r_iload_3 C dX0_bestPads_41 ?_
          refine r_cV1a C (c_X0_withPads hG hd hW hNq) (q0 := 0) rfl rfl q999 pkX0_withPads dX0_bestPads_42 (fun z w h => ?_)
          obtain ⟨rfl, sw, sl, sp, pl, tb, dr, hT, rfl⟩ := h
          refine r_astore_4 C dX0_bestPads_45 ?_
          refine r_iload_2 C dX0_bestPads_47 ?_
          refine r_iconst C dX0_bestPads_48 ?_
          refine r_if_icmpeq (tgt := 64) C dX0_bestPads_49 (by decide) (fun c_49 => ?_) (fun c_49 => ?_)
          · skip
            refine r_iload_3 C dX0_bestPads_64 ?_
            refine r_istore_2 C dX0_bestPads_65 ?_
            refine r_aload_0 C dX0_bestPads_66 ?_
            refine r_aload_4 C dX0_bestPads_67 ?_
            refine r_cV1v C (c_X0_keepsScore hG hdv hNv hT) (q0 := 0) rfl rfl q1016 pkX0_keepsScore dX0_bestPads_69 (fun w h => ?_)
            subst h
            refine r_iinc_3 C dX0_bestPads_72 ?_
            refine r_goto (tgt := 4) C dX0_bestPads_75 (by decide) ?_
            first
              | (have h : ¬ bitc v = n := c_22
                 refine ih _ (show (512 - (v + 1)).toNat < mm by omega) (v + 1) s _ _ _ _ _ _ _ _ _ _ _ _ _ (by omega) (by omega) hs hs1 ?_ rfl
                 rw [bst_s hv0, ← es, bsf_no1 (bpP_no (Or.inr (Or.inl h)))])
              | (have h : ¬ bsA v (w 5) = 0 := c_34
                 refine ih _ (show (512 - (v + 1)).toNat < mm by omega) (v + 1) s _ _ _ _ _ _ _ _ _ _ _ _ _ (by omega) (by omega) hs hs1 ?_ rfl
                 rw [bst_s hv0, ← es, bsf_no1 (bpP_no (Or.inr (Or.inr h)))])
              | (have h : ¬ sc (aset w 5 (bsO (w 5) v)) s.2.1 s.2.2.1 s.2.2.2 < 0 := c_58
                 refine ih _ (show (512 - (v + 1)).toNat < mm by omega) (v + 1) s _ _ _ _ _ _ _ _ _ _ _ _ _ (by omega) (by omega) hs (Or.inr ⟨h10, rfl, rfl, rfl⟩) ?_ rfl
                 rw [bst_s hv0, ← es, bsf_no2 (G := fun v => aset w 5 (bsO (w 5) v)) (by omega)])
              | (refine ih _ (show (512 - (v + 1)).toNat < mm by omega) (v + 1) (v, wDl (aset w 5 (bsO (w 5) v)), wMx (aset w 5 (bsO (w 5) v)), wWh (aset w 5 (bsO (w 5) v))) _ _ _ _ _ _ _ _ _ _ _ _ _ (by omega) (by omega) (bs_of hdv v) (Or.inr ⟨⟨hv0, by (try simp only); omega⟩, rfl, rfl, rfl⟩) ?_ rfl
                 rw [bst_s hv0, ← es, bsf_yes (P := bpP w n) (G := fun v => aset w 5 (bsO (w 5) v)) hPv]
                 first
                   | exact c_58
                   | (rcases hs1 with h | h
                      · rw [h]; exact sc_10 hdv
                      · exact absurd c_49 (by omega)))
          · skip
            obtain ⟨h10, rfl, rfl, rfl⟩ : (0 ≤ s.1 ∧ s.1 < 512) ∧ bs = s.2.1 ∧ bm = s.2.2.1 ∧ bw = s.2.2.2 := by
              rcases hs1 with h | h
              · rw [h] at c_49; exact absurd rfl c_49
              · exact h
            refine r_aload_0 C dX0_bestPads_52 ?_
            refine r_aload_4 C dX0_bestPads_53 ?_
            refine r_cV1i C (c_X0_isBetter hG hdv hNv hT hs) (q0 := 0) rfl rfl q1003 pkX0_isBetter dX0_bestPads_55 (fun z w h => ?_)
            obtain ⟨rfl, rfl⟩ := h
            refine r_ifneB (tgt := 64) C dX0_bestPads_58 (by decide) (fun c_58 => ?_) (fun c_58 => ?_)
            · skip
              refine r_iload_3 C dX0_bestPads_64 ?_
              refine r_istore_2 C dX0_bestPads_65 ?_
              refine r_aload_0 C dX0_bestPads_66 ?_
              refine r_aload_4 C dX0_bestPads_67 ?_
              refine r_cV1v C (c_X0_keepsScore hG hdv hNv hT) (q0 := 0) rfl rfl q1016 pkX0_keepsScore dX0_bestPads_69 (fun w h => ?_)
              subst h
              refine r_iinc_3 C dX0_bestPads_72 ?_
              refine r_goto (tgt := 4) C dX0_bestPads_75 (by decide) ?_
              first
                | (have h : ¬ bitc v = n := c_22
                   refine ih _ (show (512 - (v + 1)).toNat < mm by omega) (v + 1) s _ _ _ _ _ _ _ _ _ _ _ _ _ (by omega) (by omega) hs hs1 ?_ rfl
                   rw [bst_s hv0, ← es, bsf_no1 (bpP_no (Or.inr (Or.inl h)))])
                | (have h : ¬ bsA v (w 5) = 0 := c_34
                   refine ih _ (show (512 - (v + 1)).toNat < mm by omega) (v + 1) s _ _ _ _ _ _ _ _ _ _ _ _ _ (by omega) (by omega) hs hs1 ?_ rfl
                   rw [bst_s hv0, ← es, bsf_no1 (bpP_no (Or.inr (Or.inr h)))])
                | (have h : ¬ sc (aset w 5 (bsO (w 5) v)) s.2.1 s.2.2.1 s.2.2.2 < 0 := c_58
                   refine ih _ (show (512 - (v + 1)).toNat < mm by omega) (v + 1) s _ _ _ _ _ _ _ _ _ _ _ _ _ (by omega) (by omega) hs (Or.inr ⟨h10, rfl, rfl, rfl⟩) ?_ rfl
                   rw [bst_s hv0, ← es, bsf_no2 (G := fun v => aset w 5 (bsO (w 5) v)) (by omega)])
                | (refine ih _ (show (512 - (v + 1)).toNat < mm by omega) (v + 1) (v, wDl (aset w 5 (bsO (w 5) v)), wMx (aset w 5 (bsO (w 5) v)), wWh (aset w 5 (bsO (w 5) v))) _ _ _ _ _ _ _ _ _ _ _ _ _ (by omega) (by omega) (bs_of hdv v) (Or.inr ⟨⟨hv0, by (try simp only); omega⟩, rfl, rfl, rfl⟩) ?_ rfl
                   rw [bst_s hv0, ← es, bsf_yes (P := bpP w n) (G := fun v => aset w 5 (bsO (w 5) v)) hPv]
                   first
                     | exact c_58
                     | (rcases hs1 with h | h
                        · rw [h]; exact sc_10 hdv
                        · exact absurd c_49 (by omega)))
            · skip
              refine r_goto (tgt := 72) C dX0_bestPads_61 (by decide) ?_
              refine r_iinc_3 C dX0_bestPads_72 ?_
              refine r_goto (tgt := 4) C dX0_bestPads_75 (by decide) ?_
              first
                | (have h : ¬ bitc v = n := c_22
                   refine ih _ (show (512 - (v + 1)).toNat < mm by omega) (v + 1) s _ _ _ _ _ _ _ _ _ _ _ _ _ (by omega) (by omega) hs hs1 ?_ rfl
                   rw [bst_s hv0, ← es, bsf_no1 (bpP_no (Or.inr (Or.inl h)))])
                | (have h : ¬ bsA v (w 5) = 0 := c_34
                   refine ih _ (show (512 - (v + 1)).toNat < mm by omega) (v + 1) s _ _ _ _ _ _ _ _ _ _ _ _ _ (by omega) (by omega) hs hs1 ?_ rfl
                   rw [bst_s hv0, ← es, bsf_no1 (bpP_no (Or.inr (Or.inr h)))])
                | (have h : ¬ sc (aset w 5 (bsO (w 5) v)) s.2.1 s.2.2.1 s.2.2.2 < 0 := c_58
                   refine ih _ (show (512 - (v + 1)).toNat < mm by omega) (v + 1) s _ _ _ _ _ _ _ _ _ _ _ _ _ (by omega) (by omega) hs (Or.inr ⟨h10, rfl, rfl, rfl⟩) ?_ rfl
                   rw [bst_s hv0, ← es, bsf_no2 (G := fun v => aset w 5 (bsO (w 5) v)) (by omega)])
                | (refine ih _ (show (512 - (v + 1)).toNat < mm by omega) (v + 1) (v, wDl (aset w 5 (bsO (w 5) v)), wMx (aset w 5 (bsO (w 5) v)), wWh (aset w 5 (bsO (w 5) v))) _ _ _ _ _ _ _ _ _ _ _ _ _ (by omega) (by omega) (bs_of hdv v) (Or.inr ⟨⟨hv0, by (try simp only); omega⟩, rfl, rfl, rfl⟩) ?_ rfl
                   rw [bst_s hv0, ← es, bsf_yes (P := bpP w n) (G := fun v => aset w 5 (bsO (w 5) v)) hPv]
                   first
                     | exact c_58
                     | (rcases hs1 with h | h
                        · rw [h]; exact sc_10 hdv
                        · exact absurd c_49 (by omega)))
        · skip
          refine r_goto (tgt := 72) C dX0_bestPads_37 (by decide) ?_
          refine r_iinc_3 C dX0_bestPads_72 ?_
          refine r_goto (tgt := 4) C dX0_bestPads_75 (by decide) ?_
          first
            | (have h : ¬ bitc v = n := c_22
               refine ih _ (show (512 - (v + 1)).toNat < mm by omega) (v + 1) s _ _ _ _ _ _ _ _ _ _ _ _ _ (by omega) (by omega) hs hs1 ?_ rfl
               rw [bst_s hv0, ← es, bsf_no1 (bpP_no (Or.inr (Or.inl h)))])
            | (have h : ¬ bsA v (w 5) = 0 := c_34
               refine ih _ (show (512 - (v + 1)).toNat < mm by omega) (v + 1) s _ _ _ _ _ _ _ _ _ _ _ _ _ (by omega) (by omega) hs hs1 ?_ rfl
               rw [bst_s hv0, ← es, bsf_no1 (bpP_no (Or.inr (Or.inr h)))])
            | (have h : ¬ sc (aset w 5 (bsO (w 5) v)) s.2.1 s.2.2.1 s.2.2.2 < 0 := c_58
               refine ih _ (show (512 - (v + 1)).toNat < mm by omega) (v + 1) s _ _ _ _ _ _ _ _ _ _ _ _ _ (by omega) (by omega) hs (Or.inr ⟨h10, rfl, rfl, rfl⟩) ?_ rfl
               rw [bst_s hv0, ← es, bsf_no2 (G := fun v => aset w 5 (bsO (w 5) v)) (by omega)])
            | (refine ih _ (show (512 - (v + 1)).toNat < mm by omega) (v + 1) (v, wDl (aset w 5 (bsO (w 5) v)), wMx (aset w 5 (bsO (w 5) v)), wWh (aset w 5 (bsO (w 5) v))) _ _ _ _ _ _ _ _ _ _ _ _ _ (by omega) (by omega) (bs_of hdv v) (Or.inr ⟨⟨hv0, by (try simp only); omega⟩, rfl, rfl, rfl⟩) ?_ rfl
               rw [bst_s hv0, ← es, bsf_yes (P := bpP w n) (G := fun v => aset w 5 (bsO (w 5) v)) hPv]
               first
                 | exact c_58
                 | (rcases hs1 with h | h
                    · rw [h]; exact sc_10 hdv
                    · exact absurd c_49 (by omega)))
  refine r_iconst C dX0_bestPads_0 ?_
  refine r_istore_2 C dX0_bestPads_1 ?_
  refine r_iconst C dX0_bestPads_2 ?_
  refine r_istore_3 C dX0_bestPads_3 ?_
  exact key _ 0 bs0 _ _ _ _ _ _ _ _ _ _ _ _ _ (by omega) (by omega) bs0_ok (Or.inl rfl) rfl rfl
theorem c_X0_pads (hG : Gok g) {n : Int} {w : Int → Int} (hn : inR n) (hW : NW w n_width n_from n_to n_load n_group n_budget n_columns n_rows n_limit n_wear n_straps n_pads n_lines) : XMet g yX0_pads cX0_pads 2 (some .int) (73) 0 0 [.ref (σ 0), .int (jI n)] (wX g σ x_tape x_taped x_faultKind x_faultPlace x_bestStarved x_bestMost x_bestWhole x_draws x_left x_mosts x_widened x_drawn x_img n_width n_from n_to n_load n_group n_budget n_columns n_rows n_limit n_wear n_straps n_pads n_lines n_mod n_asz n_el i_width i_load i_pads i_reached i_place i_table i_drop i_size i_whole t_width t_load t_pads t_reached t_place t_table t_drop t_size t_whole ++ ex) (pI (fun z ww => z = spPads w n ∧ PubX g σ ex x_tape x_taped x_faultKind x_faultPlace x_img n_width n_from n_to n_load n_group n_budget n_columns n_rows n_limit n_wear n_straps n_pads n_lines n_mod n_asz n_el ww)) := by
  refine XMet.of (L := [some (.ref (σ 0)), some (.int (jI n))]) hG (by decide +kernel) (Nat.le_of_ble_eq_true rfl) rfl (fun K C E => ?_)
  refine r_aload_0 C dX0_pads_0 ?_
  refine gG_now C q346 dX0_pads_1 ?_
  refine r_cV0i C (c_X1_is hG hW.inR4) (q0 := 7) rfl rfl q696 pkX1_is dX0_pads_4 (fun z w h => ?_)
  obtain ⟨rfl, rfl⟩ := h
  refine r_ifeqB (tgt := 30) C dX0_pads_7 (by decide) (fun c_7 => ?_) (fun c_7 => ?_)
  · skip
    refine r_bipush C dX0_pads_30 ?_
    refine r_ireturn C E dX0_pads_32 ?_
    refine ⟨_, rfl, ?_, PubX.mk⟩
    unfold spPads
    first
      | rw [if_pos (And.intro c_7 c_19)]
      | (rw [hW.ln] at c_7; rw [if_neg (by intro q; exact c_7 q.1)])
      | (rw [hW.ln] at c_7; rw [if_neg (by intro q; exact c_19 q.2)])
  · skip
    refine r_iload_1 C dX0_pads_10 ?_
    refine r_i2l C dX0_pads_11 ?_
    refine r_lconst0 C dX0_pads_12 ?_
    refine r_ldc2 C 9 q1024 dX0_pads_13 ?_
    refine r_cS3i C (c_X0_in hG (inR_L hn) (by unfold inL; omega) (by unfold inL; omega)) q403 pkX0_in dX0_pads_16 (fun z w h => ?_)
    obtain ⟨rfl, rfl⟩ := h
    refine r_ifeqB (tgt := 30) C dX0_pads_19 (by decide) (fun c_19 => ?_) (fun c_19 => ?_)
    · skip
      refine r_bipush C dX0_pads_30 ?_
      refine r_ireturn C E dX0_pads_32 ?_
      refine ⟨_, rfl, ?_, PubX.mk⟩
      unfold spPads
      first
        | rw [if_pos (And.intro c_7 c_19)]
        | (rw [hW.ln] at c_7; rw [if_neg (by intro q; exact c_7 q.1)])
        | (rw [hW.ln] at c_7; rw [if_neg (by intro q; exact c_19 q.2)])
    · skip
      rw [hW.ln] at c_7
      have hd := hW.wf.gd4 c_7
      refine r_aload_0 C dX0_pads_22 ?_
      refine r_iload_1 C dX0_pads_23 ?_
      refine r_cV1i C (c_X0_bestPads hG c_19 hd hW) (q0 := 0) rfl rfl q1025 pkX0_bestPads dX0_pads_24 (fun z w h => ?_)
      obtain ⟨rfl, bs, bm, bw, yw, yl, yp, yr, yc, yt, yd, yz, yo, hb, rfl⟩ := h
      refine r_goto (tgt := 32) C dX0_pads_27 (by decide) ?_
      refine r_ireturn C E dX0_pads_32 ?_
      refine ⟨_, rfl, ?_, PubX.mk⟩
      unfold spPads
      first
        | rw [if_pos (And.intro c_7 c_19)]
        | (rw [hW.ln] at c_7; rw [if_neg (by intro q; exact c_7 q.1)])
        | (rw [hW.ln] at c_7; rw [if_neg (by intro q; exact c_19 q.2)])
theorem c_X0_padded (hG : Gok g) {n p : Int} {w : Int → Int} (hn : inR n) (hp : inR p) (hW : NW w n_width n_from n_to n_load n_group n_budget n_columns n_rows n_limit n_wear n_straps n_pads n_lines) : XMet g yX0_padded cX0_padded 3 (some .long) (73) 0 0 [.ref (σ 0), .int (jI n), .int (jI p)] (wX g σ x_tape x_taped x_faultKind x_faultPlace x_bestStarved x_bestMost x_bestWhole x_draws x_left x_mosts x_widened x_drawn x_img n_width n_from n_to n_load n_group n_budget n_columns n_rows n_limit n_wear n_straps n_pads n_lines n_mod n_asz n_el i_width i_load i_pads i_reached i_place i_table i_drop i_size i_whole t_width t_load t_pads t_reached t_place t_table t_drop t_size t_whole ++ ex) (pL (fun z ww => z = spPadded w n p ∧ PubX g σ ex x_tape x_taped x_faultKind x_faultPlace x_img n_width n_from n_to n_load n_group n_budget n_columns n_rows n_limit n_wear n_straps n_pads n_lines n_mod n_asz n_el ww)) := by
  refine XMet.of (L := [some (.ref (σ 0)), some (.int (jI n)), some (.int (jI p))]) hG (by decide +kernel) (Nat.le_of_ble_eq_true rfl) rfl (fun K C E => ?_)
  refine r_aload_0 C dX0_padded_0 ?_
  refine gG_now C q346 dX0_padded_1 ?_
  refine r_cV0i C (c_X1_is hG hW.inR4) (q0 := 7) rfl rfl q696 pkX1_is dX0_padded_4 (fun z w h => ?_)
  obtain ⟨rfl, rfl⟩ := h
  refine r_ifeqB (tgt := 29) C dX0_padded_7 (by decide) (fun c_7 => ?_) (fun c_7 => ?_)
  · skip
    refine r_ldc2 C (-2) q802 dX0_padded_29 ?_
    refine r_lreturn C E dX0_padded_32 ?_
    rw [hW.ln] at c_7
    refine ⟨_, rfl, ?_, PubX.mk⟩
    unfold spPadded
    first
      | rw [if_neg (by intro q; exact c_7 q.1.1)]
      | rw [if_neg (by intro q; exact c_19 q.1.2)]
      | rw [if_neg (by intro q; exact c_26 q.2)]
  · skip
    refine r_iload_1 C dX0_padded_10 ?_
    refine r_i2l C dX0_padded_11 ?_
    refine r_lconst0 C dX0_padded_12 ?_
    refine r_ldc2 C 9 q1024 dX0_padded_13 ?_
    refine r_cS3i C (c_X0_in hG (inR_L hn) (by unfold inL; omega) (by unfold inL; omega)) q403 pkX0_in dX0_padded_16 (fun z w h => ?_)
    obtain ⟨rfl, rfl⟩ := h
    refine r_ifeqB (tgt := 29) C dX0_padded_19 (by decide) (fun c_19 => ?_) (fun c_19 => ?_)
    · skip
      refine r_ldc2 C (-2) q802 dX0_padded_29 ?_
      refine r_lreturn C E dX0_padded_32 ?_
      rw [hW.ln] at c_7
      refine ⟨_, rfl, ?_, PubX.mk⟩
      unfold spPadded
      first
        | rw [if_neg (by intro q; exact c_7 q.1.1)]
        | rw [if_neg (by intro q; exact c_19 q.1.2)]
        | rw [if_neg (by intro q; exact c_26 q.2)]
    · skip
      refine r_iload_2 C dX0_padded_22 ?_
      refine r_cS1i C (c_X0_isPart hG hp) q799 pkX0_isPart dX0_padded_23 (fun z w h => ?_)
      obtain ⟨rfl, rfl⟩ := h
      refine r_ifneB (tgt := 33) C dX0_padded_26 (by decide) (fun c_26 => ?_) (fun c_26 => ?_)
      · skip
        rw [hW.ln] at c_7
        have hd := hW.wf.gd4 c_7
        obtain ⟨⟨b1, b2⟩, ⟨b3, b4⟩, b5, b6⟩ := bst_ok (n := 512) bs0_ok (bpP_gd (n := n) hd) (by omega)
        have b3' : 0 ≤ (wBp w n).2.2.1 := b3
        have b4' : (wBp w n).2.2.1 ≤ 7653631721472 := b4
        have b5' : 0 < (wBp w n).2.2.2 := b5
        have b6' : (wBp w n).2.2.2 ≤ 8589934592 := b6
        have hb2 : -1 ≤ (wBp w n).1 ∧ (wBp w n).1 < 512 := by
          rcases wBp_0 (n := n) hd with h | h
          · rw [h.1]; simp
          · omega
        refine r_aload_0 C dX0_padded_33 ?_
        refine r_iload_1 C dX0_padded_34 ?_
        refine r_cV1i C (c_X0_bestPads hG c_19 hd hW) (q0 := 0) rfl rfl q1025 pkX0_bestPads dX0_padded_35 (fun z w h => ?_)
        obtain ⟨rfl, bs, bm, bw, yw, yl, yp, yr, yc, yt, yd, yz, yo, hb, rfl⟩ := h
        refine r_iconst C dX0_padded_38 ?_
        refine r_if_icmpne (tgt := 48) C dX0_padded_39 (by decide) (fun c_39 => ?_) (fun c_39 => ?_)
        · skip
          obtain ⟨rfl, rfl⟩ := hb c_39
          refine r_aload_0 C dX0_padded_48 ?_
          refine gG_bestMost C q355 dX0_padded_49 ?_
          refine r_aload_0 C dX0_padded_52 ?_
          refine gG_bestWhole C q356 dX0_padded_53 ?_
          refine r_iload_2 C dX0_padded_56 ?_
          refine r_cS3l C (c_X0_part hG (by omega) (by omega) hp (by omega)) q803 pkX0_part dX0_padded_57 (fun z w h => ?_)
          obtain ⟨rfl, rfl⟩ := h
          refine r_lreturn C E dX0_padded_60 ?_
          refine ⟨_, rfl, ?_, PubX.mk⟩
          unfold spPadded
          rw [if_pos (And.intro (And.intro c_7 c_19) c_26)]
          first
            | rw [if_pos c_39]
            | rw [if_neg c_39]
        · skip
          refine r_ldc2 C (-1) q812 dX0_padded_42 ?_
          refine r_goto (tgt := 60) C dX0_padded_45 (by decide) ?_
          refine r_lreturn C E dX0_padded_60 ?_
          refine ⟨_, rfl, ?_, PubX.mk⟩
          unfold spPadded
          rw [if_pos (And.intro (And.intro c_7 c_19) c_26)]
          first
            | rw [if_pos c_39]
            | rw [if_neg c_39]
      · skip
        refine r_ldc2 C (-2) q802 dX0_padded_29 ?_
        refine r_lreturn C E dX0_padded_32 ?_
        rw [hW.ln] at c_7
        refine ⟨_, rfl, ?_, PubX.mk⟩
        unfold spPadded
        first
          | rw [if_neg (by intro q; exact c_7 q.1.1)]
          | rw [if_neg (by intro q; exact c_19 q.1.2)]
          | rw [if_neg (by intro q; exact c_26 q.2)]
theorem c_X0_enough (hG : Gok g) {w : Int → Int} (hW : NW w n_width n_from n_to n_load n_group n_budget n_columns n_rows n_limit n_wear n_straps n_pads n_lines) : XMet g yX0_enough cX0_enough 3 (some .int) (73) 0 0 [.ref (σ 0)] (wX g σ x_tape x_taped x_faultKind x_faultPlace x_bestStarved x_bestMost x_bestWhole x_draws x_left x_mosts x_widened x_drawn x_img n_width n_from n_to n_load n_group n_budget n_columns n_rows n_limit n_wear n_straps n_pads n_lines n_mod n_asz n_el i_width i_load i_pads i_reached i_place i_table i_drop i_size i_whole t_width t_load t_pads t_reached t_place t_table t_drop t_size t_whole ++ ex) (pI (fun z ww => z = spEnough w ∧ PubX g σ ex x_tape x_taped x_faultKind x_faultPlace x_img n_width n_from n_to n_load n_group n_budget n_columns n_rows n_limit n_wear n_straps n_pads n_lines n_mod n_asz n_el ww)) := by
  refine XMet.of (L := [some (.ref (σ 0)), none, none]) hG (by decide +kernel) (Nat.le_of_ble_eq_true rfl) rfl (fun K C E => ?_)
  refine r_aload_0 C dX0_enough_0 ?_
  refine gG_now C q346 dX0_enough_1 ?_
  refine r_cV0i C (c_X1_is hG hW.inR4) (q0 := 7) rfl rfl q696 pkX1_is dX0_enough_4 (fun z w h => ?_)
  obtain ⟨rfl, rfl⟩ := h
  refine r_ifneB (tgt := 13) C dX0_enough_7 (by decide) (fun c_7 => ?_) (fun c_7 => ?_)
  · skip
    rw [hW.ln] at c_7
    have hd := hW.wf.gd4 c_7
    have hn := hd.n
    have hbc := bitc_in (s := w 5)
    have key : ∀ (mm : Nat), ∀ (n t bs bm bw : Int) (yw yl : Int → Int) (yp yr : Int) (yc yt yd : Int → Int) (yz yo : Int), (0 ≤ n) → (n ≤ 10) → (∀ j, 0 ≤ j → j < n → enH w j = false) → (t = (wBp w n).1) → (10 - n).toNat = mm → AW g K (wX g σ x_tape x_taped x_faultKind x_faultPlace (bs) (bm) (bw) x_draws x_left x_mosts x_widened x_drawn x_img n_width n_from n_to n_load n_group n_budget n_columns n_rows n_limit n_wear n_straps n_pads n_lines n_mod n_asz n_el i_width i_load i_pads i_reached i_place i_table i_drop i_size i_whole (yw) (yl) (yp) (yr) (yc) (yt) (yd) (yz) (yo) ++ ex) 0 0 17 [some (.ref (σ 0)), some (.int (jI n)), some (.int (jI t))] [] := by
      intro mm
      induction mm using Nat.strongRecOn with
      | _ mm ih =>
      intro n t bs bm bw yw yl yp yr yc yt yd yz yo hn0 hn9 hj ht hm
      subst ht
      have hin := wBp_in (n := n) hd
      have hb2 : -1 ≤ (wBp w n).1 ∧ (wBp w n).1 < 512 := by
        rcases wBp_0 (n := n) hd with h | h
        · rw [h.1]; simp
        · omega
      refine r_iload_2 C dX0_enough_17 ?_
      refine r_iconst C dX0_enough_18 ?_
      refine r_if_icmpeq (tgt := 55) C dX0_enough_19 (by decide) (fun c_19 => ?_) (fun c_19 => ?_)
      · skip
        refine r_iload_2 C dX0_enough_55 ?_
        refine r_iconst C dX0_enough_56 ?_
        refine r_if_icmpne (tgt := 64) C dX0_enough_57 (by decide) (fun c_57 => ?_) (fun c_57 => ?_)
        · skip
          refine r_iload_1 C dX0_enough_64 ?_
          refine r_ireturn C E dX0_enough_65 ?_
          first
            | exact absurd c_19 c_57
            | exact absurd c_57 c_19
            | (have h : (wBp w n).1 = -1 := c_19
               refine ⟨_, rfl, ?_, PubX.mk⟩
               unfold spEnough
               have hlt : ¬ n ≤ wN w - bitc (w 5) := fun q => by
                 have := wBp_some hd hn0 q
                 omega
               rw [if_pos c_7, ffi_none _ (fun j a b => hj j (by omega) (by omega))])
            | (refine ⟨_, rfl, ?_, PubX.mk⟩
               unfold spEnough
               rw [if_pos c_7, ffi_some _ n hn0 (by omega) c_30 hj])
            | (exfalso; omega)
        · skip
          refine r_iconst C dX0_enough_60 ?_
          refine r_goto (tgt := 65) C dX0_enough_61 (by decide) ?_
          refine r_ireturn C E dX0_enough_65 ?_
          first
            | exact absurd c_19 c_57
            | exact absurd c_57 c_19
            | (have h : (wBp w n).1 = -1 := c_19
               refine ⟨_, rfl, ?_, PubX.mk⟩
               unfold spEnough
               have hlt : ¬ n ≤ wN w - bitc (w 5) := fun q => by
                 have := wBp_some hd hn0 q
                 omega
               rw [if_pos c_7, ffi_none _ (fun j a b => hj j (by omega) (by omega))])
            | (refine ⟨_, rfl, ?_, PubX.mk⟩
               unfold spEnough
               rw [if_pos c_7, ffi_some _ n hn0 (by omega) c_30 hj])
            | (exfalso; omega)
      · skip
        have hin2 := hin.resolve_left c_19
        have hNq : NSet (w 0) (w 1) (wBp w n).1 := ⟨hin2.1, hin2.2.1⟩
        have hdv := hd.pad (hd.pads.O hNq)
        have hNv := (hW.nb hd).of (u := aset w 5 (bsO (w 5) (wBp w n).1)) (lo_aset (by omega))
        refine r_aload_0 C dX0_enough_22 ?_
        refine r_iload_2 C dX0_enough_23 ?_
        refine r_cV1a C (c_X0_withPads hG hd hW hNq) (q0 := 0) rfl rfl q999 pkX0_withPads dX0_enough_24 (fun z w h => ?_)
        obtain ⟨rfl, sw, sl, sp, pl, tb, dr, hT, rfl⟩ := h
        refine r_cV0i C (c_X4_holds_Y hG hdv hNv rfl hT.1.2.1 rfl hT.2.2.2.2.2.1) (q0 := 31) rfl rfl q863 pkX4_holds dX0_enough_27 (fun z w h => ?_)
        obtain ⟨rfl, rfl⟩ := h
        refine r_ifneB (tgt := 55) C dX0_enough_30 (by decide) (fun c_30 => ?_) (fun c_30 => ?_)
        · skip
          refine r_iload_2 C dX0_enough_55 ?_
          refine r_iconst C dX0_enough_56 ?_
          refine r_if_icmpne (tgt := 64) C dX0_enough_57 (by decide) (fun c_57 => ?_) (fun c_57 => ?_)
          · skip
            refine r_iload_1 C dX0_enough_64 ?_
            refine r_ireturn C E dX0_enough_65 ?_
            first
              | exact absurd c_19 c_57
              | exact absurd c_57 c_19
              | (have h : (wBp w n).1 = -1 := c_19
                 refine ⟨_, rfl, ?_, PubX.mk⟩
                 unfold spEnough
                 have hlt : ¬ n ≤ wN w - bitc (w 5) := fun q => by
                   have := wBp_some hd hn0 q
                   omega
                 rw [if_pos c_7, ffi_none _ (fun j a b => hj j (by omega) (by omega))])
              | (refine ⟨_, rfl, ?_, PubX.mk⟩
                 unfold spEnough
                 rw [if_pos c_7, ffi_some _ n hn0 (by omega) c_30 hj])
              | (exfalso; omega)
          · skip
            refine r_iconst C dX0_enough_60 ?_
            refine r_goto (tgt := 65) C dX0_enough_61 (by decide) ?_
            refine r_ireturn C E dX0_enough_65 ?_
            first
              | exact absurd c_19 c_57
              | exact absurd c_57 c_19
              | (have h : (wBp w n).1 = -1 := c_19
                 refine ⟨_, rfl, ?_, PubX.mk⟩
                 unfold spEnough
                 have hlt : ¬ n ≤ wN w - bitc (w 5) := fun q => by
                   have := wBp_some hd hn0 q
                   omega
                 rw [if_pos c_7, ffi_none _ (fun j a b => hj j (by omega) (by omega))])
              | (refine ⟨_, rfl, ?_, PubX.mk⟩
                 unfold spEnough
                 rw [if_pos c_7, ffi_some _ n hn0 (by omega) c_30 hj])
              | (exfalso; omega)
        · skip
          have hj2 : ∀ j, 0 ≤ j → j < n + 1 → enH w j = false := fun j a b => by
            by_cases ej : j = n
            · subst ej
              unfold enH
              simpa using c_30
            · exact hj j a (by omega)
          refine r_iinc_1 C dX0_enough_33 ?_
          refine r_iload_1 C dX0_enough_36 ?_
          refine r_bipush C dX0_enough_37 ?_
          refine r_if_icmple (tgt := 46) C dX0_enough_39 (by decide) (fun c_39 => ?_) (fun c_39 => ?_)
          · skip
            refine r_aload_0 C dX0_enough_46 ?_
            refine r_iload_1 C dX0_enough_47 ?_
            refine r_cV1i C (c_X0_bestPads hG (by omega) hd hW) (q0 := 0) rfl rfl q1025 pkX0_bestPads dX0_enough_48 (fun z w h => ?_)
            obtain ⟨rfl, bs, bm, bw, yw, yl, yp, yr, yc, yt, yd, yz, yo, hb, rfl⟩ := h
            refine r_istore_2 C dX0_enough_51 ?_
            refine r_goto (tgt := 17) C dX0_enough_52 (by decide) ?_
            first
              | exact ih _ (show (10 - (n + 1)).toNat < mm by omega) (n + 1) _ _ _ _ _ _ _ _ _ _ _ _ _ (by omega) (by omega) hj2 rfl rfl
              | exact ih _ (show (10 - (n + 1)).toNat < mm by omega) (n + 1) _ _ _ _ _ _ _ _ _ _ _ _ _ (by omega) (by omega) hj2 ((wBp_in (n := n + 1) hd).resolve_right (by omega)).symm rfl
          · skip
            refine r_iconst C dX0_enough_42 ?_
            refine r_goto (tgt := 51) C dX0_enough_43 (by decide) ?_
            refine r_istore_2 C dX0_enough_51 ?_
            refine r_goto (tgt := 17) C dX0_enough_52 (by decide) ?_
            first
              | exact ih _ (show (10 - (n + 1)).toNat < mm by omega) (n + 1) _ _ _ _ _ _ _ _ _ _ _ _ _ (by omega) (by omega) hj2 rfl rfl
              | exact ih _ (show (10 - (n + 1)).toNat < mm by omega) (n + 1) _ _ _ _ _ _ _ _ _ _ _ _ _ (by omega) (by omega) hj2 ((wBp_in (n := n + 1) hd).resolve_right (by omega)).symm rfl
    refine r_iconst C dX0_enough_13 ?_
    refine r_istore_1 C dX0_enough_14 ?_
    refine r_iconst C dX0_enough_15 ?_
    refine r_istore_2 C dX0_enough_16 ?_
    exact key _ 0 0 _ _ _ _ _ _ _ _ _ _ _ _ (by omega) (by omega) (fun j _ _ => by omega) (wBp_zero hd).symm rfl
  · skip
    refine r_bipush C dX0_enough_10 ?_
    refine r_ireturn C E dX0_enough_12 ?_
    rw [hW.ln] at c_7
    exact ⟨_, rfl, by simp [spEnough, c_7], PubX.mk⟩
theorem c_X0_bestWider (hG : Gok g) {u : Int → Int} (hu : Gd u) (hN : NB u n_columns n_rows n_limit n_wear n_straps n_from n_to) (hT : TS u t_width t_load t_pads t_reached t_place t_table t_drop t_size t_whole) : XMet g yX0_bestWider cX0_bestWider 3 (some .int) (72) 0 0 [.ref (σ 0)] (wX g σ x_tape x_taped x_faultKind x_faultPlace x_bestStarved x_bestMost x_bestWhole x_draws x_left x_mosts x_widened x_drawn x_img n_width n_from n_to n_load n_group n_budget n_columns n_rows n_limit n_wear n_straps n_pads n_lines n_mod n_asz n_el i_width i_load i_pads i_reached i_place i_table i_drop i_size i_whole t_width t_load t_pads t_reached t_place t_table t_drop t_size t_whole ++ ex) (pI (fun z ww => z = (wNw u).1 ∧ ∃ (bs bm bw : Int) (sw sl : Int → Int) (sp : Int) (pl tb dr : Int → Int), TS (if (wNw u).1 = -1 then u else aset u (28 + (wNw u).1) (u (28 + (wNw u).1) + 1)) sw sl sp (wR (if (wNw u).1 = -1 then u else aset u (28 + (wNw u).1) (u (28 + (wNw u).1) + 1))) pl tb dr (wm (if (wNw u).1 = -1 then u else aset u (28 + (wNw u).1) (u (28 + (wNw u).1) + 1))) (wWh (if (wNw u).1 = -1 then u else aset u (28 + (wNw u).1) (u (28 + (wNw u).1) + 1))) ∧ ww = (wX g σ x_tape x_taped x_faultKind x_faultPlace (bs) (bm) (bw) x_draws x_left x_mosts x_widened x_drawn x_img n_width n_from n_to n_load n_group n_budget n_columns n_rows n_limit n_wear n_straps n_pads n_lines n_mod n_asz n_el i_width i_load i_pads i_reached i_place i_table i_drop i_size i_whole (sw) (sl) (sp) (wR (if (wNw u).1 = -1 then u else aset u (28 + (wNw u).1) (u (28 + (wNw u).1) + 1))) (pl) (tb) (dr) (wm (if (wNw u).1 = -1 then u else aset u (28 + (wNw u).1) (u (28 + (wNw u).1) + 1))) (wWh (if (wNw u).1 = -1 then u else aset u (28 + (wNw u).1) (u (28 + (wNw u).1) + 1))) ++ ex))) := by
  refine XMet.of (L := [some (.ref (σ 0)), none, none]) hG (by decide +kernel) (Nat.le_of_ble_eq_true rfl) rfl (fun K C E => ?_)
  have hs := hu.s
  have hstr := hN.2.2.2.2.1
  have hin := wNw_in hu
  have key : ∀ (mm : Nat), ∀ (k : Int) (s : Bst) (sw sl : Int → Int) (sp yr : Int) (yc yt yd : Int → Int) (yz yo : Int), (0 ≤ k) → (k ≤ wS u) → (BsOk s) → (-1 ≤ s.1 ∧ s.1 < 12) → (SX u sw sl sp) → (s = bst (fun k => !decide (u (28 + k) = 4)) (fun k => aset u (28 + k) (u (28 + k) + 1)) (-1, wDl u, wMx u, wWh u) k) → (wS u - k).toNat = mm → AW g K (wX g σ x_tape x_taped x_faultKind x_faultPlace (s.2.1) (s.2.2.1) (s.2.2.2) x_draws x_left x_mosts x_widened x_drawn x_img n_width n_from n_to n_load n_group n_budget n_columns n_rows n_limit n_wear n_straps n_pads n_lines n_mod n_asz n_el i_width i_load i_pads i_reached i_place i_table i_drop i_size i_whole (sw) (sl) (sp) (yr) (yc) (yt) (yd) (yz) (yo) ++ ex) 0 0 12 [some (.ref (σ 0)), some (.int (jI s.1)), some (.int (jI k))] [] := by
    intro mm
    induction mm using Nat.strongRecOn with
    | _ mm ih =>
    intro k s sw sl sp yr yc yt yd yz yo hk0 hk hs0 hs1 hX es hm
    refine r_iload_2 C dX0_bestWider_12 ?_
    refine r_aload_0 C dX0_bestWider_13 ?_
    refine gG_now C q346 dX0_bestWider_14 ?_
    refine gTN_straps C q239 dX0_bestWider_17 ?_
    refine r_topi (wS u) hstr ?_
    refine r_if_icmpge (tgt := 100) C dX0_bestWider_20 (by decide) (fun c_20 => ?_) (fun c_20 => ?_)
    · skip
      have ek : k = wS u := by omega
      subst ek
      obtain rfl : s = wNw u := es
      refine r_iload_1 C dX0_bestWider_100 ?_
      refine r_iconst C dX0_bestWider_101 ?_
      refine r_if_icmpeq (tgt := 118) C dX0_bestWider_102 (by decide) (fun c_102 => ?_) (fun c_102 => ?_)
      · skip
        refine r_aload_0 C dX0_bestWider_118 ?_
        refine gG_tried C q353 dX0_bestWider_119 ?_
        refine r_cV0a C (by first | exact c_X4_solves_Y hG hdb hNb hXb | exact c_X4_solves_Y hG hu hN hX) (q0 := 31) rfl rfl q713 pkX4_solves dX0_bestWider_122 (fun z w h => ?_)
        obtain ⟨rfl, pl, tb, dr, hSv, rfl⟩ := h
        refine r_pop C dX0_bestWider_125 ?_
        refine r_iload_1 C dX0_bestWider_126 ?_
        refine r_ireturn C E dX0_bestWider_127 ?_
        first
          | (have h : (wNw u).1 = -1 := c_102
             rw [if_pos h]
             exact ⟨_, rfl, rfl, _, _, _, _, _, _, _, _, _, ⟨hX, hSv⟩, rfl⟩)
          | (rw [if_neg c_102]
             exact ⟨_, rfl, rfl, _, _, _, _, _, _, _, _, _, ⟨hXb, hSv⟩, rfl⟩)
      · skip
        have hin2 := hin.resolve_left c_102
        have hwb := hu.wd (wNw u).1 hin2.1 (by omega)
        unfold wWd at hwb
        have hxb := hX.1 (wNw u).1 hin2.1 (by omega)
        have hdb := hu.wide hin2.1 hin2.2.1 hin2.2.2
        have hXb := hX.up hin2.1 (show (wNw u).1 < 12 by omega)
        have hNb := hN.of (u := aset u (28 + (wNw u).1) (u (28 + (wNw u).1) + 1)) (lo_aset (by omega))
        refine r_aload_0 C dX0_bestWider_105 ?_
        refine gG_tried C q353 dX0_bestWider_106 ?_
        refine gYI_width C q303 dX0_bestWider_109 ?_
        refine r_iload_1 C dX0_bestWider_112 ?_
        refine r_dup2 C dX0_bestWider_113 ?_
        refine ld_t_width C dX0_bestWider_114 ?_
        refine r_iconst C dX0_bestWider_115 ?_
        refine r_iadd C dX0_bestWider_116 ?_
        refine st_t_width C dX0_bestWider_117 ?_
        refine r_aload_0 C dX0_bestWider_118 ?_
        refine gG_tried C q353 dX0_bestWider_119 ?_
        refine r_cV0a C (by first | exact c_X4_solves_Y hG hdb hNb hXb | exact c_X4_solves_Y hG hu hN hX) (q0 := 31) rfl rfl q713 pkX4_solves dX0_bestWider_122 (fun z w h => ?_)
        obtain ⟨rfl, pl, tb, dr, hSv, rfl⟩ := h
        refine r_pop C dX0_bestWider_125 ?_
        refine r_iload_1 C dX0_bestWider_126 ?_
        refine r_ireturn C E dX0_bestWider_127 ?_
        first
          | (have h : (wNw u).1 = -1 := c_102
             rw [if_pos h]
             exact ⟨_, rfl, rfl, _, _, _, _, _, _, _, _, _, ⟨hX, hSv⟩, rfl⟩)
          | (rw [if_neg c_102]
             exact ⟨_, rfl, rfl, _, _, _, _, _, _, _, _, _, ⟨hXb, hSv⟩, rfl⟩)
    · skip
      have hwk := hu.wd k hk0 (by omega)
      unfold wWd at hwk
      have hxk := hX.1 k hk0 (by omega)
      refine r_aload_0 C dX0_bestWider_23 ?_
      refine gG_tried C q353 dX0_bestWider_24 ?_
      refine gYI_width C q303 dX0_bestWider_27 ?_
      refine r_iload_2 C dX0_bestWider_30 ?_
      refine ld_t_width C dX0_bestWider_31 ?_
      refine r_topi (u (28 + k)) hxk ?_
      refine r_iconst C dX0_bestWider_32 ?_
      refine r_if_icmpne (tgt := 39) C dX0_bestWider_33 (by decide) (fun c_33 => ?_) (fun c_33 => ?_)
      · skip
        have hdv := hu.wide hk0 c_20 c_33
        have hXv := hX.up hk0 (by omega)
        have hNv := hN.of (u := aset u (28 + k) (u (28 + k) + 1)) (lo_aset (by omega))
        refine r_aload_0 C dX0_bestWider_39 ?_
        refine gG_tried C q353 dX0_bestWider_40 ?_
        refine gYI_width C q303 dX0_bestWider_43 ?_
        refine r_iload_2 C dX0_bestWider_46 ?_
        refine r_dup2 C dX0_bestWider_47 ?_
        refine ld_t_width C dX0_bestWider_48 ?_
        refine r_iconst C dX0_bestWider_49 ?_
        refine r_iadd C dX0_bestWider_50 ?_
        refine st_t_width C dX0_bestWider_51 ?_
        refine r_aload_0 C dX0_bestWider_52 ?_
        refine gG_tried C q353 dX0_bestWider_53 ?_
        refine r_cV0a C (c_X4_solves_Y hG hdv hNv hXv) (q0 := 31) rfl rfl q713 pkX4_solves dX0_bestWider_56 (fun z w h => ?_)
        obtain ⟨rfl, pl, tb, dr, hSv, rfl⟩ := h
        refine r_pop C dX0_bestWider_59 ?_
        refine r_aload_0 C dX0_bestWider_60 ?_
        refine r_aload_0 C dX0_bestWider_61 ?_
        refine gG_tried C q353 dX0_bestWider_62 ?_
        refine r_cV1i C (c_X0_isBetter hG hdv hNv ⟨hXv, hSv⟩ hs0) (q0 := 0) rfl rfl q1003 pkX0_isBetter dX0_bestWider_65 (fun z w h => ?_)
        obtain ⟨rfl, rfl⟩ := h
        refine r_ifeqB (tgt := 81) C dX0_bestWider_68 (by decide) (fun c_68 => ?_) (fun c_68 => ?_)
        · skip
          refine r_aload_0 C dX0_bestWider_81 ?_
          refine gG_tried C q353 dX0_bestWider_82 ?_
          refine gYI_width C q303 dX0_bestWider_85 ?_
          refine r_iload_2 C dX0_bestWider_88 ?_
          refine r_dup2 C dX0_bestWider_89 ?_
          refine ld_t_width C dX0_bestWider_90 ?_
          refine r_iconst C dX0_bestWider_91 ?_
          refine r_isub C dX0_bestWider_92 ?_
          refine st_t_width C dX0_bestWider_93 ?_
          first
            | rw [aset_ud]
            | skip
          refine r_iinc_2 C dX0_bestWider_94 ?_
          refine r_goto (tgt := 12) C dX0_bestWider_97 (by decide) ?_
          first
            | (have h : u (28 + k) = 4 := c_33
               refine ih _ (show (wS u - (k + 1)).toNat < mm by omega) (k + 1) s _ _ _ _ _ _ _ _ _ (by omega) (by omega) hs0 hs1 hX ?_ rfl
               rw [bst_s hk0, ← es, bsf_no1 (by simp [h])])
            | (have h : ¬ sc (aset u (28 + k) (u (28 + k) + 1)) s.2.1 s.2.2.1 s.2.2.2 < 0 := c_68
               refine ih _ (show (wS u - (k + 1)).toNat < mm by omega) (k + 1) s _ _ _ _ _ _ _ _ _ (by omega) (by omega) hs0 hs1 hX ?_ rfl
               rw [bst_s hk0, ← es, bsf_no2 (G := fun k => aset u (28 + k) (u (28 + k) + 1)) (by omega)])
            | (refine ih _ (show (wS u - (k + 1)).toNat < mm by omega) (k + 1) (k, wDl (aset u (28 + k) (u (28 + k) + 1)), wMx (aset u (28 + k) (u (28 + k) + 1)), wWh (aset u (28 + k) (u (28 + k) + 1))) _ _ _ _ _ _ _ _ _ (by omega) (by omega) (bs_of hdv k) (by (try simp only); omega) hX ?_ rfl
               rw [bst_s hk0, ← es, bsf_yes (P := fun k => !decide (u (28 + k) = 4)) (G := fun k => aset u (28 + k) (u (28 + k) + 1)) (by simp [c_33]) c_68])
        · skip
          refine r_iload_2 C dX0_bestWider_71 ?_
          refine r_istore_1 C dX0_bestWider_72 ?_
          refine r_aload_0 C dX0_bestWider_73 ?_
          refine r_aload_0 C dX0_bestWider_74 ?_
          refine gG_tried C q353 dX0_bestWider_75 ?_
          refine r_cV1v C (c_X0_keepsScore hG hdv hNv ⟨hXv, hSv⟩) (q0 := 0) rfl rfl q1016 pkX0_keepsScore dX0_bestWider_78 (fun w h => ?_)
          subst h
          refine r_aload_0 C dX0_bestWider_81 ?_
          refine gG_tried C q353 dX0_bestWider_82 ?_
          refine gYI_width C q303 dX0_bestWider_85 ?_
          refine r_iload_2 C dX0_bestWider_88 ?_
          refine r_dup2 C dX0_bestWider_89 ?_
          refine ld_t_width C dX0_bestWider_90 ?_
          refine r_iconst C dX0_bestWider_91 ?_
          refine r_isub C dX0_bestWider_92 ?_
          refine st_t_width C dX0_bestWider_93 ?_
          first
            | rw [aset_ud]
            | skip
          refine r_iinc_2 C dX0_bestWider_94 ?_
          refine r_goto (tgt := 12) C dX0_bestWider_97 (by decide) ?_
          first
            | (have h : u (28 + k) = 4 := c_33
               refine ih _ (show (wS u - (k + 1)).toNat < mm by omega) (k + 1) s _ _ _ _ _ _ _ _ _ (by omega) (by omega) hs0 hs1 hX ?_ rfl
               rw [bst_s hk0, ← es, bsf_no1 (by simp [h])])
            | (have h : ¬ sc (aset u (28 + k) (u (28 + k) + 1)) s.2.1 s.2.2.1 s.2.2.2 < 0 := c_68
               refine ih _ (show (wS u - (k + 1)).toNat < mm by omega) (k + 1) s _ _ _ _ _ _ _ _ _ (by omega) (by omega) hs0 hs1 hX ?_ rfl
               rw [bst_s hk0, ← es, bsf_no2 (G := fun k => aset u (28 + k) (u (28 + k) + 1)) (by omega)])
            | (refine ih _ (show (wS u - (k + 1)).toNat < mm by omega) (k + 1) (k, wDl (aset u (28 + k) (u (28 + k) + 1)), wMx (aset u (28 + k) (u (28 + k) + 1)), wWh (aset u (28 + k) (u (28 + k) + 1))) _ _ _ _ _ _ _ _ _ (by omega) (by omega) (bs_of hdv k) (by (try simp only); omega) hX ?_ rfl
               rw [bst_s hk0, ← es, bsf_yes (P := fun k => !decide (u (28 + k) = 4)) (G := fun k => aset u (28 + k) (u (28 + k) + 1)) (by simp [c_33]) c_68])
      · skip
        refine r_goto (tgt := 94) C dX0_bestWider_36 (by decide) ?_
        first
          | rw [aset_ud]
          | skip
        refine r_iinc_2 C dX0_bestWider_94 ?_
        refine r_goto (tgt := 12) C dX0_bestWider_97 (by decide) ?_
        first
          | (have h : u (28 + k) = 4 := c_33
             refine ih _ (show (wS u - (k + 1)).toNat < mm by omega) (k + 1) s _ _ _ _ _ _ _ _ _ (by omega) (by omega) hs0 hs1 hX ?_ rfl
             rw [bst_s hk0, ← es, bsf_no1 (by simp [h])])
          | (have h : ¬ sc (aset u (28 + k) (u (28 + k) + 1)) s.2.1 s.2.2.1 s.2.2.2 < 0 := c_68
             refine ih _ (show (wS u - (k + 1)).toNat < mm by omega) (k + 1) s _ _ _ _ _ _ _ _ _ (by omega) (by omega) hs0 hs1 hX ?_ rfl
             rw [bst_s hk0, ← es, bsf_no2 (G := fun k => aset u (28 + k) (u (28 + k) + 1)) (by omega)])
          | (refine ih _ (show (wS u - (k + 1)).toNat < mm by omega) (k + 1) (k, wDl (aset u (28 + k) (u (28 + k) + 1)), wMx (aset u (28 + k) (u (28 + k) + 1)), wWh (aset u (28 + k) (u (28 + k) + 1))) _ _ _ _ _ _ _ _ _ (by omega) (by omega) (bs_of hdv k) (by (try simp only); omega) hX ?_ rfl
             rw [bst_s hk0, ← es, bsf_yes (P := fun k => !decide (u (28 + k) = 4)) (G := fun k => aset u (28 + k) (u (28 + k) + 1)) (by simp [c_33]) c_68])
  refine r_iconst C dX0_bestWider_0 ?_
  refine r_istore_1 C dX0_bestWider_1 ?_
  refine r_aload_0 C dX0_bestWider_2 ?_
  refine r_aload_0 C dX0_bestWider_3 ?_
  refine gG_tried C q353 dX0_bestWider_4 ?_
  refine r_cV1v C (c_X0_keepsScore hG hu hN hT) (q0 := 0) rfl rfl q1016 pkX0_keepsScore dX0_bestWider_7 (fun w h => ?_)
  subst h
  refine r_iconst C dX0_bestWider_10 ?_
  refine r_istore_2 C dX0_bestWider_11 ?_
  exact key _ 0 (-1, wDl u, wMx u, wWh u) _ _ _ _ _ _ _ _ _ (by omega) (by omega) (bs_of hu _) (by simp) hT.1 rfl rfl
end X8

