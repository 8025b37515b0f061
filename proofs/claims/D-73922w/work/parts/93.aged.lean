section X15
variable {g : GX} {σ : Nat → Nat} {ex : va_W}
variable {x_tape : Int → Int} {x_taped : Int} {x_faultKind : Int} {x_faultPlace : Int} {x_bestStarved : Int} {x_bestMost : Int} {x_bestWhole : Int} {x_draws : Int → Int} {x_left : Int → Int} {x_mosts : Int → Int} {x_widened : Int → Int} {x_drawn : Int} {x_img : Nat → Option Nat} {n_width : Int → Int} {n_from : Int → Int} {n_to : Int → Int} {n_load : Int → Int} {n_group : Int → Int} {n_budget : Int → Int} {n_columns : Int} {n_rows : Int} {n_limit : Int} {n_wear : Int} {n_straps : Int} {n_pads : Int} {n_lines : Int} {n_mod : Int} {n_asz : Int} {n_el : Nat → Option Nat} {i_width : Int → Int} {i_load : Int → Int} {i_pads : Int} {i_reached : Int} {i_place : Int → Int} {i_table : Int → Int} {i_drop : Int → Int} {i_size : Int} {i_whole : Int} {t_width : Int → Int} {t_load : Int → Int} {t_pads : Int} {t_reached : Int} {t_place : Int → Int} {t_table : Int → Int} {t_drop : Int → Int} {t_size : Int} {t_whole : Int}
theorem c_X11_back (hG : Gok g) {c qk : Nat} {s : Int} (hv : ex[qk]? = some (c, .inr (9, [.int (jI s)]))) (hs : 0 ≤ s ∧ s < 4096) (hS : 0 ≤ n_straps ∧ n_straps ≤ 12) : XMet g yX11_back cX11_back 3 none 1 0 0 [.ref c, .ref (σ 7)] (wX g σ x_tape x_taped x_faultKind x_faultPlace x_bestStarved x_bestMost x_bestWhole x_draws x_left x_mosts x_widened x_drawn x_img n_width n_from n_to n_load n_group n_budget n_columns n_rows n_limit n_wear n_straps n_pads n_lines n_mod n_asz n_el i_width i_load i_pads i_reached i_place i_table i_drop i_size i_whole t_width t_load t_pads t_reached t_place t_table t_drop t_size t_whole ++ ex) (pV (fun w => ∃ nw : Int → Int, (∀ k, 0 ≤ k → k < n_straps → nw k = n_width k + (if bsB s k = true then 1 else 0)) ∧ (∀ k, n_straps ≤ k → k < 12 → nw k = n_width k) ∧ w = (wX g σ x_tape x_taped x_faultKind x_faultPlace x_bestStarved x_bestMost x_bestWhole x_draws x_left x_mosts x_widened x_drawn x_img (nw) n_from n_to n_load n_group n_budget n_columns n_rows n_limit n_wear n_straps n_pads n_lines n_mod n_asz n_el i_width i_load i_pads i_reached i_place i_table i_drop i_size i_whole t_width t_load t_pads t_reached t_place t_table t_drop t_size t_whole ++ ex))) := by
  refine XMet.of (L := [some (.ref c), some (.ref (σ 7)), none]) hG (by decide +kernel) (Nat.le_of_ble_eq_true rfl) rfl (fun K C E => ?_)
  have key : ∀ (mm : Nat), ∀ (k : Int) (nw : Int → Int), (0 ≤ k) → (k ≤ n_straps) → (∀ j, 0 ≤ j → j < k → nw j = n_width j + (if bsB s j = true then 1 else 0)) → (∀ j, k ≤ j → j < 12 → nw j = n_width j) → (n_straps - k).toNat = mm → AW g K (wX g σ x_tape x_taped x_faultKind x_faultPlace x_bestStarved x_bestMost x_bestWhole x_draws x_left x_mosts x_widened x_drawn x_img (nw) n_from n_to n_load n_group n_budget n_columns n_rows n_limit n_wear n_straps n_pads n_lines n_mod n_asz n_el i_width i_load i_pads i_reached i_place i_table i_drop i_size i_whole t_width t_load t_pads t_reached t_place t_table t_drop t_size t_whole ++ ex) 0 0 2 [some (.ref c), some (.ref (σ 7)), some (.int (jI k))] [] := by
    intro mm
    induction mm using Nat.strongRecOn with
    | _ mm ih =>
    intro k nw hk0 hk h1 h2 hm
    refine r_iload_2 C dX11_back_2 ?_
    refine r_aload_1 C dX11_back_3 ?_
    refine gTN_straps C q235 dX11_back_4 ?_
    refine r_if_icmpge (tgt := 41) C dX11_back_7 (by decide) (fun c_7 => ?_) (fun c_7 => ?_)
    · have e : k = n_straps := by omega
      subst e
      exact r_return C E dX11_back_41 ⟨rfl, nw, h1, h2, rfl⟩
    · refine r_aload_1 C dX11_back_10 ?_
      refine gTN_width C q194 dX11_back_11 ?_
      refine r_iload_2 C dX11_back_14 ?_
      refine r_dup2 C dX11_back_15 ?_
      refine ld_n_width C dX11_back_16 ?_
      refine r_aload_0 C dX11_back_17 ?_
      refine r_get C (qk + 46) (wx_at hv) rfl in_X11 0 (by decide) q1271 rfl rfl dX11_back_18 ?_
      refine r_iload_2 C dX11_back_21 ?_
      refine r_cSN2i C (c_X0_isOn hG (by omega) (by omega)) q1357 pkX0_isOn dX11_back_22 (fun z w h => ?_)
      obtain ⟨rfl, rfl⟩ := h
      have hst : ∀ (y : Int), y = (if bsB s k = true then 1 else 0) → AW g K (wX g σ x_tape x_taped x_faultKind x_faultPlace x_bestStarved x_bestMost x_bestWhole x_draws x_left x_mosts x_widened x_drawn x_img (aset nw k (nw k + y)) n_from n_to n_load n_group n_budget n_columns n_rows n_limit n_wear n_straps n_pads n_lines n_mod n_asz n_el i_width i_load i_pads i_reached i_place i_table i_drop i_size i_whole t_width t_load t_pads t_reached t_place t_table t_drop t_size t_whole ++ ex) 0 0 35 [some (.ref c), some (.ref (σ 7)), some (.int (jI k))] [] := by
        intro y hy
        refine r_iinc_2 C dX11_back_35 ?_
        refine r_goto (tgt := 2) C dX11_back_38 (by decide) ?_
        refine ih _ (show (n_straps - (k + 1)).toNat < mm by omega) (k + 1) _ (by omega) (by omega) (fun j a b => ?_) (fun j a b => ?_) rfl
        · by_cases ej : j = k
          · rw [ej, aset_at, hy, h2 k (Int.le_refl _) (by omega)]
          · rw [aset_ne ej]; exact h1 j a (by omega)
        · rw [aset_ne (by omega)]; exact h2 j (by omega) b
      refine r_ifeqB (tgt := 32) C dX11_back_25 (by decide) (fun c_25 => ?_) (fun c_25 => ?_)
      · refine r_iconst C dX11_back_32 ?_
        refine r_iadd C dX11_back_33 ?_
        refine st_n_width C dX11_back_34 ?_
        exact hst 0 (by rw [if_neg c_25])
      · refine r_iconst C dX11_back_28 ?_
        refine r_goto (tgt := 33) C dX11_back_29 (by decide) ?_
        refine r_iadd C dX11_back_33 ?_
        refine st_n_width C dX11_back_34 ?_
        exact hst 1 (by rw [if_pos c_25])
  refine r_iconst C dX11_back_0 ?_
  refine r_istore_2 C dX11_back_1 ?_
  exact key _ 0 _ (by omega) (by omega) (fun j _ _ => by omega) (fun j _ _ => rfl) rfl
end X15

