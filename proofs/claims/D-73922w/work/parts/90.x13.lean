section X13
variable {g : GX} {σ : Nat → Nat} {ex : va_W}
variable {x_tape : Int → Int} {x_taped : Int} {x_faultKind : Int} {x_faultPlace : Int} {x_bestStarved : Int} {x_bestMost : Int} {x_bestWhole : Int} {x_draws : Int → Int} {x_left : Int → Int} {x_mosts : Int → Int} {x_widened : Int → Int} {x_drawn : Int} {x_img : Nat → Option Nat} {n_width : Int → Int} {n_from : Int → Int} {n_to : Int → Int} {n_load : Int → Int} {n_group : Int → Int} {n_budget : Int → Int} {n_columns : Int} {n_rows : Int} {n_limit : Int} {n_wear : Int} {n_straps : Int} {n_pads : Int} {n_lines : Int} {n_mod : Int} {n_asz : Int} {n_el : Nat → Option Nat} {i_width : Int → Int} {i_load : Int → Int} {i_pads : Int} {i_reached : Int} {i_place : Int → Int} {i_table : Int → Int} {i_drop : Int → Int} {i_size : Int} {i_whole : Int} {t_width : Int → Int} {t_load : Int → Int} {t_pads : Int} {t_reached : Int} {t_place : Int → Int} {t_table : Int → Int} {t_drop : Int → Int} {t_size : Int} {t_whole : Int}
theorem c_X0_feed (hG : Gok g) {a b c d e : Int} (ht : 0 ≤ x_taped ∧ x_taped ≤ 700) : XMet g yX0_feed cX0_feed 8 (some .int) (0) 1 5 [.ref (σ 0), .int (jI a), .int (jI b), .int (jI c), .int (jI d), .int (jI e)] (wX g σ x_tape x_taped x_faultKind x_faultPlace x_bestStarved x_bestMost x_bestWhole x_draws x_left x_mosts x_widened x_drawn x_img n_width n_from n_to n_load n_group n_budget n_columns n_rows n_limit n_wear n_straps n_pads n_lines n_mod n_asz n_el i_width i_load i_pads i_reached i_place i_table i_drop i_size i_whole t_width t_load t_pads t_reached t_place t_table t_drop t_size t_whole ++ ex) (pI (fun z w => if x_taped + 20 ≤ 700 then z = x_taped + 20 ∧ PubX g σ ex (fdT x_tape x_taped a b c d e) (x_taped + 20) x_faultKind x_faultPlace x_img n_width n_from n_to n_load n_group n_budget n_columns n_rows n_limit n_wear n_straps n_pads n_lines n_mod n_asz n_el w else z = -1 ∧ PubX g σ ex x_tape x_taped x_faultKind x_faultPlace x_img n_width n_from n_to n_load n_group n_budget n_columns n_rows n_limit n_wear n_straps n_pads n_lines n_mod n_asz n_el w)) := by
  refine XMet.of (L := [some (.ref (σ 0)), some (.int (jI a)), some (.int (jI b)), some (.int (jI c)), some (.int (jI d)), some (.int (jI e)), none, none]) hG (by decide +kernel) (Nat.le_of_ble_eq_true rfl) rfl (fun K C E => ?_)
  refine r_aload_0 C dX0_feed_0 ?_
  refine gG_taped C q349 dX0_feed_1 ?_
  refine r_bipush C dX0_feed_4 ?_
  refine r_iadd C dX0_feed_6 ?_
  refine r_sipush C dX0_feed_7 ?_
  refine r_if_icmple (tgt := 15) C dX0_feed_10 (by decide) (fun c_10 => ?_) (fun c_10 => ?_)
  · skip
    skip
    have key : ∀ (mm : Nat), ∀ (k : Int) (t f5 : Int → Int) (a5 : Nat), (0 ≤ k) → (k ≤ 20) → (∀ i, 0 ≤ i → i < 5 → f5 i = fdA a b c d e i) → (∀ j, 0 ≤ j → j < k → t (x_taped + j) = fdB a b c d e j) → (∀ j, ¬ (x_taped ≤ j ∧ j < x_taped + k) → t j = x_tape j) → (20 - k).toNat = mm → AW g K (wX g σ (t) x_taped x_faultKind x_faultPlace x_bestStarved x_bestMost x_bestWhole x_draws x_left x_mosts x_widened x_drawn x_img n_width n_from n_to n_load n_group n_budget n_columns n_rows n_limit n_wear n_straps n_pads n_lines n_mod n_asz n_el i_width i_load i_pads i_reached i_place i_table i_drop i_size i_whole t_width t_load t_pads t_reached t_place t_table t_drop t_size t_whole ++ (a5, .inl (g.2.2.1 0, 5, .inl (arI f5))) :: ex) 0 0 45 [some (.ref (σ 0)), some (.int (jI a)), some (.int (jI b)), some (.int (jI c)), some (.int (jI d)), some (.int (jI e)), some (.ref a5), some (.int (jI k))] [] := by
      intro mm
      induction mm using Nat.strongRecOn with
      | _ mm ih =>
      intro k t f5 a5 hk0 hk h5 h1 h2 hm
      refine r_iload_7 C dX0_feed_45 ?_
      refine r_bipush C dX0_feed_47 ?_
      refine r_if_icmpge (tgt := 89) C dX0_feed_49 (by decide) (fun c_49 => ?_) (fun c_49 => ?_)
      · refine AW.drop1 ?_
        refine r_aload_0 C dX0_feed_89 ?_
        refine r_dup C dX0_feed_90 ?_
        refine gG_taped C q349 dX0_feed_91 ?_
        refine r_bipush C dX0_feed_94 ?_
        refine r_iadd C dX0_feed_96 ?_
        refine pG_taped C q349 dX0_feed_97 ?_
        refine r_aload_0 C dX0_feed_100 ?_
        refine gG_taped C q349 dX0_feed_101 ?_
        refine r_ireturn C E dX0_feed_104 ?_
        have e : k = 20 := by omega
        subst e
        have ea : t = fdT x_tape x_taped a b c d e := by
          funext j
          unfold fdT
          split
          · rename_i q
            have := h1 (j - x_taped) (by omega) (by omega)
            rwa [show x_taped + (j - x_taped) = j by omega] at this
          · rename_i q; exact h2 j q
        subst ea
        refine ⟨_, rfl, ?_⟩
        show @ite _ _ _ _ _
        rw [if_pos (by omega)]
        exact ⟨rfl, PubX.mk⟩
      · have hB := fdB_in a b c d e k
        refine r_aload_0 C dX0_feed_52 ?_
        refine gG_tape C q348 dX0_feed_53 ?_
        refine r_aload_0 C dX0_feed_56 ?_
        refine gG_taped C q349 dX0_feed_57 ?_
        refine r_iload_7 C dX0_feed_60 ?_
        refine r_iadd C dX0_feed_62 ?_
        refine r_aload_6 C dX0_feed_63 ?_
        refine r_iload_7 C dX0_feed_65 ?_
        refine r_iconst C dX0_feed_67 ?_
        refine r_idiv C dX0_feed_68 ?_
        refine r_topi (k / 4) (pl_tdiv hk0) ?_
        refine r_iald C 46 rfl dX0_feed_69 (by omega) (by omega) (by omega) ?_
        refine r_topi (fdA a b c d e (k / 4)) (h5 _ (by omega) (by omega)) ?_
        refine r_bipush C dX0_feed_70 ?_
        refine r_bipush C dX0_feed_72 ?_
        refine r_iload_7 C dX0_feed_74 ?_
        refine r_iconst C dX0_feed_76 ?_
        refine r_irem C dX0_feed_77 ?_
        refine r_topi (k % 4) (pl_tmod hk0) ?_
        refine r_imul C dX0_feed_78 ?_
        refine r_isub C dX0_feed_79 ?_
        refine r_ishr C (_) dX0_feed_80 ((jI_of _).symm) ?_
        refine r_i2b C (fdB a b c d e k) dX0_feed_81 ((jI_of _).symm) ?_
        refine st_x_tape C dX0_feed_82 ?_
        refine r_iinc_7 C dX0_feed_83 ?_
        refine r_goto (tgt := 45) C dX0_feed_86 (by decide) ?_
        refine ih _ (show (20 - (k + 1)).toNat < mm by omega) (k + 1) _ f5 a5 (by omega) (by omega) h5 (fun j q1 q2 => ?_) (fun j q => ?_) rfl
        · by_cases ej : j = k
          · rw [ej, aset_at]
          · rw [aset_ne (by omega)]; exact h1 j q1 (by omega)
        · rw [aset_ne (by omega)]; exact h2 j (by omega)
    refine r_iconst C dX0_feed_15 ?_
    refine r_newarrI C q190 dX0_feed_16 (N := 5) rfl (by decide) (fun a5 => ?_)
    refine r_dup C dX0_feed_18 ?_
    refine r_iconst C dX0_feed_19 ?_
    refine r_iload_1 C dX0_feed_20 ?_
    refine r_iast C 46 rfl dX0_feed_21 (by decide) (by decide) (by decide) ?_
    refine r_dup C dX0_feed_22 ?_
    refine r_iconst C dX0_feed_23 ?_
    refine r_iload_2 C dX0_feed_24 ?_
    refine r_iast C 46 rfl dX0_feed_25 (by decide) (by decide) (by decide) ?_
    refine r_dup C dX0_feed_26 ?_
    refine r_iconst C dX0_feed_27 ?_
    refine r_iload_3 C dX0_feed_28 ?_
    refine r_iast C 46 rfl dX0_feed_29 (by decide) (by decide) (by decide) ?_
    refine r_dup C dX0_feed_30 ?_
    refine r_iconst C dX0_feed_31 ?_
    refine r_iload_4 C dX0_feed_32 ?_
    refine r_iast C 46 rfl dX0_feed_34 (by decide) (by decide) (by decide) ?_
    refine r_dup C dX0_feed_35 ?_
    refine r_iconst C dX0_feed_36 ?_
    refine r_iload_5 C dX0_feed_37 ?_
    refine r_iast C 46 rfl dX0_feed_39 (by decide) (by decide) (by decide) ?_
    refine r_astore_6 C dX0_feed_40 ?_
    refine r_iconst C dX0_feed_42 ?_
    refine r_istore_7 C dX0_feed_43 ?_
    refine key _ 0 x_tape _ a5 (by omega) (by omega) (fun i q1 q2 => ?_) (fun j _ _ => by omega) (fun j _ => rfl) rfl
    rcases (show i = 0 ∨ i = 1 ∨ i = 2 ∨ i = 3 ∨ i = 4 by omega) with h | h | h | h | h <;> subst h <;> rfl
  · skip
    refine r_iconst C dX0_feed_13 ?_
    refine r_ireturn C E dX0_feed_14 ?_
    refine ⟨_, rfl, ?_⟩
    show @ite _ _ _ _ _
    rw [if_neg (by omega)]
    exact ⟨rfl, PubX.mk⟩
end X13

