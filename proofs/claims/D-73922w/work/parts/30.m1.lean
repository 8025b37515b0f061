section M1
variable {g : GX} {ρ : Nat → Nat} {ex : va_W}
variable {m_thrown : Int} {m_world : Int → Int} {m_fresh : Int → Int} {m_waysBack : Int → Int} {m_acts : Int} {m_images : Int → Int} {m_hasImage : Int → Int} {m_endOf : Int → Int} {m_strapMany : Int} {m_tape : Int → Int} {m_taped : Int} {m_five : Int → Int} {m_size : Int} {m_at : Int} {m_from : Int} {m_token : Int} {m_value : Int} {m_faultKind : Int} {m_faultPlace : Int} {m_budgetsTold : Int} {m_loadsTold : Int} {m_deadSet : Int} {m_unknownOf : Int → Int} {m_nodeOf : Int → Int} {m_unknowns : Int} {m_cells : Int → Int} {m_whole : Int} {m_ordered : Int → Int} {m_drawnBy : Int → Int} {m_left : Int → Int} {m_aside : Int → Int} {m_bestDead : Int} {m_bestAbove : Int} {m_bestBelow : Int} {m_widened : Int → Int} {m_widenedMany : Int} {m_fewOf : Int → Int} {m_drawing : Int}
theorem c_X5_in {ws : va_W} (hG : Gok g) {a b c : Int} (ha : inL a) (hb : inL b) (hc : inL c) : XMet g yX5_in cX5_in 6 (some .boolean) 0 0 0 [.long (jL a), .long (jL b), .long (jL c)] ws (pI (fun z w => z = (if b ≤ a ∧ a ≤ c then 1 else 0) ∧ w = ws)) := by
  refine XMet.of (L := [some (.long (jL a)), none, some (.long (jL b)), none, some (.long (jL c)), none]) hG (by decide +kernel) (Nat.le_of_ble_eq_true rfl) rfl (fun K C E => ?_)
  refine r_lload_0 C dX5_in_0 ?_
  refine r_lload_2 C dX5_in_1 ?_
  refine r_lcmp_iflt (tgt := 17) C dX5_in_2 dX5_in_3 (by decide) (fun c_2 => ?_) (fun c_2 => ?_)
  · skip
    refine r_iconst C dX5_in_17 ?_
    refine r_zreturn C E dX5_in_18 (by first | exact Or.inl rfl | exact Or.inr rfl | omega) ?_
    exact ⟨_, rfl, by simp [*]; try omega, rfl⟩
  · skip
    refine r_lload_0 C dX5_in_6 ?_
    refine r_lload_4 C dX5_in_7 ?_
    refine r_lcmp_ifgt (tgt := 17) C dX5_in_9 dX5_in_10 (by decide) (fun c_9 => ?_) (fun c_9 => ?_)
    · skip
      refine r_iconst C dX5_in_17 ?_
      refine r_zreturn C E dX5_in_18 (by first | exact Or.inl rfl | exact Or.inr rfl | omega) ?_
      exact ⟨_, rfl, by simp [*]; try omega, rfl⟩
    · skip
      refine r_iconst C dX5_in_13 ?_
      refine r_goto (tgt := 18) C dX5_in_14 (by decide) ?_
      refine r_zreturn C E dX5_in_18 (by first | exact Or.inl rfl | exact Or.inr rfl | omega) ?_
      exact ⟨_, rfl, by simp [*]; try omega, rfl⟩
theorem c_X5_isOf {ws : va_W} (hG : Gok g) {s k : Int} (hs : 0 ≤ s ∧ s ≤ 2147483647) (hk : 0 ≤ k ∧ k ≤ 30) : XMet g yX5_isOf cX5_isOf 2 (some .boolean) 0 0 0 [.int (jI s), .int (jI k)] ws (pI (fun z w => z = (if bsB s k then 1 else 0) ∧ w = ws)) := by
  refine XMet.of (L := [some (.int (jI s)), some (.int (jI k))]) hG (by decide +kernel) (Nat.le_of_ble_eq_true rfl) rfl (fun K C E => ?_)
  refine r_iload_0 C dX5_isOf_0 ?_
  refine r_iload_1 C dX5_isOf_1 ?_
  refine r_ishr C (_) dX5_isOf_2 (jI_shr hs.1 hs.2 hk.1 hk.2) ?_
  refine r_iconst C dX5_isOf_3 ?_
  refine r_iand C ((if bsB s k then 1 else 0)) dX5_isOf_4 ((jI_and (Int.natCast_nonneg _) (by decide)).trans (by rw [bsB_and1])) ?_
  refine r_iconst C dX5_isOf_5 ?_
  refine r_if_icmpne (tgt := 13) C dX5_isOf_6 (by decide) (fun c_6 => ?_) (fun c_6 => ?_) (by unfold inR; split <;> omega) (by unfold inR; omega)
  · skip
    refine r_iconst C dX5_isOf_13 ?_
    refine r_zreturn C E dX5_isOf_14 (by first | exact Or.inl rfl | exact Or.inr rfl | omega) ?_
    exact ⟨_, rfl, by split at c_6 <;> simp_all, rfl⟩
  · skip
    refine r_iconst C dX5_isOf_9 ?_
    refine r_goto (tgt := 14) C dX5_isOf_10 (by decide) ?_
    refine r_zreturn C E dX5_isOf_14 (by first | exact Or.inl rfl | exact Or.inr rfl | omega) ?_
    exact ⟨_, rfl, by split at c_6 <;> simp_all, rfl⟩
theorem c_X5_bits {ws : va_W} (hG : Gok g) {s : Int} (hs : 0 ≤ s ∧ s ≤ 2147483647) : XMet g yX5_bits cX5_bits 3 (some .int) 0 0 0 [.int (jI s)] ws (pI (fun z w => z = foI (fun k a => a + (if bsB s k then 1 else 0)) 0 9 ∧ w = ws)) := by
  refine XMet.of (L := [some (.int (jI s)), none, none]) hG (by decide +kernel) (Nat.le_of_ble_eq_true rfl) rfl (fun K C E => ?_)
  have key : ∀ (m : Nat) (i a : Int), 0 ≤ i → i ≤ 9 → (9 - i).toNat = m → a = foI (fun k a => a + (if bsB s k then 1 else 0)) 0 i → 0 ≤ a ∧ a ≤ i → AW g K ws 0 0 4 [some (.int (jI s)), some (.int (jI a)), some (.int (jI i))] [] := by
    intro m
    induction m with
    | zero =>
      intro i a h0 h9 hm ea hb
      have : i = 9 := by omega
      subst this
      refine r_iload_2 C dX5_bits_4 ?_
      refine r_bipush C dX5_bits_5 ?_
      refine r_if_icmpge (tgt := 24) C dX5_bits_7 (by decide) (fun c_7 => ?_) (fun c_7 => ?_)
      · skip
        refine r_iload_1 C dX5_bits_24 ?_
        refine r_ireturn C E dX5_bits_25 ?_
        exact ⟨_, rfl, ea, rfl⟩
      · skip
        omega
    | succ m ih =>
      intro i a h0 h9 hm ea hb
      refine r_iload_2 C dX5_bits_4 ?_
      refine r_bipush C dX5_bits_5 ?_
      refine r_if_icmpge (tgt := 24) C dX5_bits_7 (by decide) (fun c_7 => ?_) (fun c_7 => ?_)
      · skip
        refine r_iload_1 C dX5_bits_24 ?_
        refine r_ireturn C E dX5_bits_25 ?_
        omega
      · skip
        refine r_iload_1 C dX5_bits_10 ?_
        refine r_iload_0 C dX5_bits_11 ?_
        refine r_iload_2 C dX5_bits_12 ?_
        refine r_ishr C (_) dX5_bits_13 (jI_shr hs.1 hs.2 h0 (by omega)) ?_
        refine r_iconst C dX5_bits_14 ?_
        refine r_iand C ((if bsB s i then 1 else 0)) dX5_bits_15 ((jI_and (Int.natCast_nonneg _) (by decide)).trans (by rw [bsB_and1])) ?_
        refine r_iadd C dX5_bits_16 ?_
        refine r_istore_1 C dX5_bits_17 ?_
        refine r_iinc_2 C dX5_bits_18 ?_
        refine r_goto (tgt := 4) C dX5_bits_21 (by decide) ?_
        exact ih (i + 1) _ (by omega) (by omega) (by omega) (by rw [foI_s _ _ h0, ← ea]) (by split <;> omega)
  refine r_iconst C dX5_bits_0 ?_
  refine r_istore_1 C dX5_bits_1 ?_
  refine r_iconst C dX5_bits_2 ?_
  refine r_istore_2 C dX5_bits_3 ?_
  exact key 9 0 0 (by omega) (by omega) (by omega) rfl (by omega)
end M1

