/-! the ways; straps are laid -/
/-- static facts: both ways -/
def GEn (g : GX) (e1 e2 : Nat) : Prop := e1 ≠ e2 ∧ ∀ (A : Nat → Prop) (U : State) (H : Heap), g.2.2.2 A U H → va_Z "SupplyGrid$Way" "EAST" "LSupplyGrid$Way;" (.ref e1) A U H ∧ va_Z "SupplyGrid$Way" "SOUTH" "LSupplyGrid$Way;" (.ref e2) A U H ∧ va_O "SupplyGrid$Way$1" e1 A U H ∧ va_O "SupplyGrid$Way$2" e2 A U H
def wyA (e1 e2 : Nat) (b : Bool) : Nat := if b = true then e1 else e2
def yWis : MethodName := ⟨"SupplyGrid$Way", "is", "(LSupplyGrid$Told;I)Z"⟩
def yWto : MethodName := ⟨"SupplyGrid$Way", "to", "(LSupplyGrid$Told;I)I"⟩
theorem paX12_is : PkA yWis yX12_is "SupplyGrid$Way$1" "SupplyGrid$Way" cX12_is 3 (some .boolean) 2 := ⟨⟨q627, q628, q629, q630⟩, nw_in q626 rfl, by decide, by decide +kernel, by decide +kernel, by decide +kernel⟩
theorem paX13_is : PkA yWis yX13_is "SupplyGrid$Way$2" "SupplyGrid$Way" cX13_is 3 (some .boolean) 2 := ⟨⟨q627, q631, q632, q633⟩, nw_in q626 rfl, by decide, by decide +kernel, by decide +kernel, by decide +kernel⟩
theorem paX12_to : PkA yWto yX12_to "SupplyGrid$Way$1" "SupplyGrid$Way" cX12_to 3 (some .int) 2 := ⟨⟨q636, q637, q638, q639⟩, nw_in q635 rfl, by decide, by decide +kernel, by decide +kernel, by decide +kernel⟩
theorem paX13_to : PkA yWto yX13_to "SupplyGrid$Way$2" "SupplyGrid$Way" cX13_to 3 (some .int) 2 := ⟨⟨q636, q640, q641, q642⟩, nw_in q635 rfl, by decide, by decide +kernel, by decide +kernel, by decide +kernel⟩
section Way
variable {g : GX} {ws : va_W} {e t q0 : Nat} {c r v : Int} {v0 v1 v2 v3 v4 v5 v6 v9 v10 v11 v12 v13 : Value}
theorem c_X12_is (hG : Gok g) (hq : ws[q0]? = some (t, .inr (1, [v0, v1, v2, v3, v4, v5, v6, .int (jI c), .int (jI r), v9, v10, v11, v12, v13]))) (hc : 1 ≤ c ∧ c ≤ 9) (hv : 0 ≤ v ∧ v ≤ 100) : XMetU g yX12_is cX12_is 3 (some .boolean) 0 0 0 [.ref e, .ref t, .int (jI v)] ws (pI (fun z w => z = (if isWy c r v true = true then 1 else 0) ∧ w = ws)) := by
  have h1 := Int.tmod_lt_of_pos v (show 0 < c by omega)
  have h2 := Int.tmod_nonneg c hv.1
  refine XMetU.of (L := [some (.ref e), some (.ref t), some (.int (jI v))]) hG (by decide +kernel) (Nat.le_of_ble_eq_true rfl) rfl (fun K C E => ?_)
  refine r_iload_2 C dX12_is_0 ?_
  refine r_aload_1 C dX12_is_1 ?_
  refine r_getN C q0 hq rfl in_X1 7 (by decide) q218 rfl rfl dX12_is_2 ?_
  refine r_irem C dX12_is_5 ?_
  refine r_aload_1 C dX12_is_6 ?_
  refine r_getN C q0 hq rfl in_X1 7 (by decide) q218 rfl rfl dX12_is_7 ?_
  refine r_iconst C dX12_is_10 ?_
  refine r_isub C dX12_is_11 ?_
  refine r_if_icmpge (tgt := 19) C dX12_is_12 (by decide) (fun d => ?_) (fun d => ?_)
  · refine r_iconst C dX12_is_19 ?_
    refine r_zreturn C E dX12_is_20 (Or.inl rfl) ⟨_, rfl, ?_, rfl⟩
    unfold isWy
    rw [if_pos rfl, if_neg (by rw [decide_eq_true_iff]; omega)]
  · refine r_iconst C dX12_is_15 ?_
    refine r_goto (tgt := 20) C dX12_is_16 (by decide) ?_
    refine r_zreturn C E dX12_is_20 (Or.inr rfl) ⟨_, rfl, ?_, rfl⟩
    unfold isWy
    rw [if_pos rfl, if_pos (decide_eq_true (by omega))]
theorem c_X13_is (hG : Gok g) (hq : ws[q0]? = some (t, .inr (1, [v0, v1, v2, v3, v4, v5, v6, .int (jI c), .int (jI r), v9, v10, v11, v12, v13]))) (hc : 1 ≤ c ∧ c ≤ 9) (hr : 1 ≤ r ∧ r ≤ 9) (hv : 0 ≤ v ∧ v ≤ 100) : XMetU g yX13_is cX13_is 3 (some .boolean) 0 0 0 [.ref e, .ref t, .int (jI v)] ws (pI (fun z w => z = (if isWy c r v false = true then 1 else 0) ∧ w = ws)) := by
  have h1 := Int.tdiv_nonneg hv.1 (show 0 ≤ c by omega)
  have h2 := Int.tdiv_le_self (b := c) hv.1
  refine XMetU.of (L := [some (.ref e), some (.ref t), some (.int (jI v))]) hG (by decide +kernel) (Nat.le_of_ble_eq_true rfl) rfl (fun K C E => ?_)
  refine r_iload_2 C dX13_is_0 ?_
  refine r_aload_1 C dX13_is_1 ?_
  refine r_getN C q0 hq rfl in_X1 7 (by decide) q219 rfl rfl dX13_is_2 ?_
  refine r_idiv C dX13_is_5 ?_
  refine r_aload_1 C dX13_is_6 ?_
  refine r_getN C q0 hq rfl in_X1 8 (by decide) q223 rfl rfl dX13_is_7 ?_
  refine r_iconst C dX13_is_10 ?_
  refine r_isub C dX13_is_11 ?_
  refine r_if_icmpge (tgt := 19) C dX13_is_12 (by decide) (fun d => ?_) (fun d => ?_)
  · refine r_iconst C dX13_is_19 ?_
    refine r_zreturn C E dX13_is_20 (Or.inl rfl) ⟨_, rfl, ?_, rfl⟩
    unfold isWy
    rw [if_neg (show ¬ ((false : Bool) = true) by decide), if_neg (by rw [decide_eq_true_iff]; omega)]
  · refine r_iconst C dX13_is_15 ?_
    refine r_goto (tgt := 20) C dX13_is_16 (by decide) ?_
    refine r_zreturn C E dX13_is_20 (Or.inr rfl) ⟨_, rfl, ?_, rfl⟩
    unfold isWy
    rw [if_neg (show ¬ ((false : Bool) = true) by decide), if_pos (decide_eq_true (by omega))]
theorem c_X12_to (hG : Gok g) : XMetU g yX12_to cX12_to 3 (some .int) 0 0 0 [.ref e, .ref t, .int (jI v)] ws (pI (fun z w => z = toW c v true ∧ w = ws)) := by
  refine XMetU.of (L := [some (.ref e), some (.ref t), some (.int (jI v))]) hG (by decide +kernel) (Nat.le_of_ble_eq_true rfl) rfl (fun K C E => ?_)
  refine r_iload_2 C dX12_to_0 ?_
  refine r_iconst C dX12_to_1 ?_
  refine r_iadd C dX12_to_2 ?_
  exact r_ireturn C E dX12_to_3 ⟨_, rfl, rfl, rfl⟩
theorem c_X13_to (hG : Gok g) (hq : ws[q0]? = some (t, .inr (1, [v0, v1, v2, v3, v4, v5, v6, .int (jI c), .int (jI r), v9, v10, v11, v12, v13]))) : XMetU g yX13_to cX13_to 3 (some .int) 0 0 0 [.ref e, .ref t, .int (jI v)] ws (pI (fun z w => z = toW c v false ∧ w = ws)) := by
  refine XMetU.of (L := [some (.ref e), some (.ref t), some (.int (jI v))]) hG (by decide +kernel) (Nat.le_of_ble_eq_true rfl) rfl (fun K C E => ?_)
  refine r_iload_2 C dX13_to_0 ?_
  refine r_aload_1 C dX13_to_1 ?_
  refine r_getN C q0 hq rfl in_X1 7 (by decide) q219 rfl rfl dX13_to_2 ?_
  refine r_iadd C dX13_to_5 ?_
  exact r_ireturn C E dX13_to_6 ⟨_, rfl, rfl, rfl⟩
theorem r_wayIs {K : KY} {d : Nat} {cc : ByteArray} {own : String} {k n pc idx e1 e2 : Nat} {L : List (Option Value)} {st : List Value} (C : Cok g K d cc own) (hG : Gok g) (W : GEn g e1 e2) (b : Bool) (q0 : Nat) (hq : ws[q0]? = some (t, .inr (1, [v0, v1, v2, v3, v4, v5, v6, .int (jI c), .int (jI r), v9, v10, v11, v12, v13]))) (hc : 1 ≤ c ∧ c ≤ 9) (hr : 1 ≤ r ∧ r ≤ 9) (hv : 0 ≤ v ∧ v ≤ 100) (q : Cond.methodLink own idx yWis ∈ lw_all) (dd : decode cc pc = .ok (.invokevirtual idx, 3)) (kk : AW g K ws k n (pc + 3) L (.int (jI (if isWy c r v b = true then 1 else 0)) :: st)) (hd : 0 < d := by omega) (hrm : (st.map fun v => v.category).sum ≤ 8 := by exact Nat.le_of_ble_eq_true rfl) : AW g K ws k n pc L (.int (jI v) :: .ref t :: .ref (wyA e1 e2 b) :: st) := by
  cases b with
  | true =>
    refine r_callAO C (av := [.ref t, .int (jI v)]) (c_X12_is hG hq hc hv) (fun A U H h => (W.2 A U H h).2.2.1) q paX12_is hd (Nat.zero_le _) (Nat.zero_le _) (rest := st) rfl hrm dd (fun r w h => ?_)
    obtain ⟨z, rfl, rfl, rfl⟩ := h
    exact kk
  | false =>
    refine r_callAO C (av := [.ref t, .int (jI v)]) (c_X13_is hG hq hc hr hv) (fun A U H h => (W.2 A U H h).2.2.2) q paX13_is hd (Nat.zero_le _) (Nat.zero_le _) (rest := st) rfl hrm dd (fun r w h => ?_)
    obtain ⟨z, rfl, rfl, rfl⟩ := h
    exact kk
theorem r_wayTo {K : KY} {d : Nat} {cc : ByteArray} {own : String} {k n pc idx e1 e2 : Nat} {L : List (Option Value)} {st : List Value} (C : Cok g K d cc own) (hG : Gok g) (W : GEn g e1 e2) (b : Bool) (q0 : Nat) (hq : ws[q0]? = some (t, .inr (1, [v0, v1, v2, v3, v4, v5, v6, .int (jI c), .int (jI r), v9, v10, v11, v12, v13]))) (q : Cond.methodLink own idx yWto ∈ lw_all) (dd : decode cc pc = .ok (.invokevirtual idx, 3)) (kk : AW g K ws k n (pc + 3) L (.int (jI (toW c v b)) :: st)) (hd : 0 < d := by omega) (hrm : (st.map fun v => v.category).sum ≤ 8 := by exact Nat.le_of_ble_eq_true rfl) : AW g K ws k n pc L (.int (jI v) :: .ref t :: .ref (wyA e1 e2 b) :: st) := by
  cases b with
  | true =>
    refine r_callAO C (av := [.ref t, .int (jI v)]) (c_X12_to (c := c) hG) (fun A U H h => (W.2 A U H h).2.2.1) q paX12_to hd (Nat.zero_le _) (Nat.zero_le _) (rest := st) rfl hrm dd (fun r w h => ?_)
    obtain ⟨z, rfl, rfl, rfl⟩ := h
    exact kk
  | false =>
    refine r_callAO C (av := [.ref t, .int (jI v)]) (c_X13_to hG hq) (fun A U H h => (W.2 A U H h).2.2.2) q paX13_to hd (Nat.zero_le _) (Nat.zero_le _) (rest := st) rfl hrm dd (fun r w h => ?_)
    obtain ⟨z, rfl, rfl, rfl⟩ := h
    exact kk
end Way
section Told3
variable {g : GX} {ws : va_W} {τ : Nat → Nat} {wd fr to ld gr bu : Int → Int} {c r lm we ss pd ln md sz : Int} {el : Nat → Option Nat}
theorem c_T_many (hG : Gok g) : XMet g yX1_many cX1_many 1 (some .int) 0 0 0 [.ref (τ 0)] (wT g τ wd fr to ld gr bu c r lm we ss pd ln md sz el ++ ws) (pI (fun z w => z = c * r ∧ w = wT g τ wd fr to ld gr bu c r lm we ss pd ln md sz el ++ ws)) := by
  refine XMet.of (L := [some (.ref (τ 0))]) hG (by decide +kernel) (Nat.le_of_ble_eq_true rfl) rfl (fun K C E => ?_)
  refine r_aload_0 C dX1_many_0 ?_
  refine r_get C 0 rfl rfl in_X1 7 (by decide) q220 rfl rfl dX1_many_1 ?_
  refine r_aload_0 C dX1_many_4 ?_
  refine r_get C 0 rfl rfl in_X1 8 (by decide) q224 rfl rfl dX1_many_5 ?_
  refine r_imul C dX1_many_8 ?_
  exact r_ireturn C E dX1_many_9 ⟨_, rfl, rfl, rfl⟩
theorem c_T_adds (hG : Gok g) {e1 e2 : Nat} (W : GEn g e1 e2) (b : Bool) {v wide : Int} (hc : 1 ≤ c ∧ c ≤ 9) (hr : 1 ≤ r ∧ r ≤ 9) (hv : 0 ≤ v ∧ v ≤ 100) (hs : isWy c r v b = true → 0 ≤ ss ∧ ss < 12) : XMet g yX1_adds cX1_adds 4 none 1 0 0 [.ref (τ 0), .int (jI v), .ref (wyA e1 e2 b), .int (jI wide)] (wT g τ wd fr to ld gr bu c r lm we ss pd ln md sz el ++ ws) (pV (fun w => w = if isWy c r v b = true then wT g τ (aset wd ss wide) (aset fr ss v) (aset to ss (toW c v b)) ld gr bu c r lm we (ss + 1) pd ln md sz el ++ ws else wT g τ wd fr to ld gr bu c r lm we ss pd ln md sz el ++ ws)) := by
  refine XMet.of (L := [some (.ref (τ 0)), some (.int (jI v)), some (.ref (wyA e1 e2 b)), some (.int (jI wide))]) hG (by decide +kernel) (Nat.le_of_ble_eq_true rfl) rfl (fun K C E => ?_)
  refine r_aload_2 C dX1_adds_0 ?_
  refine r_aload_0 C dX1_adds_1 ?_
  refine r_iload_1 C dX1_adds_2 ?_
  refine r_wayIs C hG W b 0 rfl hc hr hv q625 dX1_adds_3 ?_
  refine r_ifneB (tgt := 10) C dX1_adds_6 (by decide) (fun d => ?_) (fun d => ?_)
  · have hs := hs d
    refine r_aload_0 C dX1_adds_10 ?_
    refine r_get C 0 rfl rfl in_X1 1 (by decide) q197 rfl rfl dX1_adds_11 ?_
    refine r_aload_0 C dX1_adds_14 ?_
    refine r_get C 0 rfl rfl in_X1 11 (by decide) q238 rfl rfl dX1_adds_15 ?_
    refine r_iload_1 C dX1_adds_18 ?_
    refine r_iast C 2 rfl dX1_adds_19 hs.1 (by omega) (by decide) ?_
    refine r_aload_0 C dX1_adds_20 ?_
    refine r_get C 0 rfl rfl in_X1 2 (by decide) q201 rfl rfl dX1_adds_21 ?_
    refine r_aload_0 C dX1_adds_24 ?_
    refine r_get C 0 rfl rfl in_X1 11 (by decide) q238 rfl rfl dX1_adds_25 ?_
    refine r_aload_2 C dX1_adds_28 ?_
    refine r_aload_0 C dX1_adds_29 ?_
    refine r_iload_1 C dX1_adds_30 ?_
    refine r_wayTo (c := c) (r := r) C hG W b 0 rfl q634 dX1_adds_31 ?_
    refine r_iast C 3 rfl dX1_adds_34 hs.1 (by omega) (by decide) ?_
    refine r_aload_0 C dX1_adds_35 ?_
    refine r_get C 0 rfl rfl in_X1 0 (by decide) q191 rfl rfl dX1_adds_36 ?_
    refine r_aload_0 C dX1_adds_39 ?_
    refine r_get C 0 rfl rfl in_X1 11 (by decide) q238 rfl rfl dX1_adds_40 ?_
    refine r_iload_3 C dX1_adds_43 ?_
    refine r_iast C 1 rfl dX1_adds_44 hs.1 (by omega) (by decide) ?_
    refine r_aload_0 C dX1_adds_45 ?_
    refine r_dup C dX1_adds_46 ?_
    refine r_get C 0 rfl rfl in_X1 11 (by decide) q238 rfl rfl dX1_adds_47 ?_
    refine r_iconst C dX1_adds_50 ?_
    refine r_iadd C dX1_adds_51 ?_
    refine r_put C 0 rfl rfl in_X1 tyX1 tyX1_ok nmX1 11 (by decide) q238 rfl rfl (tyX1_ok 11 (by decide)) rfl rfl (Nat.le_of_ble_eq_true rfl) dX1_adds_52 ?_
    refine r_return C E dX1_adds_55 ⟨rfl, ?_⟩
    rw [if_pos d]
    rfl
  · refine r_return C E dX1_adds_9 ⟨rfl, ?_⟩
    rw [if_neg d]
/-- what the arrays hold of straps that are laid -/
def EL3 (l : List (Int × Int)) (f t w : Int → Int) (wide : Int) : Prop := ∀ (k : Nat) (q : Int × Int), l[k]? = some q → f (k : Int) = q.1 ∧ t (k : Int) = q.2 ∧ w (k : Int) = wide
theorem EL3.app {l : List (Int × Int)} {f t w : Int → Int} {a b s wide : Int} (h : EL3 l f t w wide) (hs : s = (l.length : Int)) : EL3 (l ++ [(a, b)]) (aset f s a) (aset t s b) (aset w s wide) wide := by
  intro k q hk
  rw [List.getElem?_append] at hk
  by_cases e : k < l.length
  · rw [if_pos e] at hk
    rw [aset_ne (by omega), aset_ne (by omega), aset_ne (by omega)]
    exact h k q hk
  · rw [if_neg e] at hk
    by_cases e2 : k = l.length
    · subst e2
      simp at hk
      subst hk
      rw [hs, aset_at, aset_at, aset_at]
      exact ⟨rfl, rfl, rfl⟩
    · have : k - l.length ≠ 0 := by omega
      cases hkk : k - l.length with
      | zero => omega
      | succ m => rw [hkk] at hk; simp at hk
theorem c_T_lays (hG : Gok g) {e1 e2 : Nat} (W : GEn g e1 e2) {wide : Int} (hg : GW c r) : XMet g yX1_lays cX1_lays 3 none 2 0 0 [.ref (τ 0), .int (jI wide)] (wT g τ wd fr to ld gr bu c r lm we 0 pd ln md sz el ++ ws) (pV (fun w => ∃ wd' fr' to' : Int → Int, (∀ k, 0 ≤ k → k < sN c r → fr' k = sF c r k ∧ to' k = sT c r k ∧ wd' k = wide) ∧ (∀ k, sN c r ≤ k → k < 12 → wd' k = wd k) ∧ w = wT g τ wd' fr' to' ld gr bu c r lm we (sN c r) pd ln md sz el ++ ws)) := by
  have h9 := hg.c9
  have hn1 := hg.n1
  have hcr := hg.2.2
  have hc1 := hg.1
  have hr1 := hg.2.1
  refine XMet.of (L := [some (.ref (τ 0)), some (.int (jI wide)), none]) hG (by decide +kernel) (Nat.le_of_ble_eq_true rfl) rfl (fun K C E => ?_)
  have key : ∀ (mm : Nat), ∀ (v s : Int) (wd' fr' to' : Int → Int), 0 ≤ v → v ≤ c * r → s = ((stl c r v.toNat).length : Int) → EL3 (stl c r v.toNat) fr' to' wd' wide → (∀ k, s ≤ k → wd' k = wd k) → (c * r - v).toNat = mm → AW g K (wT g τ wd' fr' to' ld gr bu c r lm we s pd ln md sz el ++ ws) 0 0 2 [some (.ref (τ 0)), some (.int (jI wide)), some (.int (jI v))] [] := by
    intro mm
    induction mm using Nat.strongRecOn with
    | _ mm ih =>
    intro v s wd' fr' to' hv0 hv hs he hw hm
    refine r_iload_2 C dX1_lays_2 ?_
    refine r_aload_0 C dX1_lays_3 ?_
    refine r_cV0i C (c_T_many hG) (q0 := 0) rfl rfl q615 pkX1_many dX1_lays_4 (fun z w h => ?_)
    obtain ⟨rfl, rfl⟩ := h
    refine r_if_icmpge (tgt := 34) C dX1_lays_7 (by decide) (fun d => ?_) (fun d => ?_)
    · have e1 : v = c * r := by omega
      subst e1
      refine r_return C E dX1_lays_34 ⟨rfl, wd', fr', to', fun k h0 h1 => ?_, fun k h0 h1 => hw k ?_, ?_⟩
      · have hl : k.toNat < (sL c r).length := by unfold sN at h1; omega
        have h2 := he k.toNat _ (List.getElem?_eq_getElem hl)
        rw [show ((k.toNat : Nat) : Int) = k by omega] at h2
        unfold sF sT
        rw [List.getD_eq_getElem?_getD, List.getElem?_eq_getElem hl]
        exact h2
      · rw [hs]
        unfold sN at h0
        exact h0
      · rw [hs]
        rfl
    · have hlen : (stl c r v.toNat).length + (stp c r v).length ≤ 12 := by
        have := stl_len hg (n := (v + 1).toNat) (by omega)
        rw [stl_s hv0, List.length_append] at this
        exact this
      have w1 : isWy c r v true = true ↔ v % c < c - 1 := by
        unfold isWy
        rw [if_pos rfl, decide_eq_true_iff, pl_tmod hv0]
      have w2 : isWy c r v false = true ↔ v / c < r - 1 := by
        unfold isWy
        rw [if_neg (show ¬ ((false : Bool) = true) by decide), decide_eq_true_iff, pl_tdiv hv0]
      have t1 : toW c v true = v + 1 := if_pos rfl
      have t2 : toW c v false = v + c := if_neg (by decide)
      refine r_aload_0 C dX1_lays_10 ?_
      refine r_iload_2 C dX1_lays_11 ?_
      refine r_gets C (fun A U H h => (W.2 A U H h).1) q619 dX1_lays_12 ?_
      refine r_iload_1 C dX1_lays_15 ?_
      have nxt : ∀ (s2 : Int) (wd2 fr2 to2 : Int → Int), s2 = ((stl c r (v + 1).toNat).length : Int) → EL3 (stl c r (v + 1).toNat) fr2 to2 wd2 wide → (∀ k, s2 ≤ k → wd2 k = wd k) → AW g K (wT g τ wd2 fr2 to2 ld gr bu c r lm we s2 pd ln md sz el ++ ws) 0 0 28 [some (.ref (τ 0)), some (.int (jI wide)), some (.int (jI v))] [] := by
        intro s2 wd2 fr2 to2 a1 a2 a3
        refine r_iinc_2 C dX1_lays_28 ?_
        refine r_goto (tgt := 2) C dX1_lays_31 (by decide) ?_
        exact ih _ (show (c * r - (v + 1)).toNat < mm by omega) (v + 1) s2 wd2 fr2 to2 (by omega) (by omega) a1 a2 a3 rfl
      have scd : ∀ (l2 : List (Int × Int)) (s2 : Int) (wd2 fr2 to2 : Int → Int), (stl c r (v + 1).toNat) = l2 ++ (if v / c < r - 1 then [(v, v + c)] else []) → s2 = (l2.length : Int) → (v / c < r - 1 → s2 < 12) → EL3 l2 fr2 to2 wd2 wide → (∀ k, s2 ≤ k → wd2 k = wd k) → AW g K (wT g τ wd2 fr2 to2 ld gr bu c r lm we s2 pd ln md sz el ++ ws) 0 0 19 [some (.ref (τ 0)), some (.int (jI wide)), some (.int (jI v))] [] := by
        intro l2 s2 wd2 fr2 to2 a0 a1 a2 a3 a4
        refine r_aload_0 C dX1_lays_19 ?_
        refine r_iload_2 C dX1_lays_20 ?_
        refine r_gets C (fun A U H h => (W.2 A U H h).2.1) q643 dX1_lays_21 ?_
        refine r_iload_1 C dX1_lays_24 ?_
        refine r_cV3v C (c_T_adds hG W false ⟨by omega, by omega⟩ ⟨by omega, by omega⟩ ⟨by omega, by omega⟩ (fun h => ⟨by omega, a2 (w2.mp h)⟩)) (q0 := 0) rfl rfl q621 pkX1_adds dX1_lays_25 (fun w h => ?_)
        subst h
        by_cases hw2 : isWy c r v false = true
        · rw [if_pos hw2]
          have h2 := w2.mp hw2
          rw [if_pos h2] at a0
          refine nxt _ _ _ _ ?_ ?_ (fun k hk => ?_)
          · rw [a0, List.length_append, List.length_singleton]
            omega
          · rw [a0, t2]
            exact a3.app a1
          · rw [aset_ne (by omega)]
            exact a4 k (by omega)
        · rw [if_neg hw2]
          have h2 : ¬ v / c < r - 1 := fun h => hw2 (w2.mpr h)
          rw [if_neg h2, List.append_nil] at a0
          exact nxt _ _ _ _ (by rw [a0]; exact a1) (by rw [a0]; exact a3) a4
      refine r_cV3v C (c_T_adds hG W true ⟨by omega, by omega⟩ ⟨by omega, by omega⟩ ⟨by omega, by omega⟩ (fun h => ⟨by omega, ?_⟩)) (q0 := 0) rfl rfl q621 pkX1_adds dX1_lays_16 (fun w h => ?_)
      · unfold stp at hlen
        rw [if_pos (w1.mp h), List.length_append, List.length_singleton] at hlen
        omega
      · subst h
        by_cases hw1 : isWy c r v true = true
        · rw [if_pos hw1]
          have h1 := w1.mp hw1
          refine scd (stl c r v.toNat ++ [(v, v + 1)]) _ _ _ _ ?_ ?_ (fun h2 => ?_) ?_ (fun k hk => ?_)
          · rw [stl_s hv0]
            unfold stp
            rw [if_pos h1, List.append_assoc]
          · rw [List.length_append, List.length_singleton]
            omega
          · unfold stp at hlen
            rw [if_pos h1, if_pos h2, List.length_append, List.length_singleton, List.length_singleton] at hlen
            omega
          · rw [t1]
            exact he.app hs
          · rw [aset_ne (by omega)]
            exact hw k (by omega)
        · rw [if_neg hw1]
          have h1 : ¬ v % c < c - 1 := fun h => hw1 (w1.mpr h)
          refine scd (stl c r v.toNat) _ _ _ _ ?_ hs (fun h2 => ?_) he hw
          · rw [stl_s hv0]
            unfold stp
            rw [if_neg h1, List.nil_append]
          · unfold stp at hlen
            rw [if_neg h1, if_pos h2, List.nil_append, List.length_singleton] at hlen
            omega
  refine r_iconst C dX1_lays_0 ?_
  refine r_istore_2 C dX1_lays_1 ?_
  exact key _ 0 0 wd fr to (by omega) (by omega) rfl (fun k q h => by simp [stl] at h) (fun k _ => rfl) rfl
theorem c_T_strapOf (hG : Gok g) {a b : Int} (ha : inR a) (hb : inR b) (hg : GW c r) (hs : ss = sN c r) (he : ∀ k : Int, 0 ≤ k → k < sN c r → fr k = sF c r k ∧ to k = sT c r k) : XMet g yX1_strapOf cX1_strapOf 4 (some .int) 0 0 0 [.ref (τ 0), .int (jI a), .int (jI b)] (wT g τ wd fr to ld gr bu c r lm we ss pd ln md sz el ++ ws) (pI (fun z w => z = ffi (fun k => decide (sF c r k = a ∧ sT c r k = b)) (sN c r).toNat ∧ w = wT g τ wd fr to ld gr bu c r lm we ss pd ln md sz el ++ ws)) := by
  have h12 := sN_12 hg
  have h00 := sN_0 (c := c) (r := r)
  have h9 := hg.2.2
  subst hs
  refine XMet.of (L := [some (.ref (τ 0)), some (.int (jI a)), some (.int (jI b)), none]) hG (by decide +kernel) (Nat.le_of_ble_eq_true rfl) rfl (fun K C E => ?_)
  have key : ∀ (mm : Nat), ∀ (k : Int), 0 ≤ k → k ≤ sN c r → (∀ j, 0 ≤ j → j < k → decide (sF c r j = a ∧ sT c r j = b) = false) → (sN c r - k).toNat = mm → AW g K (wT g τ wd fr to ld gr bu c r lm we (sN c r) pd ln md sz el ++ ws) 0 0 2 [some (.ref (τ 0)), some (.int (jI a)), some (.int (jI b)), some (.int (jI k))] [] := by
    intro mm
    induction mm using Nat.strongRecOn with
    | _ mm ih =>
    intro k hk0 hk hj hm
    refine r_iload_3 C dX1_strapOf_2 ?_
    refine r_aload_0 C dX1_strapOf_3 ?_
    refine r_get C 0 rfl rfl in_X1 11 (by decide) q238 rfl rfl dX1_strapOf_4 ?_
    refine r_if_icmpge (tgt := 38) C dX1_strapOf_7 (by decide) (fun c_7 => ?_) (fun c_7 => ?_)
    · refine r_iconst C dX1_strapOf_38 ?_
      exact r_ireturn C E dX1_strapOf_39 ⟨_, rfl, (ffi_none _ (fun j a1 a2 => hj j (by omega) (by omega))).symm, rfl⟩
    · have q := sl_in hg hk0 c_7
      have qe := he k hk0 c_7
      have nxt : decide (sF c r k = a ∧ sT c r k = b) = false → AW g K (wT g τ wd fr to ld gr bu c r lm we (sN c r) pd ln md sz el ++ ws) 0 0 32 [some (.ref (τ 0)), some (.int (jI a)), some (.int (jI b)), some (.int (jI k))] [] := by
        intro hne
        refine r_iinc_3 C dX1_strapOf_32 ?_
        refine r_goto (tgt := 2) C dX1_strapOf_35 (by decide) ?_
        refine ih _ (show (sN c r - (k + 1)).toNat < mm by omega) (k + 1) (by omega) (by omega) (fun j a1 a2 => ?_) rfl
        by_cases e : j = k
        · rw [e]; exact hne
        · exact hj j a1 (by omega)
      refine r_aload_0 C dX1_strapOf_10 ?_
      refine r_get C 0 rfl rfl in_X1 1 (by decide) q197 rfl rfl dX1_strapOf_11 ?_
      refine r_iload_3 C dX1_strapOf_14 ?_
      refine r_iald C 2 rfl dX1_strapOf_15 hk0 (by omega) (by decide) ?_
      refine r_topi (sF c r k) qe.1 ?_
      refine r_iload_1 C dX1_strapOf_16 ?_
      refine r_if_icmpne (tgt := 32) C dX1_strapOf_17 (by decide) (fun c_17 => ?_) (fun c_17 => ?_)
      · exact nxt (decide_eq_false (fun h => c_17 h.1))
      · refine r_aload_0 C dX1_strapOf_20 ?_
        refine r_get C 0 rfl rfl in_X1 2 (by decide) q201 rfl rfl dX1_strapOf_21 ?_
        refine r_iload_3 C dX1_strapOf_24 ?_
        refine r_iald C 3 rfl dX1_strapOf_25 hk0 (by omega) (by decide) ?_
        refine r_topi (sT c r k) qe.2 ?_
        refine r_iload_2 C dX1_strapOf_26 ?_
        refine r_if_icmpne (tgt := 32) C dX1_strapOf_27 (by decide) (fun c_27 => ?_) (fun c_27 => ?_)
        · exact nxt (decide_eq_false (fun h => c_27 h.2))
        · refine r_iload_3 C dX1_strapOf_30 ?_
          exact r_ireturn C E dX1_strapOf_31 ⟨_, rfl, (ffi_some _ k hk0 (by omega) (decide_eq_true ⟨c_17, c_27⟩) hj).symm, rfl⟩
  refine r_iconst C dX1_strapOf_0 ?_
  refine r_istore_3 C dX1_strapOf_1 ?_
  exact key _ 0 (by omega) (by omega) (fun j _ _ => by omega) rfl
end Told3

