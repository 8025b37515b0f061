/-! lists of changes: the list and its elements are the world's first two cells -/
abbrev wL (g : GX) (a e : Nat) (md sz : Int) (el : Nat → Option Nat) : va_W := [(a, .inr (10, [.int (jI md), .ref e, .int (jI sz)])), (e, .inl (g.2.2.1 4, 20, .inr (.inr (.inr (.inr el)))))]
/-- an inherited field is written -/
theorem r_putI {g : GX} {K : KY} {d : Nat} {cc : ByteArray} {own : String} {ws : va_W} {k n pc : Nat} {L : List (Option Value)} {st : List Value} (C : Cok g K d cc own) {ref Cn : String} {T : u_T} {N ci index a : Nat} {fs : List Value} {v : Value} {ty : FieldType} (q0 : Nat) (he : ws[q0]? = some (a, .inr (ci, fs))) (hc : vCl[ci]? = some (Cn, T, N)) (hin : ∀ w ∈ u_ws Cn T N, w ∈ lw_all) (ty0 : Nat → FieldType) (hty : ∀ k, k < N → parseFieldDescriptor (T k).2.2.1 = some (ty0 k)) (hnm : ∀ a, a < N → ∀ b, b < N → a ≠ b → (T a).2.1 ≠ (T b).2.1) (kf : Nat) (hk : kf < N) (q : Cond.fieldLink own index ref (T kf).2.1 (T kf).2.2.1 ∈ lw_all) (q2 : Cond.sameField ref (T kf).1 (T kf).2.1 (T kf).2.2.1 ∈ lw_all) (hfin : (T kf).2.2.2 = false) (hd : parseFieldDescriptor (T kf).2.2.1 = some ty) (hn : narrow ty v = v) (hfit : fits ty v = true) (hl : kf < fs.length) (dd : decode cc pc = .ok (.putfield index, 3))
    (kk : AW g K (ws.set q0 (a, .inr (ci, fs.set kf v))) k n (pc + 3) L st) : AW g K ws k n pc L (v :: .ref a :: st) :=
  AW.mem C (fun hx hb hown hts hnw hK hP hD hS hF hml hfr hlo w => va_put hx hb hts hin ty0 hty hnm hown hK hP hD hS q0 he hc kf hk (hts _ q) (u_same (hts _ q2)) hfin hd hn hfit hl dd w) kk
theorem r_alen {g : GX} {K : KY} {d : Nat} {cc : ByteArray} {own : String} {ws : va_W} {k n pc : Nat} {L : List (Option Value)} {st : List Value} (C : Cok g K d cc own) {a N : Nat} {x : (Nat → Int32) ⊕ ((Nat → Int64) ⊕ ((Nat → UInt32) ⊕ ((Nat → UInt64) ⊕ (Nat → Option Nat))))} (t0 q0 : Nat) (ha : ws[q0]? = some (a, .inl (g.2.2.1 t0, N, x))) {ty : FieldType} (ht : (tyA g.2.2.1)[t0]? = some (g.2.2.1 t0, ty)) (dd : decode cc pc = .ok (.arraylength, 1)) (kk : AW g K ws k n (pc + 1) L (.int (jI N) :: st)) : AW g K ws k n pc L (.ref a :: st) :=
  AW.mem C (fun hx hb hown hts hnw hK hP hD hS hF hml hfr hlo w => va_alen hx hb hK hP q0 t0 ha ht (jI_nI N).symm dd (w _ _ hP hD hS)) kk
/-- an object is stored in an array of objects -/
theorem r_aastO {g : GX} {K : KY} {d : Nat} {cc : ByteArray} {own : String} {ws : va_W} {k n pc : Nat} {L : List (Option Value)} {st : List Value} (C : Cok g K d cc own) {a N v : Nat} {f : Nat → Option Nat} {i : Int} {E : String} {r : vw_C} {vs : List Value} (t0 q0 qk ci : Nat) (ha : ws[q0]? = some (a, .inl (g.2.2.1 t0, N, .inr (.inr (.inr (.inr f)))))) (ht : (tyA g.2.2.1)[t0]? = some (g.2.2.1 t0, .object E)) (hca : Cond.castable r.1 E ∈ nwl) (hv : ws[qk]? = some (v, .inr (ci, vs))) (hc : vCl[ci]? = some r) (dd : decode cc pc = .ok (.aastore, 1)) (h0 : 0 ≤ i) (h1 : i < N) (hN : N ≤ 2147483647)
    (kk : AW g K (ws.set q0 (a, .inl (g.2.2.1 t0, N, .inr (.inr (.inr (.inr (va_up f i.toNat (some v)))))))) k n (pc + 1) L st) : AW g K ws k n pc L (.ref v :: .int (jI i) :: .ref a :: st) :=
  AW.mem C (fun hx hb hown hts hnw hK hP hD hS hF hml hfr hlo w => va_astqO hx hb hK hP hD hS q0 t0 qk ci ha ht (hnw _ hca) hv hc (jI_vp h0 h1 hN) dd (by rw [jI_clamp h0 (by omega)]; exact w)) kk
theorem r_aastN {g : GX} {K : KY} {d : Nat} {cc : ByteArray} {own : String} {ws : va_W} {k n pc : Nat} {L : List (Option Value)} {st : List Value} (C : Cok g K d cc own) {a N : Nat} {f : Nat → Option Nat} {i : Int} {E : String} (t0 q0 : Nat) (ha : ws[q0]? = some (a, .inl (g.2.2.1 t0, N, .inr (.inr (.inr (.inr f)))))) (ht : (tyA g.2.2.1)[t0]? = some (g.2.2.1 t0, .object E)) (dd : decode cc pc = .ok (.aastore, 1)) (h0 : 0 ≤ i) (h1 : i < N) (hN : N ≤ 2147483647)
    (kk : AW g K (ws.set q0 (a, .inl (g.2.2.1 t0, N, .inr (.inr (.inr (.inr (va_up f i.toNat none))))))) k n (pc + 1) L st) : AW g K ws k n pc L (.null :: .int (jI i) :: .ref a :: st) :=
  AW.mem C (fun hx hb hown hts hnw hK hP hD hS hF hml hfr hlo w => va_astqN hx hb hK hP hD hS q0 t0 ha ht (jI_vp h0 h1 hN) dd (by rw [jI_clamp h0 (by omega)]; exact w)) kk
section Lst
variable {g : GX} {a e : Nat} {md sz : Int} {el : Nat → Option Nat} {ws : va_W}
theorem c_L_isEmpty (hG : Gok g) (hs : inR sz) : XMet g yJ2_isEmpty cJ2_isEmpty 1 (some .boolean) 0 0 0 [.ref a] (wL g a e md sz el ++ ws) (pI (fun z w => z = (if sz = 0 then 1 else 0) ∧ w = wL g a e md sz el ++ ws)) := by
  refine XMet.of (L := [some (.ref a)]) hG (by decide +kernel) (Nat.le_of_ble_eq_true rfl) rfl (fun K C E => ?_)
  refine r_aload_0 C dJ2_isEmpty_0 ?_
  refine r_get C 0 rfl rfl in_J2 2 (by decide) q179 rfl rfl dJ2_isEmpty_1 ?_
  refine r_ifne (tgt := 11) C dJ2_isEmpty_4 (by decide) (fun c => ?_) (fun c => ?_)
  · refine r_iconst C dJ2_isEmpty_11 ?_
    refine r_zreturn C E dJ2_isEmpty_12 (Or.inl rfl) ⟨_, rfl, ?_, rfl⟩
    rw [if_neg c]
  · refine r_iconst C dJ2_isEmpty_7 ?_
    refine r_goto (tgt := 12) C dJ2_isEmpty_8 (by decide) ?_
    refine r_zreturn C E dJ2_isEmpty_12 (Or.inr rfl) ⟨_, rfl, ?_, rfl⟩
    rw [if_pos c]
theorem c_L_add2 (hG : Gok g) (h0 : 0 ≤ sz) (h1 : sz < 20) {qk ci v : Nat} {r : vw_C} {vs : List Value} (hca : Cond.castable r.1 "java/lang/Object" ∈ nwl) (hv : ws[qk]? = some (v, .inr (ci, vs))) (hc : vCl[ci]? = some r) : XMet g yJ2_add_2 cJ2_add_2 4 none 0 0 0 [.ref a, .ref v, .ref e, .int (jI sz)] (wL g a e md sz el ++ ws) (pV (fun w => w = wL g a e md (sz + 1) (va_up el sz.toNat (some v)) ++ ws)) := by
  refine XMet.of (L := [some (.ref a), some (.ref v), some (.ref e), some (.int (jI sz))]) hG (by decide +kernel) (Nat.le_of_ble_eq_true rfl) rfl (fun K C E => ?_)
  refine r_iload_3 C dJ2_add_2_0 ?_
  refine r_aload_2 C dJ2_add_2_1 ?_
  refine r_alen C 4 1 rfl rfl dJ2_add_2_2 ?_
  refine r_if_icmpne (tgt := 11) C dJ2_add_2_3 (by decide) (fun c => ?_) (fun c => ?_) (ha := by unfold inR; omega) (hb0 := by unfold inR; omega)
  · refine r_aload_2 C dJ2_add_2_11 ?_
    refine r_iload_3 C dJ2_add_2_12 ?_
    refine r_aload_1 C dJ2_add_2_13 ?_
    refine r_aastO C 4 1 (qk + 2) ci rfl rfl hca (by simpa using hv) hc dJ2_add_2_14 h0 (by omega) (by omega) ?_
    refine r_aload_0 C dJ2_add_2_15 ?_
    refine r_iload_3 C dJ2_add_2_16 ?_
    refine r_iconst C dJ2_add_2_17 ?_
    refine r_iadd C dJ2_add_2_18 ?_
    refine r_put C 0 rfl rfl in_J2 tyJ2 tyJ2_ok nmJ2 2 (by decide) q179 rfl rfl (tyJ2_ok 2 (by decide)) rfl rfl (Nat.le_of_ble_eq_true rfl) dJ2_add_2_19 ?_
    exact r_return C E dJ2_add_2_22 ⟨rfl, rfl⟩
  · exfalso
    omega
theorem c_L_add (hG : Gok g) (h0 : 0 ≤ sz) (h1 : sz < 20) {qk ci v : Nat} {r : vw_C} {vs : List Value} (hca : Cond.castable r.1 "java/lang/Object" ∈ nwl) (hv : ws[qk]? = some (v, .inr (ci, vs))) (hc : vCl[ci]? = some r) : XMet g yJ2_add cJ2_add 2 (some .boolean) 1 0 0 [.ref a, .ref v] (wL g a e md sz el ++ ws) (pI (fun z w => z = 1 ∧ w = wL g a e (md + 1) (sz + 1) (va_up el sz.toNat (some v)) ++ ws)) := by
  refine XMet.of (L := [some (.ref a), some (.ref v)]) hG (by decide +kernel) (Nat.le_of_ble_eq_true rfl) rfl (fun K C E => ?_)
  refine r_aload_0 C dJ2_add_0 ?_
  refine r_dup C dJ2_add_1 ?_
  refine r_getI C 0 rfl rfl in_J2 0 (by decide) q181 q182 rfl dJ2_add_2 ?_
  refine r_iconst C dJ2_add_5 ?_
  refine r_iadd C dJ2_add_6 ?_
  refine r_putI C 0 rfl rfl in_J2 tyJ2 tyJ2_ok nmJ2 0 (by decide) q181 q182 rfl (tyJ2_ok 0 (by decide)) rfl rfl (Nat.le_of_ble_eq_true rfl) dJ2_add_7 ?_
  refine r_aload_0 C dJ2_add_10 ?_
  refine r_aload_1 C dJ2_add_11 ?_
  refine r_aload_0 C dJ2_add_12 ?_
  refine r_get C 0 rfl rfl in_J2 1 (by decide) q178 rfl rfl dJ2_add_13 ?_
  refine r_aload_0 C dJ2_add_16 ?_
  refine r_get C 0 rfl rfl in_J2 2 (by decide) q179 rfl rfl dJ2_add_17 ?_
  refine r_cV3v C (c_L_add2 (md := md + 1) hG h0 h1 hca hv hc) (q0 := 0) rfl rfl q1178 pkJ2_add_2 dJ2_add_20 (fun w h => ?_)
  subst h
  refine r_iconst C dJ2_add_23 ?_
  exact r_zreturn C E dJ2_add_24 (Or.inr rfl) ⟨_, rfl, rfl, rfl⟩
end Lst
section Lst2
variable {g : GX} {a e : Nat} {md sz : Int} {el : Nat → Option Nat} {ws : va_W}
theorem c_J6_checkIndex (hG : Gok g) {i m : Int} (h0 : 0 ≤ i) (h1 : i < m) (hm : m ≤ 2147483647) : XMet g yJ6_checkIndex cJ6_checkIndex 3 (some .int) 0 0 0 [.int (jI i), .int (jI m), .null] ws (pI (fun z w => z = i ∧ w = ws)) := by
  refine XMet.of (L := [some (.int (jI i)), some (.int (jI m)), some .null]) hG (by decide +kernel) (Nat.le_of_ble_eq_true rfl) rfl (fun K C E => ?_)
  refine r_iload_0 C dJ6_checkIndex_0 ?_
  refine r_iflt (tgt := 9) C dJ6_checkIndex_1 (by decide) (fun c => ?_) (fun c => ?_) (ha := by unfold inR; omega)
  · exfalso; omega
  · refine r_iload_0 C dJ6_checkIndex_4 ?_
    refine r_iload_1 C dJ6_checkIndex_5 ?_
    refine r_if_icmplt (tgt := 16) C dJ6_checkIndex_6 (by decide) (fun c => ?_) (fun c => ?_) (ha := by unfold inR; omega) (hb0 := by unfold inR; omega)
    · refine r_iload_0 C dJ6_checkIndex_16 ?_
      exact r_ireturn C E dJ6_checkIndex_17 ⟨_, rfl, rfl, rfl⟩
    · exfalso; omega
theorem c_J13_checkIndex (hG : Gok g) {i m : Int} (h0 : 0 ≤ i) (h1 : i < m) (hm : m ≤ 2147483647) : XMet g yJ13_checkIndex cJ13_checkIndex 2 (some .int) 1 0 0 [.int (jI i), .int (jI m)] ws (pI (fun z w => z = i ∧ w = ws)) := by
  refine XMet.of (L := [some (.int (jI i)), some (.int (jI m))]) hG (by decide +kernel) (Nat.le_of_ble_eq_true rfl) rfl (fun K C E => ?_)
  refine r_iload_0 C dJ13_checkIndex_0 ?_
  refine r_iload_1 C dJ13_checkIndex_1 ?_
  refine r_aconst_null C dJ13_checkIndex_2 ?_
  refine r_cS3i C (c_J6_checkIndex hG h0 h1 hm) q1318 pkJ6_checkIndex dJ13_checkIndex_3 (fun z w h => ?_)
  obtain ⟨rfl, rfl⟩ := h
  exact r_ireturn C E dJ13_checkIndex_6 ⟨_, rfl, rfl, rfl⟩
theorem c_L_elementData (hG : Gok g) {i : Int} {y : Nat} (h0 : 0 ≤ i) (h1 : i < 20) (hy : el i.toNat = some y) : XMet g yJ2_elementData cJ2_elementData 2 (some (.object "java/lang/Object")) 0 0 0 [.ref a, .int (jI i)] (wL g a e md sz el ++ ws) (pA (fun z w => z = y ∧ w = wL g a e md sz el ++ ws)) := by
  refine XMet.of (L := [some (.ref a), some (.int (jI i))]) hG (by decide +kernel) (Nat.le_of_ble_eq_true rfl) rfl (fun K C E => ?_)
  refine r_aload_0 C dJ2_elementData_0 ?_
  refine r_get C 0 rfl rfl in_J2 1 (by decide) q178 rfl rfl dJ2_elementData_1 ?_
  refine r_iload_1 C dJ2_elementData_4 ?_
  refine r_aald C 4 1 rfl rfl rfl dJ2_elementData_5 h0 (by omega) (by omega) hy ?_
  exact r_areturn C E (Or.inl ⟨_, rfl⟩) dJ2_elementData_6 ⟨_, rfl, rfl, rfl⟩
theorem c_L_get (hG : Gok g) {i : Int} {y : Nat} (h0 : 0 ≤ i) (h1 : i < sz) (h2 : sz ≤ 20) (hy : el i.toNat = some y) : XMet g yJ2_get cJ2_get 2 (some (.object "java/lang/Object")) 2 0 0 [.ref a, .int (jI i)] (wL g a e md sz el ++ ws) (pA (fun z w => z = y ∧ w = wL g a e md sz el ++ ws)) := by
  refine XMet.of (L := [some (.ref a), some (.int (jI i))]) hG (by decide +kernel) (Nat.le_of_ble_eq_true rfl) rfl (fun K C E => ?_)
  refine r_iload_1 C dJ2_get_0 ?_
  refine r_aload_0 C dJ2_get_1 ?_
  refine r_get C 0 rfl rfl in_J2 2 (by decide) q179 rfl rfl dJ2_get_2 ?_
  refine r_cS2i C (c_J13_checkIndex hG h0 h1 (by omega)) q1315 pkJ13_checkIndex dJ2_get_5 (fun z w h => ?_)
  obtain ⟨rfl, rfl⟩ := h
  refine r_pop C dJ2_get_8 ?_
  refine r_aload_0 C dJ2_get_9 ?_
  refine r_iload_1 C dJ2_get_10 ?_
  refine r_cV1a C (c_L_elementData hG h0 (by omega) hy) (q0 := 0) rfl rfl q1319 pkJ2_elementData dJ2_get_11 (fun z w h => ?_)
  obtain ⟨rfl, rfl⟩ := h
  exact r_areturn C E (Or.inl ⟨_, rfl⟩) dJ2_get_14 ⟨_, rfl, rfl, rfl⟩
theorem c_L_fastRemove (hG : Gok g) (h0 : 0 < sz) (h1 : sz ≤ 20) : XMet g yJ2_fastRemove cJ2_fastRemove 4 none 0 0 0 [.ref a, .ref e, .int (jI (sz - 1))] (wL g a e md sz el ++ ws) (pV (fun w => w = wL g a e (md + 1) (sz - 1) (va_up el (sz - 1).toNat none) ++ ws)) := by
  refine XMet.of (L := [some (.ref a), some (.ref e), some (.int (jI (sz - 1))), none]) hG (by decide +kernel) (Nat.le_of_ble_eq_true rfl) rfl (fun K C E => ?_)
  refine r_aload_0 C dJ2_fastRemove_0 ?_
  refine r_dup C dJ2_fastRemove_1 ?_
  refine r_getI C 0 rfl rfl in_J2 0 (by decide) q181 q182 rfl dJ2_fastRemove_2 ?_
  refine r_iconst C dJ2_fastRemove_5 ?_
  refine r_iadd C dJ2_fastRemove_6 ?_
  refine r_putI C 0 rfl rfl in_J2 tyJ2 tyJ2_ok nmJ2 0 (by decide) q181 q182 rfl (tyJ2_ok 0 (by decide)) rfl rfl (Nat.le_of_ble_eq_true rfl) dJ2_fastRemove_7 ?_
  refine r_aload_0 C dJ2_fastRemove_10 ?_
  refine r_get C 0 rfl rfl in_J2 2 (by decide) q179 rfl rfl dJ2_fastRemove_11 ?_
  refine r_iconst C dJ2_fastRemove_14 ?_
  refine r_isub C dJ2_fastRemove_15 ?_
  refine r_dup C dJ2_fastRemove_16 ?_
  refine r_istore_3 C dJ2_fastRemove_17 ?_
  refine r_iload_2 C dJ2_fastRemove_18 ?_
  refine r_if_icmple (tgt := 34) C dJ2_fastRemove_19 (by decide) (fun c => ?_) (fun c => ?_) (ha := by unfold inR; omega) (hb0 := by unfold inR; omega)
  · refine r_aload_1 C dJ2_fastRemove_34 ?_
    refine r_aload_0 C dJ2_fastRemove_35 ?_
    refine r_iload_3 C dJ2_fastRemove_36 ?_
    refine r_dup_x1 C dJ2_fastRemove_37 ?_
    refine r_put C 0 rfl rfl in_J2 tyJ2 tyJ2_ok nmJ2 2 (by decide) q179 rfl rfl (tyJ2_ok 2 (by decide)) rfl rfl (Nat.le_of_ble_eq_true rfl) dJ2_fastRemove_38 ?_
    refine r_aconst_null C dJ2_fastRemove_41 ?_
    refine r_aastN C 4 1 rfl rfl dJ2_fastRemove_42 (by omega) (by omega) (by omega) ?_
    exact r_return C E dJ2_fastRemove_43 ⟨rfl, rfl⟩
  · exfalso
    omega
theorem c_L_remove (hG : Gok g) {y : Nat} (h0 : 0 < sz) (h1 : sz ≤ 20) (hy : el (sz - 1).toNat = some y) : XMet g yJ2_remove cJ2_remove 4 (some (.object "java/lang/Object")) 2 0 0 [.ref a, .int (jI (sz - 1))] (wL g a e md sz el ++ ws) (pA (fun z w => z = y ∧ w = wL g a e (md + 1) (sz - 1) (va_up el (sz - 1).toNat none) ++ ws)) := by
  refine XMet.of (L := [some (.ref a), some (.int (jI (sz - 1))), none, none]) hG (by decide +kernel) (Nat.le_of_ble_eq_true rfl) rfl (fun K C E => ?_)
  refine r_iload_1 C dJ2_remove_0 ?_
  refine r_aload_0 C dJ2_remove_1 ?_
  refine r_get C 0 rfl rfl in_J2 2 (by decide) q179 rfl rfl dJ2_remove_2 ?_
  refine r_cS2i C (c_J13_checkIndex hG (by omega) (by omega) (by omega)) q1315 pkJ13_checkIndex dJ2_remove_5 (fun z w h => ?_)
  obtain ⟨rfl, rfl⟩ := h
  refine r_pop C dJ2_remove_8 ?_
  refine r_aload_0 C dJ2_remove_9 ?_
  refine r_get C 0 rfl rfl in_J2 1 (by decide) q178 rfl rfl dJ2_remove_10 ?_
  refine r_astore_2 C dJ2_remove_13 ?_
  refine r_aload_2 C dJ2_remove_14 ?_
  refine r_iload_1 C dJ2_remove_15 ?_
  refine r_aald C 4 1 rfl rfl rfl dJ2_remove_16 (by omega) (by omega) (by omega) hy ?_
  refine r_astore_3 C dJ2_remove_17 ?_
  refine r_aload_0 C dJ2_remove_18 ?_
  refine r_aload_2 C dJ2_remove_19 ?_
  refine r_iload_1 C dJ2_remove_20 ?_
  refine r_cV2v C (c_L_fastRemove hG h0 h1) (q0 := 0) rfl rfl q1343 pkJ2_fastRemove dJ2_remove_21 (fun w h => ?_)
  subst h
  refine r_aload_3 C dJ2_remove_24 ?_
  exact r_areturn C E (Or.inl ⟨_, rfl⟩) dJ2_remove_25 ⟨_, rfl, rfl, rfl⟩
end Lst2
