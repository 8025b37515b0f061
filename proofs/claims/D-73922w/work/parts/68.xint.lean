theorem r_ldc_w {g : GX} {K : KY} {d : Nat} {cc : ByteArray} {own : String} {ws : va_W} {k n pc : Nat} {L : List (Option Value)} {st : List Value} (C : Cok g K d cc own) (z : Int) {i : Nat} {v : Int32} (q : Cond.constant own i v ∈ lw_all) (dd : decode cc pc = .ok (.ldc_w i, 3)) (kk : AW g K ws k n (pc + 3) L (.int (jI z) :: st)) (hv : v = jI z := by first | rfl | decide +kernel) : AW g K ws k n pc L st :=
  AW.op C (fun hx hb hown hts hml hfr hl w => lv_ldcw hx hb hown (hts _ q) dd (by rw [hv]; exact w)) kk
/-- how many of twelve bits are set -/
def pc12 (s : Int) : Int := foI (fun k a => a + (if bsB s k then 1 else 0)) 0 12
def bcu (x : Int32) (k : Int32) : Int32 := (x.toUInt32 >>> (k.toUInt32 &&& Int32.toUInt32 31)).toInt32
def bc1 (x : Int32) : Int32 := x - (bcu x 1 &&& 1431655765)
def bc2 (x : Int32) : Int32 := (x &&& 858993459) + (bcu x 2 &&& 858993459)
def bc3 (x : Int32) : Int32 := (x + bcu x 4) &&& 252645135
def bc4 (x : Int32) : Int32 := x + bcu x 8
def bc5 (x : Int32) : Int32 := x + bcu x 16
def bcAll (x : Int32) : Int32 := bc5 (bc4 (bc3 (bc2 (bc1 x)))) &&& 63
theorem bc_dec : ∀ a : Fin 64, ∀ b : Fin 64, bcAll (jI (64 * (a.val : Int) + (b.val : Int))) = jI (pc12 (64 * (a.val : Int) + (b.val : Int))) := by decide +kernel
theorem bc_ok {s : Int} (h0 : 0 ≤ s) (h1 : s < 4096) : bcAll (jI s) = jI (pc12 s) := by
  have := bc_dec ⟨s.toNat / 64, by omega⟩ ⟨s.toNat % 64, by omega⟩
  simp only at this
  rwa [show 64 * ((s.toNat / 64 : Nat) : Int) + ((s.toNat % 64 : Nat) : Int) = s by omega] at this
section XI
variable {g : GX}
theorem c_J10_bitCount {ws : va_W} (hG : Gok g) {s : Int} (h0 : 0 ≤ s) (h1 : s < 4096) : XMet g yJ10_bitCount cJ10_bitCount 1 (some .int) 0 0 0 [.int (jI s)] ws (pI (fun z w => z = pc12 s ∧ w = ws)) := by
  refine XMet.of (L := [some (.int (jI s))]) hG (by decide +kernel) (Nat.le_of_ble_eq_true rfl) rfl (fun K C E => ?_)
  have e1 : ∀ x y : Int32, jI (x.toInt + y.toInt) = x + y := fun x y => by rw [← jI_add, jI_of, jI_of]
  have e2 : jI (s - (bcu (jI s) 1 &&& 1431655765).toInt) = bc1 (jI s) := by rw [← jI_sub, jI_of]; rfl
  refine r_iload_0 C dJ10_bitCount_0 ?_
  refine r_iload_0 C dJ10_bitCount_1 ?_
  refine r_iconst C dJ10_bitCount_2 ?_
  refine r_iushr C ((bcu (jI s) 1).toInt) dJ10_bitCount_3 ((jI_of _).symm) ?_
  refine r_ldc_w C 1431655765 q976 dJ10_bitCount_4 ?_
  refine r_iand C ((bcu (jI s) 1 &&& 1431655765).toInt) dJ10_bitCount_7 ((by rw [jI_of, jI_of]; rfl)) ?_
  refine r_isub C dJ10_bitCount_8 ?_
  rw [e2, ← jI_of (bc1 (jI s))]
  refine r_istore_0 C dJ10_bitCount_9 ?_
  refine r_iload_0 C dJ10_bitCount_10 ?_
  refine r_ldc_w C 858993459 q977 dJ10_bitCount_11 ?_
  refine r_iand C ((bc1 (jI s) &&& 858993459).toInt) dJ10_bitCount_14 ((by rw [jI_of, jI_of]; rfl)) ?_
  refine r_iload_0 C dJ10_bitCount_15 ?_
  refine r_iconst C dJ10_bitCount_16 ?_
  refine r_iushr C ((bcu (bc1 (jI s)) 2).toInt) dJ10_bitCount_17 ((by rw [jI_of, jI_of]; rfl)) ?_
  refine r_ldc_w C 858993459 q977 dJ10_bitCount_18 ?_
  refine r_iand C ((bcu (bc1 (jI s)) 2 &&& 858993459).toInt) dJ10_bitCount_21 ((by rw [jI_of, jI_of]; rfl)) ?_
  refine r_iadd C dJ10_bitCount_22 ?_
  rw [e1, show (bc1 (jI s) &&& 858993459) + (bcu (bc1 (jI s)) 2 &&& 858993459) = bc2 (bc1 (jI s)) from rfl, ← jI_of (bc2 (bc1 (jI s)))]
  refine r_istore_0 C dJ10_bitCount_23 ?_
  refine r_iload_0 C dJ10_bitCount_24 ?_
  refine r_iload_0 C dJ10_bitCount_25 ?_
  refine r_iconst C dJ10_bitCount_26 ?_
  refine r_iushr C ((bcu (bc2 (bc1 (jI s))) 4).toInt) dJ10_bitCount_27 ((by rw [jI_of, jI_of]; rfl)) ?_
  refine r_iadd C dJ10_bitCount_28 ?_
  rw [e1, ← jI_of (bc2 (bc1 (jI s)) + bcu (bc2 (bc1 (jI s))) 4)]
  refine r_ldc_w C 252645135 q978 dJ10_bitCount_29 ?_
  refine r_iand C ((bc3 (bc2 (bc1 (jI s)))).toInt) dJ10_bitCount_32 ((by rw [jI_of, jI_of]; rfl)) ?_
  refine r_istore_0 C dJ10_bitCount_33 ?_
  refine r_iload_0 C dJ10_bitCount_34 ?_
  refine r_iload_0 C dJ10_bitCount_35 ?_
  refine r_bipush C dJ10_bitCount_36 ?_
  refine r_iushr C ((bcu (bc3 (bc2 (bc1 (jI s)))) 8).toInt) dJ10_bitCount_38 ((by rw [jI_of, jI_of]; rfl)) ?_
  refine r_iadd C dJ10_bitCount_39 ?_
  rw [e1, show bc3 (bc2 (bc1 (jI s))) + bcu (bc3 (bc2 (bc1 (jI s)))) 8 = bc4 (bc3 (bc2 (bc1 (jI s)))) from rfl, ← jI_of (bc4 (bc3 (bc2 (bc1 (jI s)))))]
  refine r_istore_0 C dJ10_bitCount_40 ?_
  refine r_iload_0 C dJ10_bitCount_41 ?_
  refine r_iload_0 C dJ10_bitCount_42 ?_
  refine r_bipush C dJ10_bitCount_43 ?_
  refine r_iushr C ((bcu (bc4 (bc3 (bc2 (bc1 (jI s))))) 16).toInt) dJ10_bitCount_45 ((by rw [jI_of, jI_of]; rfl)) ?_
  refine r_iadd C dJ10_bitCount_46 ?_
  rw [e1, show bc4 (bc3 (bc2 (bc1 (jI s)))) + bcu (bc4 (bc3 (bc2 (bc1 (jI s))))) 16 = bc5 (bc4 (bc3 (bc2 (bc1 (jI s))))) from rfl, ← jI_of (bc5 (bc4 (bc3 (bc2 (bc1 (jI s))))))]
  refine r_istore_0 C dJ10_bitCount_47 ?_
  refine r_iload_0 C dJ10_bitCount_48 ?_
  refine r_bipush C dJ10_bitCount_49 ?_
  refine r_iand C (pc12 s) dJ10_bitCount_51 ((by rw [jI_of, ← bc_ok h0 h1]; rfl)) ?_
  refine r_ireturn C E dJ10_bitCount_52 ?_
  exact ⟨_, rfl, rfl, rfl⟩
theorem c_ntz0 (hG : Gok g) {ws : va_W} {s : Int} (hx : (jI s ^^^ jI (-1)) &&& jI (s - 1) = jI 0) : XMet g yJ10_numberOfTrailingZeros cJ10_numberOfTrailingZeros 2 (some .int) 0 0 0 [.int (jI s)] ws (pI (fun z w => z = 0 ∧ w = ws)) := by
  refine XMet.of (L := [some (.int (jI s)), none]) hG (by decide +kernel) (Nat.le_of_ble_eq_true rfl) rfl (fun K C E => ?_)
  refine r_iload_0 C dJ10_numberOfTrailingZeros_0 ?_
  refine r_iconst C dJ10_numberOfTrailingZeros_1 ?_
  refine r_ixor C ((jI s ^^^ jI (-1)).toInt) dJ10_numberOfTrailingZeros_2 ((jI_of _).symm) ?_
  refine r_iload_0 C dJ10_numberOfTrailingZeros_3 ?_
  refine r_iconst C dJ10_numberOfTrailingZeros_4 ?_
  refine r_isub C dJ10_numberOfTrailingZeros_5 ?_
  refine r_iand C (0) dJ10_numberOfTrailingZeros_6 ((by rw [jI_of]; exact hx)) ?_
  refine r_istore_0 C dJ10_numberOfTrailingZeros_7 ?_
  refine r_iload_0 C dJ10_numberOfTrailingZeros_8 ?_
  refine r_ifgt (tgt := 17) C dJ10_numberOfTrailingZeros_9 (by decide) (fun c_9 => ?_) (fun c_9 => ?_)
  · skip
    omega
  · skip
    refine r_iload_0 C dJ10_numberOfTrailingZeros_12 ?_
    refine r_bipush C dJ10_numberOfTrailingZeros_13 ?_
    refine r_iand C (0) dJ10_numberOfTrailingZeros_15 ((by decide)) ?_
    refine r_ireturn C E dJ10_numberOfTrailingZeros_16 ?_
    exact ⟨_, rfl, rfl, rfl⟩
theorem c_ntz1 (hG : Gok g) {ws : va_W} {s : Int} (hx : (jI s ^^^ jI (-1)) &&& jI (s - 1) = jI 1) : XMet g yJ10_numberOfTrailingZeros cJ10_numberOfTrailingZeros 2 (some .int) 0 0 0 [.int (jI s)] ws (pI (fun z w => z = 1 ∧ w = ws)) := by
  refine XMet.of (L := [some (.int (jI s)), none]) hG (by decide +kernel) (Nat.le_of_ble_eq_true rfl) rfl (fun K C E => ?_)
  refine r_iload_0 C dJ10_numberOfTrailingZeros_0 ?_
  refine r_iconst C dJ10_numberOfTrailingZeros_1 ?_
  refine r_ixor C ((jI s ^^^ jI (-1)).toInt) dJ10_numberOfTrailingZeros_2 ((jI_of _).symm) ?_
  refine r_iload_0 C dJ10_numberOfTrailingZeros_3 ?_
  refine r_iconst C dJ10_numberOfTrailingZeros_4 ?_
  refine r_isub C dJ10_numberOfTrailingZeros_5 ?_
  refine r_iand C (1) dJ10_numberOfTrailingZeros_6 ((by rw [jI_of]; exact hx)) ?_
  refine r_istore_0 C dJ10_numberOfTrailingZeros_7 ?_
  refine r_iload_0 C dJ10_numberOfTrailingZeros_8 ?_
  refine r_ifgt (tgt := 17) C dJ10_numberOfTrailingZeros_9 (by decide) (fun c_9 => ?_) (fun c_9 => ?_)
  · skip
    refine r_iconst C dJ10_numberOfTrailingZeros_17 ?_
    refine r_istore_1 C dJ10_numberOfTrailingZeros_18 ?_
    refine r_iload_0 C dJ10_numberOfTrailingZeros_19 ?_
    refine r_ldc_w C 65536 q953 dJ10_numberOfTrailingZeros_20 ?_
    refine r_if_icmple (tgt := 34) C dJ10_numberOfTrailingZeros_23 (by decide) (fun c_23 => ?_) (fun c_23 => ?_)
    · skip
      refine r_iload_0 C dJ10_numberOfTrailingZeros_34 ?_
      refine r_sipush C dJ10_numberOfTrailingZeros_35 ?_
      refine r_if_icmple (tgt := 49) C dJ10_numberOfTrailingZeros_38 (by decide) (fun c_38 => ?_) (fun c_38 => ?_)
      · skip
        refine r_iload_0 C dJ10_numberOfTrailingZeros_49 ?_
        refine r_bipush C dJ10_numberOfTrailingZeros_50 ?_
        refine r_if_icmple (tgt := 62) C dJ10_numberOfTrailingZeros_52 (by decide) (fun c_52 => ?_) (fun c_52 => ?_)
        · skip
          refine r_iload_0 C dJ10_numberOfTrailingZeros_62 ?_
          refine r_iconst C dJ10_numberOfTrailingZeros_63 ?_
          refine r_if_icmple (tgt := 74) C dJ10_numberOfTrailingZeros_64 (by decide) (fun c_64 => ?_) (fun c_64 => ?_)
          · skip
            refine r_iload_1 C dJ10_numberOfTrailingZeros_74 ?_
            refine r_iload_0 C dJ10_numberOfTrailingZeros_75 ?_
            refine r_iconst C dJ10_numberOfTrailingZeros_76 ?_
            refine r_iushr C (0) dJ10_numberOfTrailingZeros_77 ((by decide)) ?_
            refine r_iadd C dJ10_numberOfTrailingZeros_78 ?_
            refine r_ireturn C E dJ10_numberOfTrailingZeros_79 ?_
            exact ⟨_, rfl, by decide, rfl⟩
          · skip
            omega
        · skip
          omega
      · skip
        omega
    · skip
      omega
  · skip
    omega
theorem c_ntz2 (hG : Gok g) {ws : va_W} {s : Int} (hx : (jI s ^^^ jI (-1)) &&& jI (s - 1) = jI 3) : XMet g yJ10_numberOfTrailingZeros cJ10_numberOfTrailingZeros 2 (some .int) 0 0 0 [.int (jI s)] ws (pI (fun z w => z = 2 ∧ w = ws)) := by
  refine XMet.of (L := [some (.int (jI s)), none]) hG (by decide +kernel) (Nat.le_of_ble_eq_true rfl) rfl (fun K C E => ?_)
  refine r_iload_0 C dJ10_numberOfTrailingZeros_0 ?_
  refine r_iconst C dJ10_numberOfTrailingZeros_1 ?_
  refine r_ixor C ((jI s ^^^ jI (-1)).toInt) dJ10_numberOfTrailingZeros_2 ((jI_of _).symm) ?_
  refine r_iload_0 C dJ10_numberOfTrailingZeros_3 ?_
  refine r_iconst C dJ10_numberOfTrailingZeros_4 ?_
  refine r_isub C dJ10_numberOfTrailingZeros_5 ?_
  refine r_iand C (3) dJ10_numberOfTrailingZeros_6 ((by rw [jI_of]; exact hx)) ?_
  refine r_istore_0 C dJ10_numberOfTrailingZeros_7 ?_
  refine r_iload_0 C dJ10_numberOfTrailingZeros_8 ?_
  refine r_ifgt (tgt := 17) C dJ10_numberOfTrailingZeros_9 (by decide) (fun c_9 => ?_) (fun c_9 => ?_)
  · skip
    refine r_iconst C dJ10_numberOfTrailingZeros_17 ?_
    refine r_istore_1 C dJ10_numberOfTrailingZeros_18 ?_
    refine r_iload_0 C dJ10_numberOfTrailingZeros_19 ?_
    refine r_ldc_w C 65536 q953 dJ10_numberOfTrailingZeros_20 ?_
    refine r_if_icmple (tgt := 34) C dJ10_numberOfTrailingZeros_23 (by decide) (fun c_23 => ?_) (fun c_23 => ?_)
    · skip
      refine r_iload_0 C dJ10_numberOfTrailingZeros_34 ?_
      refine r_sipush C dJ10_numberOfTrailingZeros_35 ?_
      refine r_if_icmple (tgt := 49) C dJ10_numberOfTrailingZeros_38 (by decide) (fun c_38 => ?_) (fun c_38 => ?_)
      · skip
        refine r_iload_0 C dJ10_numberOfTrailingZeros_49 ?_
        refine r_bipush C dJ10_numberOfTrailingZeros_50 ?_
        refine r_if_icmple (tgt := 62) C dJ10_numberOfTrailingZeros_52 (by decide) (fun c_52 => ?_) (fun c_52 => ?_)
        · skip
          refine r_iload_0 C dJ10_numberOfTrailingZeros_62 ?_
          refine r_iconst C dJ10_numberOfTrailingZeros_63 ?_
          refine r_if_icmple (tgt := 74) C dJ10_numberOfTrailingZeros_64 (by decide) (fun c_64 => ?_) (fun c_64 => ?_)
          · skip
            refine r_iload_1 C dJ10_numberOfTrailingZeros_74 ?_
            refine r_iload_0 C dJ10_numberOfTrailingZeros_75 ?_
            refine r_iconst C dJ10_numberOfTrailingZeros_76 ?_
            refine r_iushr C (1) dJ10_numberOfTrailingZeros_77 ((by decide)) ?_
            refine r_iadd C dJ10_numberOfTrailingZeros_78 ?_
            refine r_ireturn C E dJ10_numberOfTrailingZeros_79 ?_
            exact ⟨_, rfl, by decide, rfl⟩
          · skip
            omega
        · skip
          omega
      · skip
        omega
    · skip
      omega
  · skip
    omega
theorem c_ntz3 (hG : Gok g) {ws : va_W} {s : Int} (hx : (jI s ^^^ jI (-1)) &&& jI (s - 1) = jI 7) : XMet g yJ10_numberOfTrailingZeros cJ10_numberOfTrailingZeros 2 (some .int) 0 0 0 [.int (jI s)] ws (pI (fun z w => z = 3 ∧ w = ws)) := by
  refine XMet.of (L := [some (.int (jI s)), none]) hG (by decide +kernel) (Nat.le_of_ble_eq_true rfl) rfl (fun K C E => ?_)
  refine r_iload_0 C dJ10_numberOfTrailingZeros_0 ?_
  refine r_iconst C dJ10_numberOfTrailingZeros_1 ?_
  refine r_ixor C ((jI s ^^^ jI (-1)).toInt) dJ10_numberOfTrailingZeros_2 ((jI_of _).symm) ?_
  refine r_iload_0 C dJ10_numberOfTrailingZeros_3 ?_
  refine r_iconst C dJ10_numberOfTrailingZeros_4 ?_
  refine r_isub C dJ10_numberOfTrailingZeros_5 ?_
  refine r_iand C (7) dJ10_numberOfTrailingZeros_6 ((by rw [jI_of]; exact hx)) ?_
  refine r_istore_0 C dJ10_numberOfTrailingZeros_7 ?_
  refine r_iload_0 C dJ10_numberOfTrailingZeros_8 ?_
  refine r_ifgt (tgt := 17) C dJ10_numberOfTrailingZeros_9 (by decide) (fun c_9 => ?_) (fun c_9 => ?_)
  · skip
    refine r_iconst C dJ10_numberOfTrailingZeros_17 ?_
    refine r_istore_1 C dJ10_numberOfTrailingZeros_18 ?_
    refine r_iload_0 C dJ10_numberOfTrailingZeros_19 ?_
    refine r_ldc_w C 65536 q953 dJ10_numberOfTrailingZeros_20 ?_
    refine r_if_icmple (tgt := 34) C dJ10_numberOfTrailingZeros_23 (by decide) (fun c_23 => ?_) (fun c_23 => ?_)
    · skip
      refine r_iload_0 C dJ10_numberOfTrailingZeros_34 ?_
      refine r_sipush C dJ10_numberOfTrailingZeros_35 ?_
      refine r_if_icmple (tgt := 49) C dJ10_numberOfTrailingZeros_38 (by decide) (fun c_38 => ?_) (fun c_38 => ?_)
      · skip
        refine r_iload_0 C dJ10_numberOfTrailingZeros_49 ?_
        refine r_bipush C dJ10_numberOfTrailingZeros_50 ?_
        refine r_if_icmple (tgt := 62) C dJ10_numberOfTrailingZeros_52 (by decide) (fun c_52 => ?_) (fun c_52 => ?_)
        · skip
          refine r_iload_0 C dJ10_numberOfTrailingZeros_62 ?_
          refine r_iconst C dJ10_numberOfTrailingZeros_63 ?_
          refine r_if_icmple (tgt := 74) C dJ10_numberOfTrailingZeros_64 (by decide) (fun c_64 => ?_) (fun c_64 => ?_)
          · skip
            omega
          · skip
            skip
            refine r_iinc_1 C dJ10_numberOfTrailingZeros_67 ?_
            refine r_iload_0 C dJ10_numberOfTrailingZeros_70 ?_
            refine r_iconst C dJ10_numberOfTrailingZeros_71 ?_
            refine r_iushr C (1) dJ10_numberOfTrailingZeros_72 ((by decide)) ?_
            refine r_istore_0 C dJ10_numberOfTrailingZeros_73 ?_
            refine r_iload_1 C dJ10_numberOfTrailingZeros_74 ?_
            refine r_iload_0 C dJ10_numberOfTrailingZeros_75 ?_
            refine r_iconst C dJ10_numberOfTrailingZeros_76 ?_
            refine r_iushr C (0) dJ10_numberOfTrailingZeros_77 ((by decide)) ?_
            refine r_iadd C dJ10_numberOfTrailingZeros_78 ?_
            refine r_ireturn C E dJ10_numberOfTrailingZeros_79 ?_
            exact ⟨_, rfl, by decide, rfl⟩
        · skip
          omega
      · skip
        omega
    · skip
      omega
  · skip
    omega
theorem c_ntz4 (hG : Gok g) {ws : va_W} {s : Int} (hx : (jI s ^^^ jI (-1)) &&& jI (s - 1) = jI 15) : XMet g yJ10_numberOfTrailingZeros cJ10_numberOfTrailingZeros 2 (some .int) 0 0 0 [.int (jI s)] ws (pI (fun z w => z = 4 ∧ w = ws)) := by
  refine XMet.of (L := [some (.int (jI s)), none]) hG (by decide +kernel) (Nat.le_of_ble_eq_true rfl) rfl (fun K C E => ?_)
  refine r_iload_0 C dJ10_numberOfTrailingZeros_0 ?_
  refine r_iconst C dJ10_numberOfTrailingZeros_1 ?_
  refine r_ixor C ((jI s ^^^ jI (-1)).toInt) dJ10_numberOfTrailingZeros_2 ((jI_of _).symm) ?_
  refine r_iload_0 C dJ10_numberOfTrailingZeros_3 ?_
  refine r_iconst C dJ10_numberOfTrailingZeros_4 ?_
  refine r_isub C dJ10_numberOfTrailingZeros_5 ?_
  refine r_iand C (15) dJ10_numberOfTrailingZeros_6 ((by rw [jI_of]; exact hx)) ?_
  refine r_istore_0 C dJ10_numberOfTrailingZeros_7 ?_
  refine r_iload_0 C dJ10_numberOfTrailingZeros_8 ?_
  refine r_ifgt (tgt := 17) C dJ10_numberOfTrailingZeros_9 (by decide) (fun c_9 => ?_) (fun c_9 => ?_)
  · skip
    refine r_iconst C dJ10_numberOfTrailingZeros_17 ?_
    refine r_istore_1 C dJ10_numberOfTrailingZeros_18 ?_
    refine r_iload_0 C dJ10_numberOfTrailingZeros_19 ?_
    refine r_ldc_w C 65536 q953 dJ10_numberOfTrailingZeros_20 ?_
    refine r_if_icmple (tgt := 34) C dJ10_numberOfTrailingZeros_23 (by decide) (fun c_23 => ?_) (fun c_23 => ?_)
    · skip
      refine r_iload_0 C dJ10_numberOfTrailingZeros_34 ?_
      refine r_sipush C dJ10_numberOfTrailingZeros_35 ?_
      refine r_if_icmple (tgt := 49) C dJ10_numberOfTrailingZeros_38 (by decide) (fun c_38 => ?_) (fun c_38 => ?_)
      · skip
        refine r_iload_0 C dJ10_numberOfTrailingZeros_49 ?_
        refine r_bipush C dJ10_numberOfTrailingZeros_50 ?_
        refine r_if_icmple (tgt := 62) C dJ10_numberOfTrailingZeros_52 (by decide) (fun c_52 => ?_) (fun c_52 => ?_)
        · skip
          refine r_iload_0 C dJ10_numberOfTrailingZeros_62 ?_
          refine r_iconst C dJ10_numberOfTrailingZeros_63 ?_
          refine r_if_icmple (tgt := 74) C dJ10_numberOfTrailingZeros_64 (by decide) (fun c_64 => ?_) (fun c_64 => ?_)
          · skip
            omega
          · skip
            skip
            refine r_iinc_1 C dJ10_numberOfTrailingZeros_67 ?_
            refine r_iload_0 C dJ10_numberOfTrailingZeros_70 ?_
            refine r_iconst C dJ10_numberOfTrailingZeros_71 ?_
            refine r_iushr C (3) dJ10_numberOfTrailingZeros_72 ((by decide)) ?_
            refine r_istore_0 C dJ10_numberOfTrailingZeros_73 ?_
            refine r_iload_1 C dJ10_numberOfTrailingZeros_74 ?_
            refine r_iload_0 C dJ10_numberOfTrailingZeros_75 ?_
            refine r_iconst C dJ10_numberOfTrailingZeros_76 ?_
            refine r_iushr C (1) dJ10_numberOfTrailingZeros_77 ((by decide)) ?_
            refine r_iadd C dJ10_numberOfTrailingZeros_78 ?_
            refine r_ireturn C E dJ10_numberOfTrailingZeros_79 ?_
            exact ⟨_, rfl, by decide, rfl⟩
        · skip
          omega
      · skip
        omega
    · skip
      omega
  · skip
    omega
theorem c_ntz5 (hG : Gok g) {ws : va_W} {s : Int} (hx : (jI s ^^^ jI (-1)) &&& jI (s - 1) = jI 31) : XMet g yJ10_numberOfTrailingZeros cJ10_numberOfTrailingZeros 2 (some .int) 0 0 0 [.int (jI s)] ws (pI (fun z w => z = 5 ∧ w = ws)) := by
  refine XMet.of (L := [some (.int (jI s)), none]) hG (by decide +kernel) (Nat.le_of_ble_eq_true rfl) rfl (fun K C E => ?_)
  refine r_iload_0 C dJ10_numberOfTrailingZeros_0 ?_
  refine r_iconst C dJ10_numberOfTrailingZeros_1 ?_
  refine r_ixor C ((jI s ^^^ jI (-1)).toInt) dJ10_numberOfTrailingZeros_2 ((jI_of _).symm) ?_
  refine r_iload_0 C dJ10_numberOfTrailingZeros_3 ?_
  refine r_iconst C dJ10_numberOfTrailingZeros_4 ?_
  refine r_isub C dJ10_numberOfTrailingZeros_5 ?_
  refine r_iand C (31) dJ10_numberOfTrailingZeros_6 ((by rw [jI_of]; exact hx)) ?_
  refine r_istore_0 C dJ10_numberOfTrailingZeros_7 ?_
  refine r_iload_0 C dJ10_numberOfTrailingZeros_8 ?_
  refine r_ifgt (tgt := 17) C dJ10_numberOfTrailingZeros_9 (by decide) (fun c_9 => ?_) (fun c_9 => ?_)
  · skip
    refine r_iconst C dJ10_numberOfTrailingZeros_17 ?_
    refine r_istore_1 C dJ10_numberOfTrailingZeros_18 ?_
    refine r_iload_0 C dJ10_numberOfTrailingZeros_19 ?_
    refine r_ldc_w C 65536 q953 dJ10_numberOfTrailingZeros_20 ?_
    refine r_if_icmple (tgt := 34) C dJ10_numberOfTrailingZeros_23 (by decide) (fun c_23 => ?_) (fun c_23 => ?_)
    · skip
      refine r_iload_0 C dJ10_numberOfTrailingZeros_34 ?_
      refine r_sipush C dJ10_numberOfTrailingZeros_35 ?_
      refine r_if_icmple (tgt := 49) C dJ10_numberOfTrailingZeros_38 (by decide) (fun c_38 => ?_) (fun c_38 => ?_)
      · skip
        refine r_iload_0 C dJ10_numberOfTrailingZeros_49 ?_
        refine r_bipush C dJ10_numberOfTrailingZeros_50 ?_
        refine r_if_icmple (tgt := 62) C dJ10_numberOfTrailingZeros_52 (by decide) (fun c_52 => ?_) (fun c_52 => ?_)
        · skip
          omega
        · skip
          skip
          refine r_iinc_1 C dJ10_numberOfTrailingZeros_55 ?_
          refine r_iload_0 C dJ10_numberOfTrailingZeros_58 ?_
          refine r_iconst C dJ10_numberOfTrailingZeros_59 ?_
          refine r_iushr C (1) dJ10_numberOfTrailingZeros_60 ((by decide)) ?_
          refine r_istore_0 C dJ10_numberOfTrailingZeros_61 ?_
          refine r_iload_0 C dJ10_numberOfTrailingZeros_62 ?_
          refine r_iconst C dJ10_numberOfTrailingZeros_63 ?_
          refine r_if_icmple (tgt := 74) C dJ10_numberOfTrailingZeros_64 (by decide) (fun c_64 => ?_) (fun c_64 => ?_)
          · skip
            refine r_iload_1 C dJ10_numberOfTrailingZeros_74 ?_
            refine r_iload_0 C dJ10_numberOfTrailingZeros_75 ?_
            refine r_iconst C dJ10_numberOfTrailingZeros_76 ?_
            refine r_iushr C (0) dJ10_numberOfTrailingZeros_77 ((by decide)) ?_
            refine r_iadd C dJ10_numberOfTrailingZeros_78 ?_
            refine r_ireturn C E dJ10_numberOfTrailingZeros_79 ?_
            exact ⟨_, rfl, by decide, rfl⟩
          · skip
            omega
      · skip
        omega
    · skip
      omega
  · skip
    omega
theorem c_ntz6 (hG : Gok g) {ws : va_W} {s : Int} (hx : (jI s ^^^ jI (-1)) &&& jI (s - 1) = jI 63) : XMet g yJ10_numberOfTrailingZeros cJ10_numberOfTrailingZeros 2 (some .int) 0 0 0 [.int (jI s)] ws (pI (fun z w => z = 6 ∧ w = ws)) := by
  refine XMet.of (L := [some (.int (jI s)), none]) hG (by decide +kernel) (Nat.le_of_ble_eq_true rfl) rfl (fun K C E => ?_)
  refine r_iload_0 C dJ10_numberOfTrailingZeros_0 ?_
  refine r_iconst C dJ10_numberOfTrailingZeros_1 ?_
  refine r_ixor C ((jI s ^^^ jI (-1)).toInt) dJ10_numberOfTrailingZeros_2 ((jI_of _).symm) ?_
  refine r_iload_0 C dJ10_numberOfTrailingZeros_3 ?_
  refine r_iconst C dJ10_numberOfTrailingZeros_4 ?_
  refine r_isub C dJ10_numberOfTrailingZeros_5 ?_
  refine r_iand C (63) dJ10_numberOfTrailingZeros_6 ((by rw [jI_of]; exact hx)) ?_
  refine r_istore_0 C dJ10_numberOfTrailingZeros_7 ?_
  refine r_iload_0 C dJ10_numberOfTrailingZeros_8 ?_
  refine r_ifgt (tgt := 17) C dJ10_numberOfTrailingZeros_9 (by decide) (fun c_9 => ?_) (fun c_9 => ?_)
  · skip
    refine r_iconst C dJ10_numberOfTrailingZeros_17 ?_
    refine r_istore_1 C dJ10_numberOfTrailingZeros_18 ?_
    refine r_iload_0 C dJ10_numberOfTrailingZeros_19 ?_
    refine r_ldc_w C 65536 q953 dJ10_numberOfTrailingZeros_20 ?_
    refine r_if_icmple (tgt := 34) C dJ10_numberOfTrailingZeros_23 (by decide) (fun c_23 => ?_) (fun c_23 => ?_)
    · skip
      refine r_iload_0 C dJ10_numberOfTrailingZeros_34 ?_
      refine r_sipush C dJ10_numberOfTrailingZeros_35 ?_
      refine r_if_icmple (tgt := 49) C dJ10_numberOfTrailingZeros_38 (by decide) (fun c_38 => ?_) (fun c_38 => ?_)
      · skip
        refine r_iload_0 C dJ10_numberOfTrailingZeros_49 ?_
        refine r_bipush C dJ10_numberOfTrailingZeros_50 ?_
        refine r_if_icmple (tgt := 62) C dJ10_numberOfTrailingZeros_52 (by decide) (fun c_52 => ?_) (fun c_52 => ?_)
        · skip
          omega
        · skip
          skip
          refine r_iinc_1 C dJ10_numberOfTrailingZeros_55 ?_
          refine r_iload_0 C dJ10_numberOfTrailingZeros_58 ?_
          refine r_iconst C dJ10_numberOfTrailingZeros_59 ?_
          refine r_iushr C (3) dJ10_numberOfTrailingZeros_60 ((by decide)) ?_
          refine r_istore_0 C dJ10_numberOfTrailingZeros_61 ?_
          refine r_iload_0 C dJ10_numberOfTrailingZeros_62 ?_
          refine r_iconst C dJ10_numberOfTrailingZeros_63 ?_
          refine r_if_icmple (tgt := 74) C dJ10_numberOfTrailingZeros_64 (by decide) (fun c_64 => ?_) (fun c_64 => ?_)
          · skip
            refine r_iload_1 C dJ10_numberOfTrailingZeros_74 ?_
            refine r_iload_0 C dJ10_numberOfTrailingZeros_75 ?_
            refine r_iconst C dJ10_numberOfTrailingZeros_76 ?_
            refine r_iushr C (1) dJ10_numberOfTrailingZeros_77 ((by decide)) ?_
            refine r_iadd C dJ10_numberOfTrailingZeros_78 ?_
            refine r_ireturn C E dJ10_numberOfTrailingZeros_79 ?_
            exact ⟨_, rfl, by decide, rfl⟩
          · skip
            omega
      · skip
        omega
    · skip
      omega
  · skip
    omega
theorem c_ntz7 (hG : Gok g) {ws : va_W} {s : Int} (hx : (jI s ^^^ jI (-1)) &&& jI (s - 1) = jI 127) : XMet g yJ10_numberOfTrailingZeros cJ10_numberOfTrailingZeros 2 (some .int) 0 0 0 [.int (jI s)] ws (pI (fun z w => z = 7 ∧ w = ws)) := by
  refine XMet.of (L := [some (.int (jI s)), none]) hG (by decide +kernel) (Nat.le_of_ble_eq_true rfl) rfl (fun K C E => ?_)
  refine r_iload_0 C dJ10_numberOfTrailingZeros_0 ?_
  refine r_iconst C dJ10_numberOfTrailingZeros_1 ?_
  refine r_ixor C ((jI s ^^^ jI (-1)).toInt) dJ10_numberOfTrailingZeros_2 ((jI_of _).symm) ?_
  refine r_iload_0 C dJ10_numberOfTrailingZeros_3 ?_
  refine r_iconst C dJ10_numberOfTrailingZeros_4 ?_
  refine r_isub C dJ10_numberOfTrailingZeros_5 ?_
  refine r_iand C (127) dJ10_numberOfTrailingZeros_6 ((by rw [jI_of]; exact hx)) ?_
  refine r_istore_0 C dJ10_numberOfTrailingZeros_7 ?_
  refine r_iload_0 C dJ10_numberOfTrailingZeros_8 ?_
  refine r_ifgt (tgt := 17) C dJ10_numberOfTrailingZeros_9 (by decide) (fun c_9 => ?_) (fun c_9 => ?_)
  · skip
    refine r_iconst C dJ10_numberOfTrailingZeros_17 ?_
    refine r_istore_1 C dJ10_numberOfTrailingZeros_18 ?_
    refine r_iload_0 C dJ10_numberOfTrailingZeros_19 ?_
    refine r_ldc_w C 65536 q953 dJ10_numberOfTrailingZeros_20 ?_
    refine r_if_icmple (tgt := 34) C dJ10_numberOfTrailingZeros_23 (by decide) (fun c_23 => ?_) (fun c_23 => ?_)
    · skip
      refine r_iload_0 C dJ10_numberOfTrailingZeros_34 ?_
      refine r_sipush C dJ10_numberOfTrailingZeros_35 ?_
      refine r_if_icmple (tgt := 49) C dJ10_numberOfTrailingZeros_38 (by decide) (fun c_38 => ?_) (fun c_38 => ?_)
      · skip
        refine r_iload_0 C dJ10_numberOfTrailingZeros_49 ?_
        refine r_bipush C dJ10_numberOfTrailingZeros_50 ?_
        refine r_if_icmple (tgt := 62) C dJ10_numberOfTrailingZeros_52 (by decide) (fun c_52 => ?_) (fun c_52 => ?_)
        · skip
          omega
        · skip
          skip
          refine r_iinc_1 C dJ10_numberOfTrailingZeros_55 ?_
          refine r_iload_0 C dJ10_numberOfTrailingZeros_58 ?_
          refine r_iconst C dJ10_numberOfTrailingZeros_59 ?_
          refine r_iushr C (7) dJ10_numberOfTrailingZeros_60 ((by decide)) ?_
          refine r_istore_0 C dJ10_numberOfTrailingZeros_61 ?_
          refine r_iload_0 C dJ10_numberOfTrailingZeros_62 ?_
          refine r_iconst C dJ10_numberOfTrailingZeros_63 ?_
          refine r_if_icmple (tgt := 74) C dJ10_numberOfTrailingZeros_64 (by decide) (fun c_64 => ?_) (fun c_64 => ?_)
          · skip
            omega
          · skip
            skip
            refine r_iinc_1 C dJ10_numberOfTrailingZeros_67 ?_
            refine r_iload_0 C dJ10_numberOfTrailingZeros_70 ?_
            refine r_iconst C dJ10_numberOfTrailingZeros_71 ?_
            refine r_iushr C (1) dJ10_numberOfTrailingZeros_72 ((by decide)) ?_
            refine r_istore_0 C dJ10_numberOfTrailingZeros_73 ?_
            refine r_iload_1 C dJ10_numberOfTrailingZeros_74 ?_
            refine r_iload_0 C dJ10_numberOfTrailingZeros_75 ?_
            refine r_iconst C dJ10_numberOfTrailingZeros_76 ?_
            refine r_iushr C (0) dJ10_numberOfTrailingZeros_77 ((by decide)) ?_
            refine r_iadd C dJ10_numberOfTrailingZeros_78 ?_
            refine r_ireturn C E dJ10_numberOfTrailingZeros_79 ?_
            exact ⟨_, rfl, by decide, rfl⟩
      · skip
        omega
    · skip
      omega
  · skip
    omega
theorem c_ntz8 (hG : Gok g) {ws : va_W} {s : Int} (hx : (jI s ^^^ jI (-1)) &&& jI (s - 1) = jI 255) : XMet g yJ10_numberOfTrailingZeros cJ10_numberOfTrailingZeros 2 (some .int) 0 0 0 [.int (jI s)] ws (pI (fun z w => z = 8 ∧ w = ws)) := by
  refine XMet.of (L := [some (.int (jI s)), none]) hG (by decide +kernel) (Nat.le_of_ble_eq_true rfl) rfl (fun K C E => ?_)
  refine r_iload_0 C dJ10_numberOfTrailingZeros_0 ?_
  refine r_iconst C dJ10_numberOfTrailingZeros_1 ?_
  refine r_ixor C ((jI s ^^^ jI (-1)).toInt) dJ10_numberOfTrailingZeros_2 ((jI_of _).symm) ?_
  refine r_iload_0 C dJ10_numberOfTrailingZeros_3 ?_
  refine r_iconst C dJ10_numberOfTrailingZeros_4 ?_
  refine r_isub C dJ10_numberOfTrailingZeros_5 ?_
  refine r_iand C (255) dJ10_numberOfTrailingZeros_6 ((by rw [jI_of]; exact hx)) ?_
  refine r_istore_0 C dJ10_numberOfTrailingZeros_7 ?_
  refine r_iload_0 C dJ10_numberOfTrailingZeros_8 ?_
  refine r_ifgt (tgt := 17) C dJ10_numberOfTrailingZeros_9 (by decide) (fun c_9 => ?_) (fun c_9 => ?_)
  · skip
    refine r_iconst C dJ10_numberOfTrailingZeros_17 ?_
    refine r_istore_1 C dJ10_numberOfTrailingZeros_18 ?_
    refine r_iload_0 C dJ10_numberOfTrailingZeros_19 ?_
    refine r_ldc_w C 65536 q953 dJ10_numberOfTrailingZeros_20 ?_
    refine r_if_icmple (tgt := 34) C dJ10_numberOfTrailingZeros_23 (by decide) (fun c_23 => ?_) (fun c_23 => ?_)
    · skip
      refine r_iload_0 C dJ10_numberOfTrailingZeros_34 ?_
      refine r_sipush C dJ10_numberOfTrailingZeros_35 ?_
      refine r_if_icmple (tgt := 49) C dJ10_numberOfTrailingZeros_38 (by decide) (fun c_38 => ?_) (fun c_38 => ?_)
      · skip
        refine r_iload_0 C dJ10_numberOfTrailingZeros_49 ?_
        refine r_bipush C dJ10_numberOfTrailingZeros_50 ?_
        refine r_if_icmple (tgt := 62) C dJ10_numberOfTrailingZeros_52 (by decide) (fun c_52 => ?_) (fun c_52 => ?_)
        · skip
          omega
        · skip
          skip
          refine r_iinc_1 C dJ10_numberOfTrailingZeros_55 ?_
          refine r_iload_0 C dJ10_numberOfTrailingZeros_58 ?_
          refine r_iconst C dJ10_numberOfTrailingZeros_59 ?_
          refine r_iushr C (15) dJ10_numberOfTrailingZeros_60 ((by decide)) ?_
          refine r_istore_0 C dJ10_numberOfTrailingZeros_61 ?_
          refine r_iload_0 C dJ10_numberOfTrailingZeros_62 ?_
          refine r_iconst C dJ10_numberOfTrailingZeros_63 ?_
          refine r_if_icmple (tgt := 74) C dJ10_numberOfTrailingZeros_64 (by decide) (fun c_64 => ?_) (fun c_64 => ?_)
          · skip
            omega
          · skip
            skip
            refine r_iinc_1 C dJ10_numberOfTrailingZeros_67 ?_
            refine r_iload_0 C dJ10_numberOfTrailingZeros_70 ?_
            refine r_iconst C dJ10_numberOfTrailingZeros_71 ?_
            refine r_iushr C (3) dJ10_numberOfTrailingZeros_72 ((by decide)) ?_
            refine r_istore_0 C dJ10_numberOfTrailingZeros_73 ?_
            refine r_iload_1 C dJ10_numberOfTrailingZeros_74 ?_
            refine r_iload_0 C dJ10_numberOfTrailingZeros_75 ?_
            refine r_iconst C dJ10_numberOfTrailingZeros_76 ?_
            refine r_iushr C (1) dJ10_numberOfTrailingZeros_77 ((by decide)) ?_
            refine r_iadd C dJ10_numberOfTrailingZeros_78 ?_
            refine r_ireturn C E dJ10_numberOfTrailingZeros_79 ?_
            exact ⟨_, rfl, by decide, rfl⟩
      · skip
        omega
    · skip
      omega
  · skip
    omega
end XI

