/-! more rows: tableswitch -/
theorem r_tsC {g : GX} {K : KY} {d : Nat} {cc : ByteArray} {own : String} {ws : va_W} {k n pc : Nat} {L : List (Option Value)} {st : List Value} {z dflt lo hi : Int} {offs : Array Int} {len : Nat} {off : Int} {tgt : Nat} (i : Nat) (v : Int) (C : Cok g K d cc own) (dd : decode cc pc = .ok (.tableswitch dflt lo hi offs, len)) (hv : v = lo + i) (hhi : v ≤ hi) (ho : offs[i]? = some off) (ht : (pc : Int) + off = (tgt : Int)) (k1 : z = v → AW g K ws k n tgt L st) (k2 : z ≠ v → AW g K ws k n pc L (.int (jI z) :: st)) (hz : inR z := by first | assumption | (unfold inR; omega)) : AW g K ws k n pc L (.int (jI z) :: st) := by
  by_cases e : z = v
  · refine AW.op C (fun hx hb hown hts hml hfr hl w => ?_) (k1 e)
    refine lv_tableIn hx hb dd (off := off) ?_ ?_ ?_ ht w
    · rw [jI_toInt hz]; omega
    · rw [jI_toInt hz]; omega
    · rw [jI_toInt hz, show (z - lo).toNat = i by omega]; exact ho
  · exact k2 e
theorem r_tsO {g : GX} {K : KY} {d : Nat} {cc : ByteArray} {own : String} {ws : va_W} {k n pc : Nat} {L : List (Option Value)} {st : List Value} {z dflt lo hi : Int} {offs : Array Int} {len : Nat} {tgt : Nat} (C : Cok g K d cc own) (dd : decode cc pc = .ok (.tableswitch dflt lo hi offs, len)) (h : z < lo ∨ hi < z) (ht : (pc : Int) + dflt = (tgt : Int)) (kk : AW g K ws k n tgt L st) (hz : inR z := by first | assumption | (unfold inR; omega)) : AW g K ws k n pc L (.int (jI z) :: st) :=
  AW.op C (fun hx hb hown hts hml hfr hl w => lv_tableOut hx hb dd (by rw [jI_toInt hz]; exact h) ht w) kk
/-- a branch by a truth value -/
theorem r_ifeqB {g : GX} {K : KY} {d : Nat} {cc : ByteArray} {own : String} {ws : va_W} {k n pc : Nat} {L : List (Option Value)} {st : List Value} {P : Prop} [hdec : Decidable P] {off : Int} {tgt : Nat} (C : Cok g K d cc own) (dd : decode cc pc = .ok (.ifCond .eq off, 3)) (ht : (pc : Int) + off = (tgt : Int)) (k1 : ¬ P → AW g K ws k n tgt L st) (k2 : P → AW g K ws k n (pc + 3) L st) : AW g K ws k n pc L (.int (jI (if P then 1 else 0)) :: st) :=
  r_ifeq C dd ht (fun c => k1 (fun h => by rw [if_pos h] at c; omega)) (fun c => k2 (Classical.byContradiction fun h => c (if_neg h))) (by unfold inR; split <;> omega)
theorem r_ifneB {g : GX} {K : KY} {d : Nat} {cc : ByteArray} {own : String} {ws : va_W} {k n pc : Nat} {L : List (Option Value)} {st : List Value} {P : Prop} [hdec : Decidable P] {off : Int} {tgt : Nat} (C : Cok g K d cc own) (dd : decode cc pc = .ok (.ifCond .ne off, 3)) (ht : (pc : Int) + off = (tgt : Int)) (k1 : P → AW g K ws k n tgt L st) (k2 : ¬ P → AW g K ws k n (pc + 3) L st) : AW g K ws k n pc L (.int (jI (if P then 1 else 0)) :: st) :=
  r_ifne C dd ht (fun c => k1 (Classical.byContradiction fun h => c (if_neg h))) (fun c => k2 (fun h => by rw [if_pos h] at c; omega)) (by unfold inR; split <;> omega)
/-- one that returns a truth value -/
theorem r_zreturnB {g : GX} {K : KY} {d : Nat} {cc : ByteArray} {own : String} {ws : va_W} {k n pc : Nat} {L : List (Option Value)} {post : Option Value → va_W → Prop} {P : Prop} [hdec : Decidable P] (C : Cok g K d cc own) (E : Kend g K (some .boolean) post) (dd : decode cc pc = .ok (.ireturn, 1)) (h : post (some (.int (jI (if P then 1 else 0)))) ws) : AW g K ws k n pc L [.int (jI (if P then 1 else 0))] :=
  r_zreturn C E dd (by split <;> omega) h
