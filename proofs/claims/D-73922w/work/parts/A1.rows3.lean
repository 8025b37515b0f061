/-! arrays of references, class objects: rows -/
abbrev qs (f : Nat → Option Nat) : (Nat → Int32) ⊕ ((Nat → Int64) ⊕ ((Nat → UInt32) ⊕ ((Nat → UInt64) ⊕ (Nat → Option Nat)))) := .inr (.inr (.inr (.inr f)))
/-- static facts: arrays over these classes, the class object of Object[] -/
def GA (g : GX) (mi : Nat) : Prop := ∀ (A : Nat → Prop) (U : State) (H : Heap), g.2.2.2 A U H → va_AO "java/lang/Object" U ∧ va_AO "SupplyGrid$Told" U ∧ va_Mi "[Ljava/lang/Object;" mi U
/-- a new array of references is the world's first cell -/
theorem r_newq {g : GX} {K : KY} {d : Nat} {cc : ByteArray} {own : String} {ws : va_W} {k n pc idx : Nat} {L : List (Option Value)} {st : List Value} (C : Cok g K d cc own) {N : Nat} {z : Int} {Cn : String} (t0 : Nat) (hO : ∀ (A : Nat → Prop) (U : State) (H : Heap), g.2.2.2 A U H → va_AO Cn U) (ht : (tyA g.2.2.1)[t0]? = some (g.2.2.1 t0, .object Cn)) (q : Cond.classLink own idx Cn ∈ lw_all) (dd : decode cc pc = .ok (.anewarray idx, 3)) (hz : z = N) (hN : N ≤ 1000) (kk : ∀ a : Nat, AW g K ((a, .inl (g.2.2.1 t0, N, qs (fun _ => none))) :: ws) k n (pc + 3) L (.ref a :: st)) : AW g K ws (k + 1) (n + N) pc L (.int (jI z) :: st) := by
  have kp : ∀ a : Nat, AW g K (ws ++ [(a, .inl (g.2.2.1 t0, N, qs (fun _ => none)))]) k n (pc + 3) L (.ref a :: st) := fun a => AW.perm (List.perm_append_singleton _ _) (kk a)
  obtain ⟨l, D, dA, F⟩ := g
  obtain ⟨⟨p, e, R, s, m, args, below, meth, c⟩, A, nL, Q, mc, ms⟩ := K
  obtain ⟨hG, hx, hb, hml, hown, hts, hK, hF, hA, hlk, hdR, hlo, hmc, hms⟩ := C
  intro H locs ls cells slots h1 h2 hP hD hS hL
  subst hz
  have hn0 : ¬ jI (N : Int) < 0 := by
    rw [← jI_0, jI_lt (by unfold inR; omega) (by unfold inR; omega)]
    omega
  have hnN : (jI (N : Int)).toNatClampNeg = N := by
    rw [jI_clamp (by omega) (by omega)]
    omega
  refine va_newq (N' := N) hx hb hown (hts _ q) (hO A s _ hF) hK hP hD hS hA hn0 hnN (by omega) (by omega) (by omega) dd ?_
  intro a cA H1 hK1 hP1 hD1 hS1
  have e1 : dA t0 = cA := by
    have r1' := va_nmO (hK.2 t0 _ ht).2 rfl
    have r2' := va_nmO (hK1.2 7 (cA, .object Cn) rfl).2 rfl
    rw [r1'] at r2'
    exact Option.some.inj r2'
  subst e1
  exact kp a H1 locs ls (cells + 1) (slots + N) (by omega) (by omega) hP1 hD1 hS1 hL
/-- what an array of objects holds are objects of the world -/
def ElOk (ws : va_W) (f : Nat → Option Nat) (n : Nat) : Prop := ∀ i y : Nat, i < n → f i = some y → ∃ (qk ci : Nat) (vs : List Value) (r : vw_C), ws[qk]? = some (y, .inr (ci, vs)) ∧ vCl[ci]? = some r ∧ Cond.castable r.1 "java/lang/Object" ∈ nwl
theorem ElOk.cons {ws : va_W} {f : Nat → Option Nat} {n : Nat} {x : Nat × va_E} (h : ElOk ws f n) : ElOk (x :: ws) f n := by
  intro i y hi hy
  obtain ⟨qk, ci, vs, r, h1, h2, h3⟩ := h i y hi hy
  exact ⟨qk + 1, ci, vs, r, by simpa using h1, h2, h3⟩
theorem ElOk.app {ws wt : va_W} {f : Nat → Option Nat} {n : Nat} (h : ElOk wt f n) : ElOk (ws ++ wt) f n := by
  induction ws with
  | nil => exact h
  | cons x ws ih => exact ih.cons
theorem ElOk.cpy {ws : va_W} {f f' : Nat → Option Nat} {n : Nat} (h : ElOk ws f n) : ElOk ws (va_cpy f f' 0 0 n) n := by
  intro i y hi hy
  refine h i y hi ?_
  unfold va_cpy at hy
  rw [if_pos ⟨Nat.zero_le _, by omega⟩] at hy
  rw [← hy]
  congr 1
  omega
section CopyQ
variable {p : Program} {l : Launch} {e : Env} {R : Room} {s : State} {m : MethodId} {args : Array Value} {below : List Frame} {meth : Method} {c : Code} {H : Heap} {locs : List Loc} {cells slots : Nat} {Q : State → Prop}
variable {pc : Nat} {ls : Array Slot} {rest : List Value} {D : va_G} {cl : List vw_C} {A : Nat → Prop} {a : Nat} {tys : List (ClassId × FieldType)} {ws : va_W} {H0 : Heap}
/-- the kit's va_copyq, for elements of several classes -/
theorem xx_copyq {cc : ByteArray} (hexec : p.tables.exec = Jvm.exec) (hb : c.code = cc) (hml : c.maxLocals = ls.size) {own : String} {index : Nat} (hown : s.vm.findClass own = some m.cls) (hlink : (Cond.methodLink own index arraycopyName).before args s = true) (hnat : (Cond.native arraycopyName).before args s = true) (hstat : (Cond.static arraycopyName).before args s = true) (hini : (Cond.initialized "java/lang/System").before args s = true)
    (hK : va_K D cl tys s) (hP : va_P D cl ws H) (hD : va_D A ws) (hS : va_S A H0 H locs) (q0 q1 t0 t1 : Nat) {a0 : Nat} {c0 c1 : ClassId} {n0 n1 : Nat} {f g : Nat → Option Nat} {E0 E1 : String} (ha0 : ws[q0]? = some (a0, .inl (c0, n0, .inr (.inr (.inr (.inr f)))))) (ha1 : ws[q1]? = some (a, .inl (c1, n1, .inr (.inr (.inr (.inr g)))))) (ht0 : tys[t0]? = some (c0, .object E0)) (ht1 : tys[t1]? = some (c1, .object E1))
    {sp dp n : Int32} (h1 : ¬ sp < 0) (h2 : ¬ dp < 0) (h3 : ¬ n < 0) (h4 : sp.toNatClampNeg + n.toNatClampNeg ≤ n0) (h5 : dp.toNatClampNeg + n.toNatClampNeg ≤ n1) (hel : ∀ i : Nat, i < n.toNatClampNeg → ∀ y : Nat, f (sp.toNatClampNeg + i) = some y → ∃ cellV : Cell, H[y]? = some cellV ∧ cellV.vm.isStatics = false ∧ ∃ Cn : String, s.vm.findClass Cn = some cellV.cls ∧ ∀ comp : ClassId, s.vm.findClass E1 = some comp → s.vm.assignable cellV.cls comp = true)
    (hframes : 1 ≤ R.frames) (hlocals : (rest.map fun v => v.category).sum + (nativeFrameWords "java/lang/System" "arraycopy" 5 + 11) ≤ R.locals) (hdg : decode cc pc = .ok (.invokestatic index, 3))
    (kk : ∀ (H1 : Heap) (locs1 : List Loc), va_P D cl (ws.set q1 (a, .inl (c1, n1, .inr (.inr (.inr (.inr (va_cpy f g sp.toNatClampNeg dp.toNatClampNeg n.toNatClampNeg))))))) H1 → va_D A (ws.set q1 (a, .inl (c1, n1, .inr (.inr (.inr (.inr (va_cpy f g sp.toNatClampNeg dp.toNatClampNeg n.toNatClampNeg))))))) → va_S A H0 H1 locs1 → W p l e R s m args below meth c H1 locs1 cells slots Q (F0 m (pc + 3) ls rest)) : W p l e R s m args below meth c H locs cells slots Q (F0 m pc ls (.int n :: .int dp :: .ref a :: .int sp :: .ref a0 :: rest)) := by
  have nn : ∀ z : Int32, ¬ z < 0 → z.toInt = (z.toNatClampNeg : Int) := by
    intro z hz
    have hz0 : (0 : Int) ≤ z.toInt := by
      have := Int32.not_lt.mp hz
      simpa using Int32.le_iff_toInt_le.mp this
    show z.toInt = ((z.toInt.toNat : Nat) : Int)
    omega
  intro T hT X
  have hc0 : H[a0]? = some (vp_cell c0 (n0, .inr (.inr (.inr (.inr f))))) := hP q0 _ ha0
  have hc1 : H[a]? = some (vp_cell c1 (n1, .inr (.inr (.inr (.inr g))))) := hP q1 _ ha1
  obtain ⟨-, k0, hk0, cm0, hkk0⟩ := (hK.2 t0 _ ht0).1 n0 (fun j => va_rf (f j))
  obtain ⟨-, k1, hk1, cm1, hkk1⟩ := (hK.2 t1 _ ht1).1 n1 (fun j => va_rf (g j))
  obtain ⟨vm', X', step⟩ := X.arraycopy hexec hown hlink hnat hstat hini (src := a0) (dst := a) (cs := vp_cell c0 (n0, .inr (.inr (.inr (.inr f))))) (cd := vp_cell c1 (n1, .inr (.inr (.inr (.inr g))))) (srcPos := sp) (destPos := dp) (n := n) (by rw [hT]; exact hc0) (by rw [hT]; exact hc1)
    (fun _ h => by cases h) (fun _ h => by cases h) (fun h => by cases h) (fun h => by cases h) hk0 hk1 hkk0 hkk1 rfl h1 h2 h3
    (by rw [nn sp h1, nn n h3]; show ¬ _ > ((arrV c0 n0 (fun j => va_rf (f j))).slots.size : Int); rw [arrV_size]; omega)
    (by rw [nn dp h2, nn n h3]; show ¬ _ > ((arrV c1 n1 (fun j => va_rf (g j))).slots.size : Int); rw [arrV_size]; omega)
    (fun vm₁ hal i hi => by
      have e : (vp_cell c0 (n0, .inr (.inr (.inr (.inr f))))).slots.getD (sp.toNatClampNeg + i) .null = va_rf (f (sp.toNatClampNeg + i)) := by
        show (arrV c0 n0 (fun j => va_rf (f j))).slots.getD _ _ = _
        rw [Array.getD_eq_getD_getElem?, arrV_read _ _ (by omega)]
        rfl
      rw [e]
      cases hy : f (sp.toNatClampNeg + i) with
      | none => exact ⟨rfl, trivial⟩
      | some y =>
        obtain ⟨cellV, g1, g2, Cn, g3, g4⟩ := hel i hi y hy
        obtain ⟨kA, comp, r1, r2, r3, -⟩ := (hK.2 t1 _ ht1).2
        cases hk1.symm.trans r1
        cases hkk1.symm.trans r2
        obtain ⟨kC, hkC, -⟩ := Vm.findClass_spec g3
        obtain ⟨kE, hkE, -⟩ := Vm.findClass_spec r3
        obtain ⟨kC', hkC', -⟩ := hal.2.2 _ _ hkC
        obtain ⟨kE', hkE', -⟩ := hal.2.2 _ _ hkE
        refine ⟨rfl, cellV, (show T.heap[y]? = some cellV by rw [hT]; exact g1), (fun q h => by rw [h] at g2; cases g2), ⟨kC', hkC'⟩, ?_, ?_⟩
        · exact ⟨kE', hkE'⟩
        · show vm₁.assignable _ _ = true
          rw [hal.assignable]
          exact g4 _ r3)
    (g := F0 m pc ls (.int n :: .int dp :: .ref a :: .int sp :: .ref a0 :: rest)) rfl (by rw [hml]) (rest := rest) rfl (by rw [hb]; exact hdg) hframes (by show 2 * 0 + _ + _ ≤ _; omega)
  have e1 : copied (vp_cell c0 (n0, .inr (.inr (.inr (.inr f))))) (vp_cell c1 (n1, .inr (.inr (.inr (.inr g))))) sp dp n = vp_cell c1 (n1, .inr (.inr (.inr (.inr (va_cpy f g sp.toNatClampNeg dp.toNatClampNeg n.toNatClampNeg))))) := by
    rw [vp_cell_q, vp_cell_q, vp_cell_q]
    exact va_copied (fun z => va_rf z) c0 c1 f g h4
  rw [e1] at X' step
  have hl : a < H.size := (Array.getElem?_eq_some_iff.mp hc1).1
  have hheap : ((T.setVm vm').setCell a (vp_cell c1 (n1, .inr (.inr (.inr (.inr (va_cpy f g sp.toNatClampNeg dp.toNatClampNeg n.toNatClampNeg))))))).heap = H.setIfInBounds a (vp_cell c1 (n1, .inr (.inr (.inr (.inr (va_cpy f g sp.toNatClampNeg dp.toNatClampNeg n.toNatClampNeg)))))) := by rw [← hT]; rfl
  have oq : ∀ q : Nat, q ≠ a → (H.setIfInBounds a (vp_cell c1 (n1, .inr (.inr (.inr (.inr (va_cpy f g sp.toNatClampNeg dp.toNatClampNeg n.toNatClampNeg)))))))[q]? = H[q]? := fun q hq => by simp [Array.getElem?_setIfInBounds, Ne.symm hq]
  obtain ⟨t, a1, b1⟩ := kk _ _ (hP.set hD ha1 (show (H.setIfInBounds a _)[a]? = some _ by simp [Array.getElem?_setIfInBounds, hl]) oq) (hD.set ha1) ⟨by simp; exact hS.1, fun q g1 g2 => by
      rw [oq q (fun e => g2 (by rw [e]; exact hD.2 q1 _ ha1))]
      exact hS.2.1 q g1 g2, fun q hq => by
      rcases List.mem_append.mp hq with h | h
      · exact hS.2.2 q h
      · obtain ⟨z, -, hz⟩ := List.mem_map.mp h
        rw [← hz]
        exact hD.2 q1 _ ha1⟩ _ hheap X'
  exact ⟨t, step t a1, b1⟩
end CopyQ
theorem r_copyq {g : GX} {K : KY} {d : Nat} {cc : ByteArray} {own : String} {ws : va_W} {k n pc : Nat} {L : List (Option Value)} {st : List Value} (C : Cok g K d cc own) {a a0 N0 N m : Nat} {z : Int} {f f' : Nat → Option Nat} (q0 q1 : Nat) (ha0 : ws[q0]? = some (a0, .inl (g.2.2.1 4, N0, qs f))) (ha1 : ws[q1]? = some (a, .inl (g.2.2.1 4, N, qs f'))) {index : Nat} (q : Cond.methodLink own index arraycopyName ∈ lw_all) (dd : decode cc pc = .ok (.invokestatic index, 3)) (hz : z = m) (hm1 : m ≤ N0) (hm2 : m ≤ N) (hN : N ≤ 1000) (hel : ElOk ws f m) (hd0 : 1 ≤ d) (hrm : (st.map fun v => v.category).sum ≤ 8)
    (kk : AW g K (ws.set q1 (a, .inl (g.2.2.1 4, N, qs (va_cpy f f' 0 0 m)))) k n (pc + 3) L st) : AW g K ws k n pc L (.int (jI z) :: .int (jI 0) :: .ref a :: .int (jI 0) :: .ref a0 :: st) := by
  subst hz
  have hw : nativeFrameWords "java/lang/System" "arraycopy" 5 ≤ 30 := by decide +kernel
  have e0 : ¬ jI 0 < 0 := by decide
  have em : ¬ jI (m : Int) < 0 := by
    rw [show (0 : Int32) = jI 0 from rfl, jI_lt (a := m) (b := 0) ⟨by omega, by omega⟩ ⟨by omega, by omega⟩]
    omega
  have c0 : (jI 0).toNatClampNeg = 0 := jI_clamp (Int.le_refl 0) (by omega)
  have cm : (jI (m : Int)).toNatClampNeg = m := by
    rw [jI_clamp (by omega) (by omega)]
    omega
  refine AW.mem C (fun hx hb hown hts hnw hK hP hD hS hF hml hfr hlo w => xx_copyq hx hb hml hown (hts _ q) (hts _ q712) (hts _ q711) (hts _ q139) hK hP hD hS q0 q1 4 4 ha0 ha1 rfl rfl e0 e0 em ?_ ?_ ?_ ?_ ?_ dd (by rw [c0, cm]; exact w)) kk
  · rw [c0, cm]; omega
  · rw [c0, cm]; omega
  · intro i hi y hy
    rw [cm] at hi
    rw [c0, Nat.zero_add] at hy
    obtain ⟨qk, ci, vs, r, k1, k2, k3⟩ := hel i y hi hy
    obtain ⟨cell, g1, g2, g3⟩ := va_recv hK hP k2 k1
    refine ⟨cell, g1, g2, r.1, g3, fun comp hc => ?_⟩
    obtain ⟨c1, t1, f1, f2, f3⟩ := Cond.castable_spec (va_Nw.use (A := #[]) rfl (hnw _ k3))
    cases g3.symm.trans f1
    cases hc.symm.trans f2
    exact f3
  · omega
  · omega
theorem r_getC {g : GX} {K : KY} {d : Nat} {cc : ByteArray} {own : String} {ws : va_W} {k n pc idx mi : Nat} {L : List (Option Value)} {st : List Value} (C : Cok g K d cc own) (Z : GA g mi) {a N : Nat} {f : Nat → Option Nat} (q0 : Nat) (ha : ws[q0]? = some (a, .inl (g.2.2.1 4, N, qs f))) (q : Cond.methodLink own idx ⟨"java/lang/Object", "getClass", "()Ljava/lang/Class;"⟩ ∈ lw_all) (hd0 : 1 ≤ d) (hrm : (st.map fun v => v.category).sum ≤ 8) (dd : decode cc pc = .ok (.invokevirtual idx, 3)) (kk : AW g K ws k n (pc + 3) L (.ref mi :: st)) : AW g K ws k n pc L (.ref a :: st) :=
  AW.mem C (fun hx hb hown hts hnw hK hP hD hS hF hml hfr hlo w => va_getC hx hb hml hown (hts _ q) (va_Nw.use rfl (hnw _ (nw_in q2117 rfl))) (hts _ q2116) (hts _ q1204) (hts _ q1219) (Z _ _ _ hF).2.2 ⟨_, hP q0 _ ha, rfl, va_nmO (hK.2 4 _ rfl).2 rfl⟩ (by omega) (by omega) dd (w _ _ hP hD hS)) kk
theorem r_ldcM {g : GX} {K : KY} {d : Nat} {cc : ByteArray} {own : String} {ws : va_W} {k n pc idx mi : Nat} {L : List (Option Value)} {st : List Value} (C : Cok g K d cc own) (Z : GA g mi) (q : Cond.classLink own idx "[Ljava/lang/Object;" ∈ lw_all) (dd : decode cc pc = .ok (.ldc idx, 2)) (kk : AW g K ws k n (pc + 2) L (.ref mi :: st)) : AW g K ws k n pc L st :=
  AW.mem C (fun hx hb hown hts hnw hK hP hD hS hF hml hfr hlo w => va_ldcM hx hb hown (hts _ q) (Z _ _ _ hF).2.2 dd (w _ _ hP hD hS)) kk
theorem r_acmpneE {g : GX} {K : KY} {d : Nat} {cc : ByteArray} {own : String} {ws : va_W} {k n pc x tgt : Nat} {off : Int} {L : List (Option Value)} {st : List Value} (C : Cok g K d cc own) (dd : decode cc pc = .ok (.if_acmp .ne off, 3)) (ht : (pc : Int) + off = (tgt : Int)) (kk : AW g K ws k n (pc + 3) L st) : AW g K ws k n pc L (.ref x :: .ref x :: st) :=
  AW.op C (fun hx hb hown hts hml hfr hl w => lv_acmp_ne (rx := some x) (ry := some x) hx hb dd ht (fun h => absurd rfl h) (fun _ => w)) kk
theorem r_ifnonnullR {g : GX} {K : KY} {d : Nat} {cc : ByteArray} {own : String} {ws : va_W} {k n pc x tgt : Nat} {off : Int} {L : List (Option Value)} {st : List Value} (C : Cok g K d cc own) (dd : decode cc pc = .ok (.ifnonnull off, 3)) (ht : (pc : Int) + off = (tgt : Int)) (kk : AW g K ws k n tgt L st) : AW g K ws k n pc L (.ref x :: st) :=
  AW.op C (fun hx hb hown hts hml hfr hl w => lv_ifnonnull hx hb dd ht w) kk
theorem r_ifnonnullN {g : GX} {K : KY} {d : Nat} {cc : ByteArray} {own : String} {ws : va_W} {k n pc : Nat} {off : Int} {L : List (Option Value)} {st : List Value} (C : Cok g K d cc own) (dd : decode cc pc = .ok (.ifnonnull off, 3)) (kk : AW g K ws k n (pc + 3) L st) : AW g K ws k n pc L (.null :: st) :=
  AW.op C (fun hx hb hown hts hml hfr hl w => lv_ifnonnullN hx hb dd w) kk
