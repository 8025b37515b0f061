/-! a put into a field whose name no other field of the object has (others may share theirs) -/
theorem va_slot1 {cell : Cell} {N : Nat} {iS : Nat → Nat} {V : Nat → Value} {k : Nat} (h : ∀ j, j < N → cell.slots[iS j]? = some (V j)) (hk : k < N) (hap : ∀ j, j < N → j ≠ k → iS k ≠ iS j) (v : Value) : ∀ j, j < N → (cell.setSlot (iS k) v).slots[iS j]? = some (updV V k v j) := by
  intro j hj
  by_cases e : j = k
  · rw [e, Cell.slots_setSlot_self _ (k2_hasslot (h k hk))]
    simp [updV]
  · rw [slot_ne _ _ (hap j hj e), h j hj]
    simp [updV, e]
theorem va_put1 {p : Program} {l : Launch} {e : Env} {R : Room} {s : State} {m : MethodId} {args : Array Value} {below : List Frame} {meth : Method} {c : Code} {H H0 : Heap} {locs : List Loc} {cells slots : Nat} {Q : State → Prop} {cc : ByteArray} {pc : Nat} {ls : Array Slot} {rest : List Value} {D : va_G} {cl : List vw_C} {A : Nat → Prop} {a : Nat} {tys : List (ClassId × FieldType)} {ws : va_W} (hexec : p.tables.exec = Jvm.exec) (hb : c.code = cc) {own ref C : String} {T : u_T} {N ci index : Nat} {Ts : List Cond} (hts : ∀ w ∈ Ts, w.before args s = true) (hin : ∀ w ∈ u_ws C T N, w ∈ Ts) (ty0 : Nat → FieldType) (hty : ∀ k, k < N → parseFieldDescriptor (T k).2.2.1 = some (ty0 k)) (k : Nat) (hk : k < N) (hnm : ∀ b, b < N → b ≠ k → (T k).2.1 ≠ (T b).2.1) (hown : s.vm.findClass own = some m.cls) (hK : va_K D cl tys s) (hP : va_P D cl ws H) (hD : va_D A ws) (hS0 : va_S A H0 H locs) (q0 : Nat) {fs : List Value} (he : ws[q0]? = some (a, .inr (ci, fs))) (hc : cl[ci]? = some (C, T, N)) (hlink : (Cond.fieldLink own index ref (T k).2.1 (T k).2.2.1).before args s = true) (hsame : ∀ x, s.fieldFound? (T k).1 (T k).2.1 (T k).2.2.1 = some x → s.fieldFound? ref (T k).2.1 (T k).2.2.1 = some x) (hfin : (T k).2.2.2 = false) {ty : FieldType} {v : Value} (hd : parseFieldDescriptor (T k).2.2.1 = some ty) (hn : narrow ty v = v) (hfit : fits ty v = true) (hl : k < fs.length)
    (hdg : decode cc pc = .ok (.putfield index, 3)) (kk : ∀ (H1 : Heap) (locs1 : List Loc), va_P D cl (ws.set q0 (a, .inr (ci, fs.set k v))) H1 → va_D A (ws.set q0 (a, .inr (ci, fs.set k v))) → va_S A H0 H1 locs1 → W p l e R s m args below meth c H1 locs1 cells slots Q (F0 m (pc + 3) ls rest)) : W p l e R s m args below meth c H locs cells slots Q (F0 m pc ls (v :: .ref a :: rest)) := by
  obtain ⟨hS, hfc, kC, hkC, hkind⟩ := hK.1 ci _ hc
  obtain ⟨cf, kf, fi, f, hi, hsl⟩ := hS k hk
  have hap : ∀ j, j < N → j ≠ k → (D.2 ci) k ≠ (D.2 ci) j := by
    intro j hj hne
    obtain ⟨_, _, _, fb, hib, eb⟩ := hS j hj
    rw [← hsl, ← eb]
    refine u_apart (u_lays hts hin hk) (u_lays hts hin hj) hi hib ?_
    rw [(State.fieldFound?_type hi (hty k hk)).1, (State.fieldFound?_type hib (hty j hj)).1]
    exact hnm j hj hne
  obtain ⟨r, h1, cell, q1, q2, q3, q4⟩ := hP q0 _ he
  have hr : r = (C, T, N) := Option.some.inj (h1.symm.trans hc)
  subst hr
  have hlay := hts _ (hin _ (u_in_lay hk))
  unfold u_lay at hlay
  rw [if_neg (by rw [hfin]; decide)] at hlay
  have hst := (u_facts hfc hkC (u_lays hts hin hk) hi).1
  have h6 := u_store hfc hkC hkind hlay hi hd hn hfit
  refine W.putK hexec hb (f := f) ⟨hown, hlink, ⟨_, _, _, hsame _ hi⟩, hst⟩ (by rw [q2]; exact h6) q1 q3 (by rw [hsl]; exact k2_hasslot (q4 k hk)) rfl rfl hdg fun H' e1 e2 e3 => ?_
  rw [hsl] at e1 ⊢
  exact kk H' _ (hP.set hD he ⟨_, hc, t_OB.to (V := updV (vp_V fs) k v) ⟨_, e1, q2, q3, va_slot1 q4 hk hap v⟩ (fun j _ => vp_updV_set hl v j)⟩ e3) (hD.set he) (hS0.put e2 e3 (hD.2 q0 _ he))
theorem nmX4_1 : ∀ k, (k = 3 ∨ k = 4 ∨ k = 9 ∨ k = 10) → ∀ b, b < 12 → b ≠ k → (TX4 k).2.1 ≠ (TX4 b).2.1 := by
  intro k hk
  rcases hk with rfl | rfl | rfl | rfl <;> decide +kernel
theorem r_put4 {g : GX} {K : KY} {d : Nat} {cc : ByteArray} {own : String} {ws : va_W} {k n pc : Nat} {L : List (Option Value)} {st : List Value} (C : Cok g K d cc own) {ref : String} {index a : Nat} {fs : List Value} {v : Value} {ty : FieldType} (q0 : Nat) (he : ws[q0]? = some (a, .inr (2, fs))) (kf : Nat) (hk : kf = 3 ∨ kf = 4 ∨ kf = 9 ∨ kf = 10) (q : Cond.fieldLink own index ref (TX4 kf).2.1 (TX4 kf).2.2.1 ∈ lw_all) (hsame : (TX4 kf).1 = ref) (hfin : (TX4 kf).2.2.2 = false) (hd : parseFieldDescriptor (TX4 kf).2.2.1 = some ty) (hn : narrow ty v = v) (hfit : fits ty v = true) (hl : kf < fs.length) (dd : decode cc pc = .ok (.putfield index, 3))
    (kk : AW g K (ws.set q0 (a, .inr (2, fs.set kf v))) k n (pc + 3) L st) : AW g K ws k n pc L (v :: .ref a :: st) :=
  AW.mem C (fun hx hb hown hts hnw hK hP hD hS hF hml hfr hlo w => va_put1 hx hb hts in_X4 tyX4 tyX4_ok kf (by omega) (nmX4_1 kf hk) hown hK hP hD hS q0 he rfl (hts _ q) (fun _ h => hsame ▸ h) hfin hd hn hfit hl dd w) kk
theorem r_put4I {g : GX} {K : KY} {d : Nat} {cc : ByteArray} {own : String} {ws : va_W} {k n pc : Nat} {L : List (Option Value)} {st : List Value} (C : Cok g K d cc own) {ref : String} {index a : Nat} {fs : List Value} {v : Value} {ty : FieldType} (q0 : Nat) (he : ws[q0]? = some (a, .inr (2, fs))) (kf : Nat) (hk : kf = 3 ∨ kf = 4 ∨ kf = 9 ∨ kf = 10) (q : Cond.fieldLink own index ref (TX4 kf).2.1 (TX4 kf).2.2.1 ∈ lw_all) (q2 : Cond.sameField ref (TX4 kf).1 (TX4 kf).2.1 (TX4 kf).2.2.1 ∈ lw_all) (hfin : (TX4 kf).2.2.2 = false) (hd : parseFieldDescriptor (TX4 kf).2.2.1 = some ty) (hn : narrow ty v = v) (hfit : fits ty v = true) (hl : kf < fs.length) (dd : decode cc pc = .ok (.putfield index, 3))
    (kk : AW g K (ws.set q0 (a, .inr (2, fs.set kf v))) k n (pc + 3) L st) : AW g K ws k n pc L (v :: .ref a :: st) :=
  AW.mem C (fun hx hb hown hts hnw hK hP hD hS hF hml hfr hlo w => va_put1 hx hb hts in_X4 tyX4 tyX4_ok kf (by omega) (nmX4_1 kf hk) hown hK hP hD hS q0 he rfl (hts _ q) (u_same (hts _ q2)) hfin hd hn hfit hl dd w) kk
/-- a reference out of an array: one that is not null -/
theorem r_aald {g : GX} {K : KY} {d : Nat} {cc : ByteArray} {own : String} {ws : va_W} {k n pc : Nat} {L : List (Option Value)} {st : List Value} (C : Cok g K d cc own) {a N y : Nat} {f : Nat → Option Nat} {i : Int} {ty : FieldType} (t0 q0 : Nat) (ha : ws[q0]? = some (a, .inl (g.2.2.1 t0, N, .inr (.inr (.inr (.inr f)))))) (ht : (tyA g.2.2.1)[t0]? = some (g.2.2.1 t0, ty)) (hty : ty.isReference = true) (dd : decode cc pc = .ok (.aaload, 1)) (h0 : 0 ≤ i) (h1 : i < N) (hN : N ≤ 2147483647) (hy : f i.toNat = some y)
    (kk : AW g K ws k n (pc + 1) L (.ref y :: st)) : AW g K ws k n pc L (.int (jI i) :: .ref a :: st) :=
  AW.mem C (fun hx hb hown hts hnw hK hP hD hS hF hml hfr hlo w => by
    have hv := jI_vp h0 h1 hN
    have hlt : (jI i).toNatClampNeg < N := Nat.not_le.mp fun q => hv (Or.inr q)
    have e : va_rf (f (jI i).toNatClampNeg) = .ref y := by rw [jI_clamp h0 (by omega), hy]; rfl
    refine W.aald (v := .ref y) (ty := ty) hx hb (hP q0 _ ha) ((hK.2 t0 _ ht).1 N (fun j => va_rf (f j))) hty (fun q => by cases q) (by show ¬ (jI i < 0 ∨ (arrV _ _ _).slots.size ≤ _); rw [arrV_size]; exact hv) (by show (arrV _ _ _).slots[_]? = _; rw [arrV_read _ _ hlt, e]) rfl rfl dd (w _ _ hP hD hS)) kk
