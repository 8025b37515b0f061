/-! contracts over AW: XMet; ends and calls -/
def rmD (d mc ms : Nat) : Room := { frames := d, cells := mc, slots := ms, locals := 64 * d }
def XPc (g : GX) (av : List Value) (ws : va_W) (sz : Nat) : Array Value → State → Prop := va_Pc av (fun U => U.heap.size = sz ∧ va_P g.2.1 vCl ws U.heap ∧ va_D (fun _ => True) ws ∧ va_K g.2.1 vCl (tyA g.2.2.1) U ∧ g.2.2.2 (va_A ws sz) U U.heap)
def XQc (g : GX) (post : Option Value → va_W → Prop) (A : Nat → Prop) : Array Value → State → Outcome → State → Prop := fun _ st oc t => (∃ (r : Option Value) (ws' : va_W), oc = .returned r ∧ post r ws' ∧ va_P g.2.1 vCl ws' t.heap ∧ va_D A ws') ∧ va_F A st t
/-- from a world ws the method y, called with av, returns r in a world ws' with 'post r ws'' -/
def XMet (g : GX) (y : MethodName) (cc : ByteArray) (nL : Nat) (ret : Option FieldType) (d mc ms : Nat) (av : List Value) (ws : va_W) (post : Option Value → va_W → Prop) : Prop :=
  ∀ sz : Nat, Met g.1 y (ws_ y cc nL ret) (rmD d mc ms) (XPc g av ws sz) (XQc g post (va_A ws sz)) mc ms (va_A ws sz)
def Kend (g : GX) (K : KY) (ret : Option FieldType) (post : Option Value → va_W → Prop) : Prop := match K with
  | ((_, _, _, s, _, args, below, meth, _), A, _, Q, mc, ms) => Q = MQ below (XQc g post A) args s mc ms A ∧ meth.sig.returnType = ret
def lo_sl (av : List Value) : List (Option Value) := av.flatMap fun v => if v.category = 2 then [some v, none] else [some v]
def lo_av (av : List Value) (nL : Nat) : List (Option Value) := lo_sl av ++ List.replicate (nL - (lo_sl av).length) none
theorem lo_rep : ∀ (m k : Nat), lo_e k (List.replicate m none) = []
  | 0, _ => rfl
  | m + 1, k => by rw [List.replicate_succ, lo_e]; exact lo_rep m (k + 1)
theorem lo_ent : ∀ (av : List Value) (k m : Nat), lo_e k (lo_sl av ++ List.replicate m none) = lv_args k av
  | [], k, m => by simp [lo_sl, lv_args, lo_rep]
  | v :: vs, k, m => by
    have ih1 := lo_ent vs (k + 1) m
    have ih2 := lo_ent vs (k + 2) m
    unfold lo_sl at ih1 ih2 ⊢
    rw [List.flatMap_cons, lv_args]
    by_cases h : v.category = 2
    · rw [if_pos h, if_pos h]
      simp only [List.cons_append, List.nil_append, lo_e]
      rw [ih2]
    · rw [if_neg h, if_neg h]
      simp only [List.cons_append, List.nil_append, lo_e]
      rw [ih1]
theorem lo_len (av : List Value) : (lo_sl av).length = (lg_sl av).length := by
  induction av with
  | nil => rfl
  | cons v vs ih =>
    unfold lo_sl lg_sl at ih ⊢
    rw [List.flatMap_cons, List.flatMap_cons, List.length_append, List.length_append, ih]
    by_cases h : v.category = 2 <;> simp [h]
theorem XMet.of {g : GX} {y : MethodName} {cc : ByteArray} {nL : Nat} {ret : Option FieldType} {d mc ms : Nat} {av : List Value} {ws : va_W} {post : Option Value → va_W → Prop} {L : List (Option Value)} (hG : Gok g) (hy : plainName y.cls = true) (hn : (lg_sl av).length ≤ nL) (hL : lo_av av nL = L)
    (body : ∀ K : KY, Cok g K d cc y.cls → Kend g K ret post → AW g K ws mc ms 0 L []) : XMet g y cc nL ret d mc ms av ws post := by
  intro sz
  refine Met.ofW (cc := cc) (maxL := nL) (ret := ret) hy rfl ?_
  intro p e s m args below meth c s₁ B hml hv
  obtain ⟨rfl, hsz, hP, hD0, hK, hF⟩ := hv
  subst hsz
  subst hL
  obtain ⟨l, D, dA, F⟩ := g
  have hts := atoms_spec (ws := ws_ y cc nL ret) B.pre
  have h1 := body ((p, e, (headSpec (ws_ y cc nL ret) (rmD d mc ms)).room, s, m, av.toArray, below, meth, c), va_A ws s.heap.size, nL, MQ below (XQc (l, D, dA, F) post (va_A ws s.heap.size)) av.toArray s mc ms (va_A ws s.heap.size), mc, ms)
    ⟨hG, B.exec, B.bytes, hml, findClass_of_methodNamed B.named, fun w h => hts w (List.mem_cons_of_mem _ h), hK, hF, fun q h => Or.inr h, B.notSynchronized, Nat.le_refl _, Nat.le_refl _, Nat.le_refl _, Nat.le_refl _⟩ ⟨rfl, B.returns⟩
  rw [lg_entry_eq]
  refine h1 s.heap [] _ 0 0 (by omega) (by omega) hP hD0.self va_S.rf ⟨?_, ?_⟩
  · unfold lo_av
    rw [List.length_append, List.length_replicate, lo_len]
    omega
  · unfold lo_av
    rw [lo_ent]
    exact lv_entry av hn
/-- what a stronger end gives -/
theorem XMet.mono {g : GX} {y : MethodName} {cc : ByteArray} {nL : Nat} {ret : Option FieldType} {d mc ms : Nat} {av : List Value} {ws : va_W} {post post' : Option Value → va_W → Prop} (h : XMet g y cc nL ret d mc ms av ws post) (hp : ∀ r w, post r w → post' r w) : XMet g y cc nL ret d mc ms av ws post' := by
  intro sz p e ha hc hk s m args below hf happ hP hK
  obtain ⟨n, o, h1, h2, h3, ⟨⟨⟨r, w, e1, e2, e3⟩, e4⟩, e5⟩⟩ := h sz p e ha hc hk s m args below hf happ hP hK
  exact ⟨n, o, h1, h2, h3, ⟨⟨⟨r, w, e1, hp r w e2, e3⟩, e4⟩, e5⟩⟩
section Ends
variable {g : GX} {K : KY} {d : Nat} {cc : ByteArray} {own : String} {ws : va_W} {k n pc : Nat} {L : List (Option Value)} {post : Option Value → va_W → Prop}
theorem r_ireturn (C : Cok g K d cc own) (E : Kend g K (some .int) post) {z : Int} (dd : decode cc pc = .ok (.ireturn, 1)) (h : post (some (.int (jI z))) ws) : AW g K ws k n pc L [.int (jI z)] := by
  obtain ⟨l, D, dA, F⟩ := g
  obtain ⟨⟨p, e, R, s, m, args, below, meth, c⟩, A, nL, Q, mc, ms⟩ := K
  obtain ⟨-, hx, hb, hml, hown, hts, hK, hF, hA, hlk, hd, hlo, hmc, hms⟩ := C
  obtain ⟨rfl, hr⟩ := E
  intro H locs ls cells slots h1 h2 hP hD hS hL
  refine W.widen (k := mc) (n := ms) (by omega) (by omega) ?_
  exact W.iret hx hb hr (fun t ht hW => ⟨⟨_, ws, rfl, h, by rw [ht]; exact hP, hD⟩, hS.F ht⟩) hS.2.2 dd hlk
theorem r_zreturn (C : Cok g K d cc own) (E : Kend g K (some .boolean) post) {z : Int} (dd : decode cc pc = .ok (.ireturn, 1)) (hz : z = 0 ∨ z = 1) (h : post (some (.int (jI z))) ws) : AW g K ws k n pc L [.int (jI z)] := by
  obtain ⟨l, D, dA, F⟩ := g
  obtain ⟨⟨p, e, R, s, m, args, below, meth, c⟩, A, nL, Q, mc, ms⟩ := K
  obtain ⟨-, hx, hb, hml, hown, hts, hK, hF, hA, hlk, hd, hlo, hmc, hms⟩ := C
  obtain ⟨rfl, hr⟩ := E
  intro H locs ls cells slots h1 h2 hP hD hS hL
  refine W.widen (k := mc) (n := ms) (by omega) (by omega) ?_
  exact W.zret hx hb hr (by rcases hz with rfl | rfl <;> rfl) (fun t ht hW => ⟨⟨_, ws, rfl, h, by rw [ht]; exact hP, hD⟩, hS.F ht⟩) hS.2.2 dd hlk
theorem r_lreturn (C : Cok g K d cc own) (E : Kend g K (some .long) post) {z : Int} (dd : decode cc pc = .ok (.lreturn, 1)) (h : post (some (.long (jL z))) ws) : AW g K ws k n pc L [.long (jL z)] := by
  obtain ⟨l, D, dA, F⟩ := g
  obtain ⟨⟨p, e, R, s, m, args, below, meth, c⟩, A, nL, Q, mc, ms⟩ := K
  obtain ⟨-, hx, hb, hml, hown, hts, hK, hF, hA, hlk, hd, hlo, hmc, hms⟩ := C
  obtain ⟨rfl, hr⟩ := E
  intro H locs ls cells slots h1 h2 hP hD hS hL
  refine W.widen (k := mc) (n := ms) (by omega) (by omega) ?_
  exact W.lret hx hb hr (fun t ht hW => ⟨⟨_, ws, rfl, h, by rw [ht]; exact hP, hD⟩, hS.F ht⟩) hS.2.2 dd hlk
theorem r_return (C : Cok g K d cc own) (E : Kend g K none post) (dd : decode cc pc = .ok (.return_, 1)) (h : post none ws) : AW g K ws k n pc L [] := by
  obtain ⟨l, D, dA, F⟩ := g
  obtain ⟨⟨p, e, R, s, m, args, below, meth, c⟩, A, nL, Q, mc, ms⟩ := K
  obtain ⟨-, hx, hb, hml, hown, hts, hK, hF, hA, hlk, hd, hlo, hmc, hms⟩ := C
  obtain ⟨rfl, hr⟩ := E
  intro H locs ls cells slots h1 h2 hP hD hS hL
  refine W.widen (k := mc) (n := ms) (by omega) (by omega) ?_
  exact W.vret hx hb hr (fun t ht hW => ⟨⟨_, ws, rfl, h, by rw [ht]; exact hP, hD⟩, hS.F ht⟩) hS.2.2 dd hlk
theorem r_areturn (C : Cok g K d cc own) {rt : FieldType} (E : Kend g K (some rt) post) (hrt : (∃ n, rt = .object n) ∨ ∃ t, rt = .array t) {a : Nat} (dd : decode cc pc = .ok (.areturn, 1)) (h : post (some (.ref a)) ws) : AW g K ws k n pc L [.ref a] := by
  obtain ⟨l, D, dA, F⟩ := g
  obtain ⟨⟨p, e, R, s, m, args, below, meth, c⟩, A, nL, Q, mc, ms⟩ := K
  obtain ⟨-, hx, hb, hml, hown, hts, hK, hF, hA, hlk, hd, hlo, hmc, hms⟩ := C
  obtain ⟨rfl, hr⟩ := E
  intro H locs ls cells slots h1 h2 hP hD hS hL
  refine W.widen (k := mc) (n := ms) (by omega) (by omega) ?_
  exact W.aret hx hb hr hrt (Or.inr ⟨a, rfl⟩) (fun t ht hW => ⟨⟨_, ws, rfl, h, by rw [ht]; exact hP, hD⟩, hS.F ht⟩) hS.2.2 dd hlk
end Ends
theorem x_call {p : Program} {l : Launch} {e : Env} {R : Room} {s : State} {m : MethodId} {args : Array Value} {below : List Frame} {meth : Method} {c : Code} {H : Heap} {locs : List Loc} {cells slots : Nat} {Q : State → Prop} {pc : Nat} {ls : Array Slot} {rest st0 : List Value} {a : Array Value} {A0 A1 : Nat → Prop} {H0 : Heap} {mc ms : Nat} {free : Addr → Prop} {g : GX} {post : Option Value → va_W → Prop}
    (hr : va_Run p l e R s m args below meth c H locs cells slots mc ms (F0 m pc ls st0) rest (XQc g post A1 a) free) (hS : va_S A0 H0 H locs) (hA : ∀ q, A1 q → A0 q) (hf : ∀ q, free q → A0 q)
    (kk : ∀ (r : Option Value) (ws' : va_W) (H1 : Heap) (locs1 : List Loc), post r ws' → va_P g.2.1 vCl ws' H1 → va_D A0 ws' → va_S A0 H0 H1 locs1 → W p l e R s m args below meth c H1 locs1 (cells + mc) (slots + ms) Q (F0 m (pc + 3) ls (r.toList ++ rest))) : W p l e R s m args below meth c H locs cells slots Q (F0 m pc ls st0) := by
  intro T hT X
  obtain ⟨v, st₀, t, T', L, h0, X', hL, e1, e2, ⟨⟨r, ws', hv, hp, hP, hD⟩, hz, hk⟩, st⟩ := hr T hT X
  cases hv
  rw [h0] at hz hk
  obtain ⟨t2, a1, b1⟩ := kk v ws' T'.heap (locs ++ L) hp (by rw [e1]; exact hP) (hD.weaken (fun _ q _ h => hA q.1 h))
    ⟨Nat.le_trans hS.1 (by rw [e1]; exact hz), fun q h1 h2 => by rw [e1, hk q (Nat.lt_of_lt_of_le h1 hS.1) (fun z => h2 (hA q z))]; exact hS.2.1 q h1 h2, fun q hq => by
      rcases List.mem_append.mp hq with h | h
      · exact hS.2.2 q h
      · exact hf _ (hL q h)⟩ T' rfl X'
  exact ⟨t2, st t2 a1, b1⟩
/-- the world's addresses, and what is new: within the caller's -/
theorem x_free {A0 : Nat → Prop} {ws : va_W} {H0 H : Heap} {locs : List Loc} (hD : va_D A0 ws) (hS : va_S A0 H0 H locs) (hA : ∀ q, H0.size ≤ q → A0 q) : ∀ q, va_A ws H.size q → A0 q := by
  intro q h
  rcases h with ⟨k, e, h⟩ | h
  · exact hD.2 k (q, e) h
  · exact hA q (Nat.le_trans hS.1 h)
theorem x_pre {g : GX} {s : State} {H : Heap} {A : Nat → Prop} {ws : va_W} {locs : List Loc} {av : List Value} (hG : Gok g) (hP : va_P g.2.1 vCl ws H) (hD : va_D A ws) (hS : va_S A s.heap H locs) (hA : ∀ q, s.heap.size ≤ q → A q) (hK : va_K g.2.1 vCl (tyA g.2.2.1) s) (hF : g.2.2.2 A s s.heap) :
    FrameBlind (XPc g av ws H.size) ∧ ∀ U : State, U.heap = H → s.WarmedH U.vm → XPc g av ws H.size av.toArray U := by
  obtain ⟨l, D, dA, F⟩ := g
  refine ⟨fun a U g' mk q => ?_, fun U hU hW => ?_⟩
  · obtain ⟨q0, q1, qP, qD, qK, qF⟩ := q
    exact ⟨q0, q1, qP, qD, va_K.moved (u := U) (U := U.calling g' mk a) (Vm.Alike.refl U.vm) qK, hG.2.1 _ U (U.calling g' mk a) _ rfl qF⟩
  · refine ⟨rfl, by rw [hU], by rw [hU]; exact hP, hD.weaken (fun _ _ _ _ => trivial), va_K.moved hW.alike hK, ?_⟩
    rw [hU]
    exact hG.1 _ s U H hW (hG.2.2.2.1 _ _ _ _ (hG.2.2.1 _ _ _ H hF hS.2.1) (x_free hD hS hA))

/-! kinds of answers -/
def pI (f : Int → va_W → Prop) : Option Value → va_W → Prop := fun r w => ∃ z : Int, r = some (.int (jI z)) ∧ f z w
def pL (f : Int → va_W → Prop) : Option Value → va_W → Prop := fun r w => ∃ z : Int, r = some (.long (jL z)) ∧ f z w
def pV (f : va_W → Prop) : Option Value → va_W → Prop := fun r w => r = none ∧ f w
def pA (f : Nat → va_W → Prop) : Option Value → va_W → Prop := fun r w => ∃ a : Nat, r = some (.ref a) ∧ f a w
/-- what the tables say of a static method, of one that is called through an object of its own class -/
def PkS (y : MethodName) (cc : ByteArray) (nL : Nat) (ret : Option FieldType) (n : Nat) : Prop := Cond.static y ∈ lw_all ∧ Cond.initialized y.cls ∈ lw_all ∧ Cond.code y cc nL ret ∈ lw_all ∧ nL ≤ 45 ∧ y.cls ≠ "java/lang/invoke/MethodHandle" ∧ y.cls ≠ "java/lang/invoke/VarHandle" ∧ (parseMethodDescriptor y.desc).map (fun d => d.parameters.length) = some n
def PkV (y : MethodName) (cc : ByteArray) (nL : Nat) (ret : Option FieldType) (n : Nat) : Prop := Cond.instanceMethod y ∈ lw_all ∧ Cond.selects y.cls y y ∈ lw_all ∧ Cond.initialized y.cls ∈ lw_all ∧ Cond.code y cc nL ret ∈ lw_all ∧ nL ≤ 45 ∧ y.cls ≠ "java/lang/invoke/MethodHandle" ∧ y.cls ≠ "java/lang/invoke/VarHandle" ∧ (parseMethodDescriptor y.desc).map (fun d => d.parameters.length) = some n
theorem mR_sum {m : MethodId} {pc : Nat} {ls : Array Slot} {st rest : List Value} (h : (rest.map fun v => v.category).sum ≤ 8) : 2 * (F0 m pc ls st).monitorRoom + (rest.map fun v => v.category).sum ≤ 8 := lv_room h
theorem r_callS {g : GX} {K : KY} {d : Nat} {cc : ByteArray} {own : String} {ws : va_W} {k n pc : Nat} {L : List (Option Value)} {st rest : List Value} {post : Option Value → va_W → Prop} {y : MethodName} {cc' : ByteArray} {nL' : Nat} {ret : Option FieldType} {d' mc' ms' idx : Nat} {av : List Value} (C : Cok g K d cc own) (hM : XMet g y cc' nL' ret d' mc' ms' av ws post) (q : Cond.methodLink own idx y ∈ lw_all) (pk : PkS y cc' nL' ret av.length) (hd : d' < d) (hk : mc' ≤ k) (hn : ms' ≤ n) (hst : st = av.reverse ++ rest) (hrm : (rest.map fun v => v.category).sum ≤ 8) (dd : decode cc pc = .ok (.invokestatic idx, 3))
    (kk : ∀ r ws', post r ws' → AW g K ws' (k - mc') (n - ms') (pc + 3) L (r.toList ++ rest)) : AW g K ws k n pc L st := by
  subst hst
  obtain ⟨l, D, dA, F⟩ := g
  obtain ⟨⟨p, e, R, s, m, args, below, meth, c⟩, A, nL, Q, mc, ms⟩ := K
  obtain ⟨hG, hx, hb, hml, hown, hts, hK, hF, hA, hlk, hdR, hlo, hmc, hms⟩ := C
  obtain ⟨p1, p2, p3, p4, p5⟩ := pk
  intro H locs ls cells slots h1 h2 hP hD hS hL
  have hfr := x_free hD hS hA
  refine x_call (mc := mc') (ms := ms') (va_runS (As := av) (rest := rest) ⟨hx, hb, hml, hown, hts⟩ (hM H.size) (va_cwS av.length hts (lw_S q p1 p2 p3) rfl rfl rfl p5 ⟨show d' + 1 ≤ R.frames by omega, show 8 + (nL' + 11) + 64 * d' ≤ R.locals by omega⟩) (x_pre hG hP hD hS hA hK hF) rfl rfl hL.2.1 rfl (mR_sum hrm) dd ⟨by omega, by omega⟩) hS hfr hfr ?_
  intro r ws' H1 locs1 e1 e2 e3 e4
  exact kk r ws' e1 H1 locs1 ls (cells + mc') (slots + ms') (by omega) (by omega) e2 e3 e4 hL
theorem r_callV {g : GX} {K : KY} {d : Nat} {cc : ByteArray} {own : String} {ws : va_W} {k n pc : Nat} {L : List (Option Value)} {st rest : List Value} {post : Option Value → va_W → Prop} {y : MethodName} {cc' : ByteArray} {nL' : Nat} {ret : Option FieldType} {d' mc' ms' idx : Nat} {av : List Value} {b : Nat} (C : Cok g K d cc own) (hM : XMet g y cc' nL' ret d' mc' ms' (.ref b :: av) ws post) {q0 ci : Nat} {fs : List Value} {T : u_T} {N : Nat} (he : ws[q0]? = some (b, .inr (ci, fs))) (hc : vCl[ci]? = some (y.cls, T, N)) (q : Cond.methodLink own idx y ∈ lw_all) (pk : PkV y cc' nL' ret av.length) (hd : d' < d) (hk : mc' ≤ k) (hn : ms' ≤ n) (hst : st = av.reverse ++ .ref b :: rest) (hrm : (rest.map fun v => v.category).sum ≤ 8) (dd : decode cc pc = .ok (.invokevirtual idx, 3))
    (kk : ∀ r ws', post r ws' → AW g K ws' (k - mc') (n - ms') (pc + 3) L (r.toList ++ rest)) : AW g K ws k n pc L st := by
  subst hst
  obtain ⟨l, D, dA, F⟩ := g
  obtain ⟨⟨p, e, R, s, m, args, below, meth, c⟩, A, nL, Q, mc, ms⟩ := K
  obtain ⟨hG, hx, hb, hml, hown, hts, hK, hF, hA, hlk, hdR, hlo, hmc, hms⟩ := C
  obtain ⟨p1, p2, p3, p4, p5, p6⟩ := pk
  intro H locs ls cells slots h1 h2 hP hD hS hL
  have hfr := x_free hD hS hA
  have hpre := x_pre (av := .ref b :: av) hG hP hD hS hA hK hF
  refine x_call (mc := mc') (ms := ms') (va_runV (As := av) (rest := rest) ⟨hx, hb, hml, hown, hts⟩ (hM H.size) (cwV av.length hts (lw_V q p1 p2 p3 p4) rfl rfl rfl ⟨rfl, p6⟩ ⟨show d' + 1 ≤ R.frames by omega, show 8 + (nL' + 11) + 64 * d' ≤ R.locals by omega⟩) ⟨hpre.1, va_recv hK hP hc he, hpre.2⟩ rfl rfl hL.2.1 rfl (mR_sum hrm) dd ⟨by omega, by omega⟩) hS hfr hfr ?_
  intro r ws' H1 locs1 e1 e2 e3 e4
  exact kk r ws' e1 H1 locs1 ls (cells + mc') (slots + ms') (by omega) (by omega) e2 e3 e4 hL
