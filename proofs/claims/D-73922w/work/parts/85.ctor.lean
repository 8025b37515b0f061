/-! constructors -/
def Kini (K : KY) : Prop := match K with
  | ((_, _, _, _, _, _, _, meth, _), _, _, _, _, _) => meth.name = "<init>"
theorem XMet.ofI {g : GX} {y : MethodName} {cc : ByteArray} {nL : Nat} {ret : Option FieldType} {d mc ms : Nat} {av : List Value} {ws : va_W} {post : Option Value → va_W → Prop} {L : List (Option Value)} (hG : Gok g) (hy : plainName y.cls = true) (hyi : y.name = "<init>") (hn : (lg_sl av).length ≤ nL) (hL : lo_av av nL = L)
    (body : ∀ K : KY, Cok g K d cc y.cls → Kend g K ret post → Kini K → AW g K ws mc ms 0 L []) : XMet g y cc nL ret d mc ms av ws post := by
  intro sz
  refine Met.ofW (cc := cc) (maxL := nL) (ret := ret) hy rfl ?_
  intro p e s m args below meth c s₁ B hml hv
  obtain ⟨rfl, hsz, hP, hD0, hK, hF⟩ := hv
  subst hsz
  subst hL
  obtain ⟨l, D, dA, F⟩ := g
  have hts := atoms_spec (ws := ws_ y cc nL ret) B.pre
  have h1 := body ((p, e, (headSpec (ws_ y cc nL ret) (rmD d mc ms)).room, s, m, av.toArray, below, meth, c), va_A ws s.heap.size, nL, MQ below (XQc (l, D, dA, F) post (va_A ws s.heap.size)) av.toArray s mc ms (va_A ws s.heap.size), mc, ms)
    ⟨hG, B.exec, B.bytes, hml, findClass_of_methodNamed B.named, fun w h => hts w (List.mem_cons_of_mem _ h), hK, hF, fun q h => Or.inr h, B.notSynchronized, Nat.le_refl _, Nat.le_refl _, Nat.le_refl _, Nat.le_refl _⟩ ⟨rfl, B.returns⟩ ((name_of_methodNamed B.named B.method).1.trans hyi)
  rw [lg_entry_eq]
  refine h1 s.heap [] _ 0 0 (by omega) (by omega) hP hD0.self va_S.rf ⟨?_, ?_⟩
  · unfold lo_av
    rw [List.length_append, List.length_replicate, lo_len]
    omega
  · unfold lo_av
    rw [lo_ent]
    exact lv_entry av hn
theorem r_putF {g : GX} {K : KY} {d : Nat} {cc : ByteArray} {own : String} {ws : va_W} {k n pc : Nat} {L : List (Option Value)} {st : List Value} (C : Cok g K d cc own) (I : Kini K) {ref Cn : String} {T : u_T} {N ci index a : Nat} {fs : List Value} {v : Value} {ty : FieldType} (q0 : Nat) (he : ws[q0]? = some (a, .inr (ci, fs))) (hc : vCl[ci]? = some (Cn, T, N)) (hin : ∀ w ∈ u_ws Cn T N, w ∈ lw_all) (ty0 : Nat → FieldType) (hty : ∀ k, k < N → parseFieldDescriptor (T k).2.2.1 = some (ty0 k)) (hnm : ∀ a, a < N → ∀ b, b < N → a ≠ b → (T a).2.1 ≠ (T b).2.1) (kf : Nat) (hk : kf < N) (q : Cond.fieldLink own index ref (T kf).2.1 (T kf).2.2.1 ∈ lw_all) (hsame : (T kf).1 = ref) (hfin : (T kf).2.2.2 = true) (hdecl : (T kf).1 = own) (hd : parseFieldDescriptor (T kf).2.2.1 = some ty) (hn : narrow ty v = v) (hfit : fits ty v = true) (hl : kf < fs.length) (dd : decode cc pc = .ok (.putfield index, 3))
    (kk : AW g K (ws.set q0 (a, .inr (ci, fs.set kf v))) k n (pc + 3) L st) : AW g K ws k n pc L (v :: .ref a :: st) := by
  obtain ⟨l, D, dA, F⟩ := g
  obtain ⟨⟨p, e, R, s, m, args, below, meth, c⟩, A, nL, Q, mc, ms⟩ := K
  obtain ⟨hG, hx, hb, hml, hown, hts, hK, hF, hA, hlk, hdR, hlo, hmc, hms⟩ := C
  intro H locs ls cells slots h1 h2 hP hD hS hL
  exact va_putF hx hb hts hin ty0 hty hnm hown hK hP hD hS q0 he hc kf hk (hts _ q) (fun _ h => hsame ▸ h) hfin I hdecl hd hn hfit hl dd (fun H1 locs1 q1 q2 q3 => kk H1 locs1 ls cells slots h1 h2 q1 q2 q3 hL)
theorem r_objInit {g : GX} {K : KY} {d : Nat} {cc : ByteArray} {own : String} {ws : va_W} {k n pc idx a : Nat} {L : List (Option Value)} {st : List Value} (C : Cok g K d cc own) (q : Cond.methodLink own idx ⟨"java/lang/Object", "<init>", "()V"⟩ ∈ lw_all) (dd : decode cc pc = .ok (.invokespecial idx, 3)) (hd : 1 ≤ d) (hst : (st.map fun v => v.category).sum ≤ 8) (kk : AW g K ws k n (pc + 3) L st) : AW g K ws k n pc L (.ref a :: st) := by
  obtain ⟨l, D, dA, F⟩ := g
  obtain ⟨⟨p, e, R, s, m, args, below, meth, c⟩, A, nL, Q, mc, ms⟩ := K
  obtain ⟨hG, hx, hb, hml, hown, hts, hK, hF, hA, hlk, hdR, hlo, hmc, hms⟩ := C
  intro H locs ls cells slots h1 h2 hP hD hS hL
  exact W.objInit hx hb hown (hts _ q) (hts _ q154) (hts _ q155) rfl (by rw [hml]; exact hL.2.1) rfl dd (by omega) (by have := mR_sum (m := m) (pc := pc) (ls := ls) (st := .ref a :: st) hst; omega) (kk H locs ls cells slots h1 h2 hP hD hS hL)
def PkI (y : MethodName) (cc : ByteArray) (nL : Nat) (n : Nat) : Prop := Cond.instanceMethod y ∈ lw_all ∧ Cond.initialized y.cls ∈ lw_all ∧ Cond.code y cc nL none ∈ lw_all ∧ nL ≤ 45 ∧ y.name = "<init>" ∧ y.cls ≠ "java/lang/invoke/MethodHandle" ∧ y.cls ≠ "java/lang/invoke/VarHandle" ∧ (parseMethodDescriptor y.desc).map (fun d => d.parameters.length) = some n
theorem r_callI {g : GX} {K : KY} {d : Nat} {cc : ByteArray} {own : String} {ws : va_W} {k n pc : Nat} {L : List (Option Value)} {st rest : List Value} {post : Option Value → va_W → Prop} {y : MethodName} {cc' : ByteArray} {nL' : Nat} {d' mc' ms' idx b : Nat} {av : List Value} (C : Cok g K d cc own) (hM : XMet g y cc' nL' none d' mc' ms' (.ref b :: av) ws post) (q : Cond.methodLink own idx y ∈ lw_all) (pk : PkI y cc' nL' av.length) (hd : d' < d) (hk : mc' ≤ k) (hn : ms' ≤ n) (hst : st = av.reverse ++ .ref b :: rest) (hrm : (rest.map fun v => v.category).sum ≤ 8) (dd : decode cc pc = .ok (.invokespecial idx, 3))
    (kk : ∀ r ws', post r ws' → AW g K ws' (k - mc') (n - ms') (pc + 3) L (r.toList ++ rest)) : AW g K ws k n pc L st := by
  subst hst
  obtain ⟨l, D, dA, F⟩ := g
  obtain ⟨⟨p, e, R, s, m, args, below, meth, c⟩, A, nL, Q, mc, ms⟩ := K
  obtain ⟨hG, hx, hb, hml, hown, hts, hK, hF, hA, hlk, hdR, hlo, hmc, hms⟩ := C
  obtain ⟨p1, p2, p3, p4, p5, p6⟩ := pk
  intro H locs ls cells slots h1 h2 hP hD hS hL
  have hfr := x_free hD hS hA
  refine x_call (mc := mc') (ms := ms') (va_runI (As := av) (rest := rest) ⟨hx, hb, hml, hown, hts⟩ (hM H.size) (cwI av.length hts (lw_meth p3) rfl rfl rfl (hts _ p2) (hts _ q) (hts _ p1) p5 p6 ⟨show d' + 1 ≤ R.frames by omega, show 8 + (nL' + 11) + 64 * d' ≤ R.locals by omega⟩) (x_pre (av := .ref b :: av) hG hP hD hS hA hK hF) rfl rfl hL.2.1 rfl (mR_sum hrm) dd ⟨by omega, by omega⟩) hS hfr hfr ?_
  intro r ws' H1 locs1 e1 e2 e3 e4
  exact kk r ws' e1 H1 locs1 ls (cells + mc') (slots + ms') (by omega) (by omega) e2 e3 e4 hL
