/-! calls through an interface -/
theorem x_call5 {p : Program} {l : Launch} {e : Env} {R : Room} {s : State} {m : MethodId} {args : Array Value} {below : List Frame} {meth : Method} {c : Code} {H : Heap} {locs : List Loc} {cells slots : Nat} {Q : State → Prop} {pc : Nat} {ls : Array Slot} {rest st0 : List Value} {a : Array Value} {A0 A1 : Nat → Prop} {H0 : Heap} {mc ms : Nat} {free : Addr → Prop} {g : GX} {post : Option Value → va_W → Prop}
    (hr : va_Run5 p l e R s m args below meth c H locs cells slots mc ms (F0 m pc ls st0) rest (XQc g post A1 a) free) (hS : va_S A0 H0 H locs) (hA : ∀ q, A1 q → A0 q) (hf : ∀ q, free q → A0 q)
    (kk : ∀ (r : Option Value) (ws' : va_W) (H1 : Heap) (locs1 : List Loc), post r ws' → va_P g.2.1 vCl ws' H1 → va_D A0 ws' → va_S A0 H0 H1 locs1 → W p l e R s m args below meth c H1 locs1 (cells + mc) (slots + ms) Q (F0 m (pc + 5) ls (r.toList ++ rest))) : W p l e R s m args below meth c H locs cells slots Q (F0 m pc ls st0) := by
  intro T hT X
  obtain ⟨v, st₀, t, T', L, h0, X', hL, e1, e2, ⟨⟨r, ws', hv, hp, hP, hD⟩, hz, hk⟩, st⟩ := hr T hT X
  cases hv
  rw [h0] at hz hk
  obtain ⟨t2, a1, b1⟩ := kk v ws' T'.heap (locs ++ L) hp (by rw [e1]; exact hP) (hD.weaken (fun _ q _ h => hA q.1 h))
    ⟨Nat.le_trans hS.1 (by rw [e1]; exact hz), fun q h1 h2 => by rw [e1, hk q (Nat.lt_of_lt_of_le h1 hS.1) (fun z => h2 (hA q z))]; exact hS.2.1 q h1 h2, fun q hq => by
      rcases List.mem_append.mp hq with h | h
      · exact hS.2.2 q h
      · exact hf _ (hL q h)⟩ T' rfl X'
  exact ⟨t2, st t2 a1, b1⟩
def PkF (Cn : String) (x y : MethodName) (cc : ByteArray) (nL : Nat) (ret : Option FieldType) (n : Nat) : Prop := (Cond.selects Cn x y ∈ lw_all ∧ Cond.instanceMethod y ∈ lw_all ∧ Cond.initialized y.cls ∈ lw_all ∧ Cond.code y cc nL ret ∈ lw_all) ∧ (Cond.declares x ∈ nwl ∧ Cond.interfaceMethod x.cls x.cls x.name x.desc ∈ nwl ∧ Cond.publicMethod y ∈ nwl ∧ Cond.unhidden Cn x.name x.desc ∈ nwl ∧ Cond.castable Cn x.cls ∈ nwl) ∧ nL ≤ 45 ∧ x.cls ≠ "java/lang/invoke/MethodHandle" ∧ x.cls ≠ "java/lang/invoke/VarHandle" ∧ (parseMethodDescriptor x.desc).map (fun d => d.parameters.length) = some n
theorem lw_F {own : String} {idx : Nat} {C : String} {x y : MethodName} {b : ByteArray} {L : Nat} {r : Option FieldType} (h1 : Cond.methodLink own idx x ∈ lw_all) (h2 : Cond.selects C x y ∈ lw_all) (h3 : Cond.instanceMethod y ∈ lw_all) (h4 : Cond.initialized y.cls ∈ lw_all) (h5 : Cond.code y b L r ∈ lw_all) : GoodIn lw_all (va_wsF own idx C x y (ws_ y b L r)) := by
  refine lw_app ?_ (lw_meth h5)
  intro w hw
  simp only [List.mem_cons, List.not_mem_nil, or_false] at hw
  rcases hw with e | e | e | e
  · rw [e]; exact h1
  · rw [e]; exact h2
  · rw [e]; exact h3
  · rw [e]; exact h4
theorem r_callF {g : GX} {K : KY} {d : Nat} {cc : ByteArray} {own : String} {ws : va_W} {k n pc : Nat} {L : List (Option Value)} {st rest : List Value} {post : Option Value → va_W → Prop} {x y : MethodName} {cc' : ByteArray} {nL' : Nat} {ret : Option FieldType} {d' mc' ms' idx cnt : Nat} {av : List Value} {b : Nat} (C : Cok g K d cc own) (hM : XMet g y cc' nL' ret d' mc' ms' (.ref b :: av) ws post) {q0 ci : Nat} {fs : List Value} {Cn : String} {T : u_T} {N : Nat} (he : ws[q0]? = some (b, .inr (ci, fs))) (hc : vCl[ci]? = some (Cn, T, N)) (q : Cond.methodLink own idx x ∈ lw_all) (pk : PkF Cn x y cc' nL' ret av.length) (hd : d' < d) (hk : mc' ≤ k) (hn : ms' ≤ n) (hst : st = av.reverse ++ .ref b :: rest) (hrm : (rest.map fun v => v.category).sum ≤ 8) (dd : decode cc pc = .ok (.invokeinterface idx cnt, 5))
    (kk : ∀ r ws', post r ws' → AW g K ws' (k - mc') (n - ms') (pc + 5) L (r.toList ++ rest)) : AW g K ws k n pc L st := by
  subst hst
  obtain ⟨l, D, dA, F⟩ := g
  obtain ⟨⟨p, e, R, s, m, args, below, meth, c⟩, A, nL, Q, mc, ms⟩ := K
  obtain ⟨hG, hx, hb, hml, hown, hts, hK, hF, hA, hlk, hdR, hlo, hmc, hms⟩ := C
  obtain ⟨⟨p1, p2, p3, p4⟩, ⟨n1, n2, n3, n4, n5⟩, p5, p6⟩ := pk
  intro H locs ls cells slots h1 h2 hP hD hS hL
  have hfr := x_free hD hS hA
  have hpre := x_pre (av := .ref b :: av) hG hP hD hS hA hK hF
  have hnw := hG.2.2.2.2 A s _ hF
  have hFw : va_Fw Cn x y s := ⟨hnw _ n1, hnw _ n2, hnw _ n3, hnw _ n4, hnw _ n5⟩
  refine x_call5 (mc := mc') (ms := ms') (va_runF (As := av) (rest := rest) (hK.1 ci _ hc).2 ⟨hx, hb, hml, hown, hts⟩ (hM H.size) (va_cwF av.length hts (lw_F q p1 p2 p3 p4) rfl rfl rfl hFw p6 ⟨show d' + 1 ≤ R.frames by omega, show 8 + (nL' + 11) + 64 * d' ≤ R.locals by omega⟩) ⟨hpre.1, va_recv hK hP hc he, hpre.2⟩ rfl rfl hL.2.1 rfl (mR_sum hrm) dd ⟨by omega, by omega⟩) hS hfr hfr ?_
  intro r ws' H1 locs1 e1 e2 e3 e4
  exact kk r ws' e1 H1 locs1 ls (cells + mc') (slots + ms') (by omega) (by omega) e2 e3 e4 hL
