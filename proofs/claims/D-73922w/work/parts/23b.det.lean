/-! determinants by their first column; exact division in the elimination -/
abbrev Vec : Type := Int → Int
def sumA (F : List Vec → Int) (c : Int) : List Vec → List Vec → Int → Int
  | _, [], _ => 0
  | pre, r :: post, s => s * r c * F (pre ++ post) + sumA F c (pre ++ [r]) post (-s)
def Dt : List Int → List Vec → Int
  | [], _ => 1
  | c :: cs, rs => sumA (Dt cs) c [] rs 1
def vlc (a : Int) (r : Vec) (b : Int) (s : Vec) : Vec := fun j => a * r j - b * s j
def LinN (n : Nat) (F : List Vec → Int) : Prop := ∀ (x y : List Vec) (a b : Int) (r s : Vec), x.length + y.length + 1 = n → F (x ++ vlc a r b s :: y) = a * F (x ++ r :: y) - b * F (x ++ s :: y)
theorem sumA_pre_lin {F : List Vec → Int} {n : Nat} {c a b : Int} {r s : Vec} (hF : LinN n F) : ∀ (post p q : List Vec) (t : Int), p.length + q.length + post.length = n → sumA F c (p ++ vlc a r b s :: q) post t = a * sumA F c (p ++ r :: q) post t - b * sumA F c (p ++ s :: q) post t
  | [], p, q, t, h => by simp [sumA]
  | u :: post, p, q, t, h => by
    simp only [List.length_cons] at h
    have h1 := hF p (q ++ post) a b r s (by rw [List.length_append]; omega)
    have h2 := sumA_pre_lin (c := c) (a := a) (b := b) (r := r) (s := s) hF post p (q ++ [u]) (-t) (by rw [List.length_append]; simp only [List.length_cons, List.length_nil]; omega)
    simp only [sumA, List.append_assoc, List.cons_append] at h1 h2 ⊢
    rw [h1, h2]
    grind
theorem sumA_lin {F : List Vec → Int} {n : Nat} {c a b : Int} {r s : Vec} (hF : LinN n F) : ∀ (x pre y : List Vec) (t : Int), pre.length + x.length + y.length = n → sumA F c pre (x ++ vlc a r b s :: y) t = a * sumA F c pre (x ++ r :: y) t - b * sumA F c pre (x ++ s :: y) t
  | [], pre, y, t, h => by
    have h2 := sumA_pre_lin (c := c) (a := a) (b := b) (r := r) (s := s) hF y pre [] (-t) (by simpa using h)
    simp only [List.nil_append, sumA]
    rw [h2]
    simp only [vlc]
    grind
  | u :: x, pre, y, t, h => by
    simp only [List.length_cons] at h
    have h1 := hF (pre ++ x) y a b r s (by rw [List.length_append]; omega)
    have h2 := sumA_lin (c := c) (a := a) (b := b) (r := r) (s := s) hF x (pre ++ [u]) y (-t) (by rw [List.length_append]; simp only [List.length_cons, List.length_nil]; omega)
    simp only [sumA, List.append_assoc, List.cons_append] at h1 h2 ⊢
    rw [h1, h2]
    grind
theorem Dt_lin : ∀ cs : List Int, LinN cs.length (Dt cs)
  | [] => fun x y a b r s h => by simp at h
  | c :: cs => fun x y a b r s h => by
    simp only [List.length_cons] at h
    exact sumA_lin (Dt_lin cs) x [] y 1 (by simp only [List.length_nil]; omega)
def AdjN (n : Nat) (F : List Vec → Int) : Prop := ∀ (x y : List Vec) (r : Vec), x.length + y.length + 2 = n → F (x ++ r :: r :: y) = 0
theorem sumA_adj_pre {F : List Vec → Int} {n : Nat} {c : Int} {r : Vec} (hF : AdjN n F) : ∀ (post p q : List Vec) (t : Int), p.length + q.length + 2 + post.length = n + 1 → sumA F c (p ++ r :: r :: q) post t = 0
  | [], p, q, t, h => by simp [sumA]
  | u :: post, p, q, t, h => by
    simp only [List.length_cons] at h
    have h1 := hF p (q ++ post) r (by rw [List.length_append]; omega)
    have h2 := sumA_adj_pre (c := c) (r := r) hF post p (q ++ [u]) (-t) (by rw [List.length_append]; simp only [List.length_cons, List.length_nil]; omega)
    simp only [sumA, List.append_assoc, List.cons_append] at h1 h2 ⊢
    rw [h1, h2]
    simp
theorem sumA_adj {F : List Vec → Int} {n : Nat} {c : Int} {r : Vec} (hF : AdjN n F) : ∀ (x pre y : List Vec) (t : Int), pre.length + x.length + y.length + 2 = n + 1 → sumA F c pre (x ++ r :: r :: y) t = 0
  | [], pre, y, t, h => by
    simp only [List.length_nil] at h
    have h2 := sumA_adj_pre (c := c) (r := r) hF y pre [] (- -t) (by simp only [List.length_nil]; omega)
    simp only [List.nil_append, sumA, List.append_assoc, List.cons_append] at h2 ⊢
    rw [h2]
    grind
  | u :: x, pre, y, t, h => by
    simp only [List.length_cons] at h
    have h1 := hF (pre ++ x) y r (by rw [List.length_append]; omega)
    have h2 := sumA_adj (c := c) (r := r) hF x (pre ++ [u]) y (-t) (by rw [List.length_append]; simp only [List.length_cons, List.length_nil]; omega)
    simp only [sumA, List.append_assoc, List.cons_append] at h1 h2 ⊢
    rw [h1, h2]
    simp
theorem Dt_adj : ∀ cs : List Int, AdjN cs.length (Dt cs)
  | [] => fun x y r h => by simp at h
  | c :: cs => fun x y r h => by
    simp only [List.length_cons] at h
    exact sumA_adj (Dt_adj cs) x [] y 1 (by simp only [List.length_nil]; omega)
theorem Dt_swap {cs : List Int} {x y : List Vec} {r s : Vec} (h : x.length + y.length + 2 = cs.length) : Dt cs (x ++ r :: s :: y) = - Dt cs (x ++ s :: r :: y) := by
  have h0 := Dt_adj cs x y (vlc 1 r (-1) s) h
  have h1 := Dt_lin cs x (vlc 1 r (-1) s :: y) 1 (-1) r s (by simp only [List.length_cons]; omega)
  have h2 := Dt_lin cs (x ++ [r]) y 1 (-1) r s (by rw [List.length_append]; simp only [List.length_cons, List.length_nil]; omega)
  have h3 := Dt_lin cs (x ++ [s]) y 1 (-1) r s (by rw [List.length_append]; simp only [List.length_cons, List.length_nil]; omega)
  have h4 := Dt_adj cs x y r h
  have h5 := Dt_adj cs x y s h
  simp only [List.append_assoc, List.cons_append, List.nil_append] at h2 h3
  omega
theorem Dt_two {cs : List Int} {r : Vec} : ∀ (y x z : List Vec), x.length + y.length + z.length + 2 = cs.length → Dt cs (x ++ r :: (y ++ r :: z)) = 0
  | [], x, z, h => Dt_adj cs x z r (by simp only [List.length_nil] at h; omega)
  | u :: y, x, z, h => by
    simp only [List.length_cons] at h
    have h1 := Dt_two (cs := cs) (r := r) y (x ++ [u]) z (by rw [List.length_append]; simp only [List.length_cons, List.length_nil]; omega)
    rw [List.cons_append, Dt_swap (by rw [List.length_append, List.length_cons]; omega)]
    simp only [List.append_assoc, List.cons_append, List.nil_append] at h1
    rw [h1]
    rfl
theorem Dt_row {cs : List Int} {R : Int → Vec} {al : Int} {be : Int → Int} {rk : Vec} {suf : List Vec} : ∀ (l : List Int) (pre : List Vec), (rk ∈ pre ∨ rk ∈ suf) → pre.length + l.length + suf.length = cs.length → Dt cs (pre ++ (l.map (fun a => vlc al (R a) (be a) rk) ++ suf)) = al ^ l.length * Dt cs (pre ++ (l.map R ++ suf))
  | [], pre, hin, h => by simp
  | a :: l, pre, hin, h => by
    simp only [List.length_cons] at h
    have ih := Dt_row (cs := cs) (R := R) (al := al) (be := be) (suf := suf) l (pre ++ [R a]) (by
      rcases hin with q | q
      · exact Or.inl (List.mem_append_left _ q)
      · exact Or.inr q) (by rw [List.length_append]; simp only [List.length_cons, List.length_nil]; omega)
    have h1 := Dt_lin cs pre (l.map (fun a => vlc al (R a) (be a) rk) ++ suf) al (be a) (R a) rk (by rw [List.length_append, List.length_map]; omega)
    have h2 : Dt cs (pre ++ rk :: (l.map (fun a => vlc al (R a) (be a) rk) ++ suf)) = 0 := by
      rcases hin with q | q
      · obtain ⟨p1, p2, rfl⟩ := List.append_of_mem q
        rw [List.append_assoc, List.cons_append]
        refine Dt_two p2 p1 _ ?_
        simp only [List.length_append, List.length_cons, List.length_map] at h ⊢
        omega
      · obtain ⟨p1, p2, rfl⟩ := List.append_of_mem q
        rw [← List.append_assoc]
        refine Dt_two _ pre p2 ?_
        simp only [List.length_append, List.length_cons, List.length_map] at h ⊢
        omega
    simp only [List.append_assoc, List.cons_append, List.nil_append] at ih
    simp only [List.map_cons, List.cons_append, List.length_cons]
    rw [h1, h2, ih, Int.pow_succ]
    grind
theorem sumA_zc {F : List Vec → Int} {c : Int} : ∀ (post pre : List Vec) (t : Int), (∀ r ∈ post, r c = 0) → sumA F c pre post t = 0
  | [], _, _, _ => by simp [sumA]
  | u :: post, pre, t, h => by
    rw [sumA, h u (List.mem_cons_self), sumA_zc post _ _ (fun r hr => h r (List.mem_cons_of_mem _ hr))]
    simp
theorem Dt_eval {R : Int → Vec} {d x y u v : Int} : ∀ (L : List Int), L.Nodup → (∀ a ∈ L, ∀ b ∈ L, R a b = if a = b then d else 0) → (∀ b ∈ L, R x b = 0) → (∀ b ∈ L, R y b = 0) → Dt (L ++ [u, v]) (L.map R ++ [R x, R y]) = d ^ L.length * (R x u * R y v - R x v * R y u)
  | [], _, _, _, _ => by
    simp [Dt, sumA]
    grind
  | b :: L, hn, h1, hx, hy => by
    have ih := Dt_eval (R := R) (d := d) (x := x) (y := y) (u := u) (v := v) L (List.nodup_cons.mp hn).2 (fun a ha c hc => h1 a (List.mem_cons_of_mem _ ha) c (List.mem_cons_of_mem _ hc)) (fun c hc => hx c (List.mem_cons_of_mem _ hc)) (fun c hc => hy c (List.mem_cons_of_mem _ hc))
    simp only [List.cons_append, List.map_cons, Dt, sumA, List.nil_append]
    rw [sumA_zc _ _ _ (fun r hr => ?_), ih, h1 b List.mem_cons_self b List.mem_cons_self, if_pos rfl, List.length_cons, Int.pow_succ]
    · grind
    · rcases List.mem_append.mp hr with h | h
      · obtain ⟨a, ha, rfl⟩ := List.mem_map.mp h
        rw [h1 a (List.mem_cons_of_mem _ ha) b List.mem_cons_self, if_neg (by intro e; subst e; exact (List.nodup_cons.mp hn).1 ha)]
      · simp only [List.mem_cons, List.not_mem_nil, or_false] at h
        rcases h with rfl | rfl
        · exact hx b List.mem_cons_self
        · exact hy b List.mem_cons_self
/-! the stages of the elimination -/
/-- the division at stage k is exact, for rows below m -/
def Exa (A : Int → Int → Int) (m : Int) (k : Nat) : Prop := ∀ i c : Int, 0 ≤ i → i < m → i ≠ (k : Int) → bV A k * bT A (k + 1) i c = bT A k i c * bT A k k k - bT A k k c * bT A k i k
/-- the columns that are done -/
def Uni (A : Int → Int → Int) (m : Int) (p : Nat) : Prop := ∀ i j : Int, 0 ≤ i → i < m → 0 ≤ j → j < (p : Int) → bT A p i j = if i = j then bV A p else 0
theorem Dt_stage {A : Int → Int → Int} {m : Int} {k : Nat} {cs I : List Int} (hE : Exa A m k) (hI : I.Nodup) (hm : ∀ a ∈ I, 0 ≤ a ∧ a < m) (hk : (k : Int) ∈ I) (hl : I.length = cs.length) : bV A k ^ (I.length - 1) * Dt cs (I.map (bT A (k + 1))) = bV A (k + 1) ^ (I.length - 1) * Dt cs (I.map (bT A k)) := by
  obtain ⟨x, y, rfl⟩ := List.append_of_mem hk
  have hnx : ∀ a ∈ x, a ≠ (k : Int) := by
    intro a ha e
    subst e
    have := (List.nodup_append.mp hI).2.2 _ ha _ List.mem_cons_self
    exact this rfl
  have hny : ∀ a ∈ y, a ≠ (k : Int) := by
    intro a ha e
    subst e
    exact (List.nodup_cons.mp (List.nodup_append.mp hI).2.1).1 ha
  have hrow : bT A (k + 1) k = bT A k k := by
    funext c
    rw [bT_s, if_pos rfl]
  have hv : ∀ a : Int, 0 ≤ a → a < m → a ≠ (k : Int) → vlc (bV A (k + 1)) (bT A k a) (bT A k a k) (bT A k k) = vlc (bV A k) (bT A (k + 1) a) 0 (bT A k k) := by
    intro a h0 h1 h2
    funext c
    unfold vlc
    rw [bV_s, hE a c h0 h1 h2]
    grind
  simp only [List.length_append, List.length_cons] at hl ⊢
  have e1 : ∀ l : List Int, (∀ a ∈ l, (0 ≤ a ∧ a < m) ∧ a ≠ (k : Int)) → l.map (fun a => vlc (bV A (k + 1)) (bT A k a) (bT A k a k) (bT A k k)) = l.map (fun a => vlc (bV A k) (bT A (k + 1) a) 0 (bT A k k)) := by
    intro l h
    exact List.map_congr_left (fun a ha => hv a (h a ha).1.1 (h a ha).1.2 (h a ha).2)
  have hx : ∀ a ∈ x, (0 ≤ a ∧ a < m) ∧ a ≠ (k : Int) := fun a ha => ⟨hm a (List.mem_append_left _ ha), hnx a ha⟩
  have hy : ∀ a ∈ y, (0 ≤ a ∧ a < m) ∧ a ≠ (k : Int) := fun a ha => ⟨hm a (List.mem_append_right _ (List.mem_cons_of_mem _ ha)), hny a ha⟩
  have a1 := Dt_row (cs := cs) (R := bT A k) (al := bV A (k + 1)) (be := fun a => bT A k a k) (rk := bT A k k) (suf := []) y (x.map (fun a => vlc (bV A (k + 1)) (bT A k a) (bT A k a k) (bT A k k)) ++ [bT A k k]) (Or.inl (List.mem_append_right _ List.mem_cons_self)) (by simp only [List.length_append, List.length_map, List.length_cons, List.length_nil]; omega)
  have a2 := Dt_row (cs := cs) (R := bT A k) (al := bV A (k + 1)) (be := fun a => bT A k a k) (rk := bT A k k) (suf := bT A k k :: y.map (bT A k)) x [] (Or.inr List.mem_cons_self) (by simp only [List.length_map, List.length_cons, List.length_nil]; omega)
  have b1 := Dt_row (cs := cs) (R := bT A (k + 1)) (al := bV A k) (be := fun _ => 0) (rk := bT A k k) (suf := []) y (x.map (fun a => vlc (bV A k) (bT A (k + 1) a) 0 (bT A k k)) ++ [bT A k k]) (Or.inl (List.mem_append_right _ List.mem_cons_self)) (by simp only [List.length_append, List.length_map, List.length_cons, List.length_nil]; omega)
  have b2 := Dt_row (cs := cs) (R := bT A (k + 1)) (al := bV A k) (be := fun _ => 0) (rk := bT A k k) (suf := bT A k k :: y.map (bT A (k + 1))) x [] (Or.inr List.mem_cons_self) (by simp only [List.length_map, List.length_cons, List.length_nil]; omega)
  simp only [List.append_assoc, List.cons_append, List.nil_append, List.append_nil] at a1 a2 b1 b2
  rw [e1 x hx, e1 y hy] at a1
  rw [e1 x hx] at a2
  rw [a2] at a1
  rw [b2] at b1
  rw [List.map_append, List.map_append, List.map_cons, List.map_cons, hrow]
  rw [show x.length + (y.length + 1) - 1 = y.length + x.length by omega, Int.pow_add, Int.pow_add, Int.mul_assoc, Int.mul_assoc]
  rw [← b1, ← a1]
theorem Dt_chain {A : Int → Int → Int} {m : Int} {cs I : List Int} (hI : I.Nodup) (hm : ∀ a ∈ I, 0 ≤ a ∧ a < m) (hl : I.length = cs.length) : ∀ p : Nat, (∀ k, k < p → Exa A m k ∧ bV A k ≠ 0 ∧ (k : Int) ∈ I) → Dt cs (I.map (bT A p)) = bV A p ^ (I.length - 1) * Dt cs (I.map (bT A 0))
  | 0, _ => by
    rw [bV_0, Int.one_pow, Int.one_mul]
  | p + 1, h => by
    have ih := Dt_chain (A := A) (cs := cs) hI hm hl p (fun k hk => h k (by omega))
    obtain ⟨h1, h2, h3⟩ := h p (by omega)
    have hs := Dt_stage (cs := cs) h1 hI hm h3 hl
    rw [ih] at hs
    have hp : bV A p ^ (I.length - 1) ≠ 0 := Int.pow_ne_zero h2
    apply Int.eq_of_mul_eq_mul_left hp
    rw [hs]
    grind
def rngW (p : Nat) (i : Int) : List Int := ((List.range p).map (fun k : Nat => (k : Int))).filter (fun a => !decide (a = i))
theorem rngW_mem {p : Nat} {i a : Int} : a ∈ rngW p i ↔ 0 ≤ a ∧ a < p ∧ a ≠ i := by
  unfold rngW
  rw [List.mem_filter, List.mem_map]
  constructor
  · rintro ⟨⟨k, hk, rfl⟩, h⟩
    rw [List.mem_range] at hk
    simp at h
    exact ⟨by omega, by omega, h⟩
  · rintro ⟨h0, h1, h2⟩
    exact ⟨⟨a.toNat, List.mem_range.mpr (by omega), by omega⟩, by simpa using h2⟩
theorem rngW_nodup {p : Nat} {i : Int} : (rngW p i).Nodup := by
  unfold rngW
  refine List.Pairwise.filter _ ?_
  refine List.Pairwise.map _ (fun a b h => ?_) List.nodup_range
  intro e
  exact h (by omega)
theorem exa_step {A : Int → Int → Int} {m : Int} {p : Nat} (hp : (p : Int) < m) (hE : ∀ k, k < p → Exa A m k ∧ bV A k ≠ 0) (hd : bV A p ≠ 0) (hU : Uni A m p) : Exa A m p := by
  intro i c h0 h1 hne
  rw [bT_s, if_neg hne]
  have hL : ∀ b ∈ rngW p i, 0 ≤ b ∧ b < (p : Int) ∧ b ≠ i := fun b hb => rngW_mem.mp hb
  have ev := Dt_eval (R := bT A p) (d := bV A p) (x := i) (y := p) (u := c) (v := p) (rngW p i) rngW_nodup (fun a ha b hb => hU a b (hL a ha).1 (by have := (hL a ha).2.1; omega) (hL b hb).1 (hL b hb).2.1) (fun b hb => by rw [hU i b h0 h1 (hL b hb).1 (hL b hb).2.1, if_neg (fun e => (hL b hb).2.2 e.symm)]) (fun b hb => by rw [hU p b (by omega) hp (hL b hb).1 (hL b hb).2.1, if_neg (by have := (hL b hb).2.1; omega)])
  have ch := Dt_chain (A := A) (m := m) (cs := rngW p i ++ [c, p]) (I := rngW p i ++ [i, p]) (by
      rw [List.nodup_append]
      refine ⟨rngW_nodup, by simpa using hne, fun a ha b hb => ?_⟩
      have := hL a ha
      simp only [List.mem_cons, List.not_mem_nil, or_false] at hb
      rcases hb with rfl | rfl
      · exact this.2.2
      · omega) (fun a ha => by
      rcases List.mem_append.mp ha with q | q
      · have := hL a q; omega
      · simp only [List.mem_cons, List.not_mem_nil, or_false] at q
        rcases q with rfl | rfl <;> omega) (by simp) p (fun k hk => ⟨(hE k hk).1, (hE k hk).2, by
      by_cases e : (k : Int) = i
      · rw [e]
        exact List.mem_append_right _ List.mem_cons_self
      · exact List.mem_append_left _ (rngW_mem.mpr ⟨by omega, by omega, e⟩)⟩)
  simp only [List.map_append, List.map_cons, List.map_nil, List.length_append, List.length_cons, List.length_nil] at ch
  rw [ev, show (rngW p i).length + (0 + 1 + 1) - 1 = (rngW p i).length + 1 by omega, Int.pow_succ] at ch
  have hpw : bV A p ^ (rngW p i).length ≠ 0 := Int.pow_ne_zero hd
  have hnum := Int.eq_of_mul_eq_mul_left hpw (ch.trans (Int.mul_assoc _ _ _))
  have hnum2 : bT A p i c * bT A p p p - bT A p p c * bT A p i p = bV A p * Dt (rngW p i ++ [c, ↑p]) (List.map (bT A 0) (rngW p i) ++ [bT A 0 i, bT A 0 ↑p]) := by
    rw [← hnum]
    grind
  rw [hnum2, Int.mul_tdiv_cancel_left _ hd]
