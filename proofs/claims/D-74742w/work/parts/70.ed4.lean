theorem Smp.cons {M : Nat → Nat} {x : Nat} {L : List Nat} (h : ∀ y, y ∈ L → x ≠ y ∧ x ≠ M y) (hs : Smp M L) : Smp M (x :: L) := List.pairwise_cons.mpr ⟨h, hs⟩
theorem Smp.one {M : Nat → Nat} {x : Nat} : Smp M [x] := Smp.cons (fun y hy => nomatch hy) List.Pairwise.nil
theorem EdI.init {adj : Nat → Nat → Bool} {S : Nat → Bool} {M : Nat → Nat} {rt : Nat} (h12 : rt < 12) (hS : S rt = true) {r : Nat → Nat} : EdI adj S M rt (fun _ => 12) (fun k => k) (fun k => k == rt) r := by
  have e : ∀ x, (x == rt) = true → x = rt := fun x h => by simpa using h
  refine ⟨⟨by simp, rfl, rfl⟩, fun x hx => ?_, fun x hx hn => absurd (e x hx) hn, fun _ _ => rfl, fun x hx => absurd hx (by simp), fun u hu => ⟨[], e u hu, Smp.one⟩⟩
  rw [e x hx]
  exact ⟨h12, hS, by simp, rfl⟩
theorem up_t {α : Type} (f : Nat → α) (k : Nat) (v : α) : va_up f k v k = v := if_pos rfl
theorem up_f {α : Type} (f : Nat → α) {k j : Nat} (v : α) (h : j ≠ k) : va_up f k v j = f j := if_neg h
theorem EdI.even_path {adj : Nat → Nat → Bool} {S : Nat → Bool} {M : Nat → Nat} {rt : Nat} {f base : Nat → Nat} {E : Nat → Bool} {r : Nat → Nat} (h : EdI adj S M rt f base E r) {L : List Nat} {u : Nat} (hu : E u = true) (hp : EP M f rt u L) : ∀ y, y ∈ u :: L → E y = true := fun y hy => by
  rcases List.mem_cons.mp hy with e | hy
  · rw [e]; exact hu
  · exact (h.mem hu hp y hy).1
/-- one more pair on the tree -/
theorem EdI.extend {adj : Nat → Nat → Bool} {S : Nat → Bool} {M : Nat → Nat} (hM : MOk adj S M) (hirr : ∀ x, adj x x = false) (hsym : ∀ x y, adj x y = adj y x) {rt : Nat} (hr : M rt = 12) {f base : Nat → Nat} {E : Nat → Bool} {r : Nat → Nat} (h : EdI adj S M rt f base E r) {v j : Nat} (hv : E v = true) (hvj : adj v j = true) (hj : j < 12) (hjE : E j = false) (hjf : ¬ f j < 12) (hjm : M j < 12) : EdI adj S M rt (va_up f j v) base (va_up E (M j) true) (va_up r (M j) (r (base v) + 1)) ∧ E (M j) = false ∧ M j ≠ j := by
  obtain ⟨i1, i2, i3⟩ := hM.inv hj hjm
  have hu : E (M j) = false := by
    cases e : E (M j)
    · rfl
    · have h1 : M j ≠ rt := fun e1 => by rw [e1, hr] at i1; omega
      have := (h.2.2.1 _ e h1).2.1
      rw [i1] at this
      exact absurd this hjf
  have hju : M j ≠ j := fun e => by rw [e, hirr] at i3; cases i3
  have hne : ∀ x, E x = true → x ≠ M j := fun x hx e => by rw [e, hu] at hx; cases hx
  have hnj : ∀ x, E x = true → M x ≠ j := fun x hx e => by
    have h1 := (h.2.1 x hx).1
    have h2 := (hM.inv h1 (by rw [e]; exact hj)).1
    rw [e] at h2
    exact hne x hx h2.symm
  have mono : ∀ x, E x = true → va_up E (M j) true x = true := fun x hx => by rw [up_f _ _ (hne x hx)]; exact hx
  have dn : ∀ x, va_up E (M j) true x = true → x = M j ∨ E x = true := fun x hx => by
    by_cases e : x = M j
    · exact .inl e
    · rw [up_f _ _ e] at hx; exact .inr hx
  have vr := h.2.1 v hv
  have mjS : S (M j) = true := (hM.inv hjm (by rw [i1]; exact hj)).2.1
  have bu := h.2.2.2.1 _ hu
  refine ⟨⟨⟨mono rt h.1.1, h.1.2.1, by rw [up_f _ _ (fun e => by rw [← e, h.1.1] at hjE; cases hjE)]; exact h.1.2.2⟩, fun x hx => ?_, fun x hx hxr => ?_, fun x hx => ?_, fun x hx => ?_, fun u hx => ?_⟩, hu, hju⟩
  · rcases dn x hx with e | hx
    · rw [e, bu, up_t, bu]; exact ⟨hjm, mjS, rfl, rfl⟩
    · obtain ⟨h1, h2, h3, h4⟩ := h.2.1 x hx
      exact ⟨h1, h2, mono _ h3, h4⟩
  · rcases dn x hx with e | hx
    · rw [e, i1, up_t, bu, up_t, up_f _ _ (hne _ vr.2.2.1), up_f _ _ (Ne.symm hju)]
      exact ⟨hj, vr.1, mono v hv, by rw [hsym]; exact hvj, fun _ => ⟨hjE, Nat.lt_succ_self _⟩, fun hh => absurd rfl hh⟩
    · obtain ⟨h1, h2, h3, h4, h5, h6⟩ := h.2.2.1 x hx hxr
      rw [up_f _ _ (hnj x hx), up_f _ _ (hne _ (h.2.1 _ h3).2.2.1), up_f _ _ (hne x hx)]
      refine ⟨h1, h2, mono _ h3, h4, fun e => ⟨?_, (h5 e).2⟩, fun e => ⟨mono _ (h6 e).1, (h6 e).2⟩⟩
      rw [up_f]
      · exact (h5 e).1
      · intro e2
        have h7 := (hM.inv (h.2.1 x hx).1 h1).1
        rw [e2, i1] at h7
        rw [h7] at hjE
        rw [hjE] at hx
        cases hx
  · by_cases e : x = M j
    · rw [e, up_t] at hx; cases hx
    · rw [up_f _ _ e] at hx; exact h.2.2.2.1 x hx
  · by_cases e : x = j
    · rw [e, up_t]; exact ⟨hj, hjm, rfl⟩
    · rw [up_f _ _ e] at hx
      obtain ⟨h1, h2, h3⟩ := h.2.2.2.2.1 x hx
      exact ⟨h1, h2, mono _ h3⟩
  · have old : ∀ x, E x = true → ∃ L, EP M (va_up f j v) rt x L ∧ Smp M (x :: L) ∧ ∀ y, y ∈ x :: L → E y = true := fun x hx => by
      obtain ⟨L, h1, h2⟩ := h.2.2.2.2.2 x hx
      have h3 := h.even_path hx h1
      exact ⟨L, h1.frame fun y hy => up_f _ _ (hnj y (h3 y hy)), h2, h3⟩
    rcases dn u hx with e | hx
    · obtain ⟨L, h1, h2, h3⟩ := old v hv
      rw [e]
      refine ⟨v :: L, ⟨fun e1 => (by rw [e1, h.1.1] at hu; cases hu), by rw [i1, up_t], h1⟩, Smp.cons (fun y hy => ⟨fun e2 => hne y (h3 y hy) e2.symm, fun e2 => ?_⟩) h2⟩
      have h4 := h3 y hy
      have h5 := (hM.inv (h.2.1 y h4).1 (by rw [← e2]; exact hjm)).1
      rw [← e2, i1] at h5
      rw [← h5, hjE] at h4
      cases h4
    · obtain ⟨L, h1, h2, -⟩ := old u hx
      exact ⟨L, h1, h2⟩
/-- `from` is set for just those whose mate is even -/
theorem EdI.even_iff {adj : Nat → Nat → Bool} {S : Nat → Bool} {M : Nat → Nat} (hM : MOk adj S M) {rt : Nat} {f base : Nat → Nat} {E : Nat → Bool} {r : Nat → Nat} (h : EdI adj S M rt f base E r) {x : Nat} (hx : x < 12) (hn : x ≠ rt) : E x = true ↔ M x < 12 ∧ f (M x) < 12 := by
  constructor
  · intro he
    have := h.2.2.1 x he hn
    exact ⟨this.1, this.2.1⟩
  · rintro ⟨h1, h2⟩
    have := (h.2.2.2.2.1 _ h2).2.2
    rwa [(hM.inv hx h1).1] at this
/-! bases up to the root -/
def BC (M f base : Nat → Nat) (rt : Nat) : Nat → List Nat → Prop
  | x, [] => x = rt
  | x, y :: l => x ≠ rt ∧ base (f (M x)) = y ∧ BC M f base rt y l
theorem EdI.chain {adj : Nat → Nat → Bool} {S : Nat → Bool} {M : Nat → Nat} {rt : Nat} {f base : Nat → Nat} {E : Nat → Bool} {r : Nat → Nat} (h : EdI adj S M rt f base E r) : ∀ (k x : Nat), r x ≤ k → E x = true → base x = x → ∃ l, BC M f base rt x l ∧ ∀ y, y ∈ x :: l → E y = true ∧ base y = y
  | k, x, hk, hx, hb => by
    by_cases e : x = rt
    · exact ⟨[], e, fun y hy => by rw [List.mem_singleton.mp hy]; exact ⟨hx, hb⟩⟩
    · obtain ⟨h1, h2, h3, h4, h5, h6⟩ := h.2.2.1 x hx e
      have h7 := (h5 hb).2
      obtain ⟨-, -, h8, h9⟩ := h.2.1 _ h3
      match k, hk with
      | 0, hk => omega
      | k + 1, hk =>
        obtain ⟨l, hl, hl2⟩ := h.chain k (base (f (M x))) (by omega) h8 h9
        exact ⟨_ :: l, ⟨e, rfl, hl⟩, fun y hy => by
          rcases List.mem_cons.mp hy with e | hy
          · rw [e]; exact ⟨hx, hb⟩
          · exact hl2 y hy⟩
theorem EdI.arm {adj : Nat → Nat → Bool} {S : Nat → Bool} {M : Nat → Nat} {rt : Nat} {f base : Nat → Nat} {E : Nat → Bool} {r : Nat → Nat} (h : EdI adj S M rt f base E r) {t : Nat} : ∀ {L : List Nat} {u : Nat} {l P Q : List Nat}, E u = true → EP M f rt u L → BC M f base rt (base u) l → base u :: l = P ++ t :: Q → t ∉ P → ∃ A w R, u :: L = A ++ w :: R ∧ (∀ v, v ∈ A → base v ∈ P) ∧ base w = t
  | L, u, l, [], Q, hu, hp, hb, e, ht => by
    rw [List.nil_append, List.cons.injEq] at e
    exact ⟨[], u, L, rfl, (fun v hv => nomatch hv), e.1⟩
  | [], u, l, p :: P, Q, hu, hp, hb, e, ht => by
    rw [List.cons_append, List.cons.injEq] at e
    rw [show u = rt from hp, h.1.2.1] at hb
    cases l with
    | nil => exact absurd e.2 (by simp)
    | cons y l => exact absurd rfl hb.1
  | y :: L, u, l, p :: P, Q, hu, hp, hb, e, ht => by
    obtain ⟨h1, h2, h3, h4, h5, h6⟩ := h.2.2.1 u hu hp.1
    rw [hp.2.1] at h3 h6
    by_cases eb : base u = u
    · rw [List.cons_append, List.cons.injEq] at e
      cases l with
      | nil => exact absurd e.2 (by simp)
      | cons z l =>
        obtain ⟨-, b2, b3⟩ := hb
        rw [eb, hp.2.1] at b2
        rw [← b2] at b3 e
        obtain ⟨A, w, R, e1, e2, e3⟩ := h.arm h3 hp.2.2 b3 e.2 (fun hh => ht (List.mem_cons_of_mem _ hh))
        exact ⟨u :: A, w, R, by rw [e1]; rfl, fun v hv => by
          rcases List.mem_cons.mp hv with e9 | hv
          · rw [e9, e.1]; exact List.mem_cons_self ..
          · exact List.mem_cons_of_mem _ (e2 v hv), e3⟩
    · have h7 := (h6 eb).2.2
      rw [← h7] at hb e
      obtain ⟨A, w, R, e1, e2, e3⟩ := h.arm h3 hp.2.2 hb e ht
      rw [List.cons_append, List.cons.injEq] at e
      exact ⟨u :: A, w, R, by rw [e1]; rfl, fun v hv => by
        rcases List.mem_cons.mp hv with e9 | hv
        · rw [e9, ← h7, e.1]; exact List.mem_cons_self ..
        · exact e2 v hv, e3⟩
/-- both sides of a ring, when their first common base is found -/
theorem EdI.arms {adj : Nat → Nat → Bool} {S : Nat → Bool} {M : Nat → Nat} {rt : Nat} {f base : Nat → Nat} {E : Nat → Bool} {r : Nat → Nat} (h : EdI adj S M rt f base E r) {t a b : Nat} (ha : E a = true) (hb : E b = true) {la lb P Q : List Nat} (h1 : BC M f base rt (base a) la) (h2 : BC M f base rt (base b) lb) (h3 : base b :: lb = P ++ t :: Q) (h4 : ∀ y, y ∈ P → y ∉ base a :: la) (h5 : t ∈ base a :: la) : ∃ A w R L B w' R' L', Arm M f rt base E t a A w R L ∧ Arm M f rt base E t b B w' R' L' ∧ ∀ v v', v ∈ A → v' ∈ B → base v ≠ base v' := by
  obtain ⟨La, p1, s1⟩ := h.2.2.2.2.2 a ha
  obtain ⟨Lb, p2, s2⟩ := h.2.2.2.2.2 b hb
  obtain ⟨Pa, t', Qa, e1, e2, e3⟩ := first_of (p := fun y => y = t) ⟨t, h5, rfl⟩
  obtain rfl : t' = t := e2
  obtain ⟨A, w, R, c1, c2, c3⟩ := h.arm ha p1 h1 e1 (fun hh => e3 _ hh rfl)
  obtain ⟨B, w', R', d1, d2, d3⟩ := h.arm hb p2 h2 h3 (fun hh => h4 _ hh h5)
  refine ⟨A, w, R, La, B, w', R', Lb, ⟨ha, p1, s1, c1, fun v hv e => e3 _ (c2 v hv) e, c3⟩, ⟨hb, p2, s2, d1, fun v hv e => h4 _ (d2 v hv) (by rw [e]; exact h5), d3⟩, fun v v' hv hv' e => h4 _ (d2 v' hv') ?_⟩
  rw [← e, e1]
  exact List.mem_append_left _ (c2 v hv)
/-! the marks -/
def mkF (M : Nat → Nat) : Nat → List Nat → (Nat → Nat) → Nat → Nat
  | _, [], f => f
  | c, v :: A, f => mkF M (M v) A (va_up f v c)
theorem mkF_out {M : Nat → Nat} {x : Nat} : ∀ {A : List Nat} {c : Nat} {f : Nat → Nat}, x ∉ A → mkF M c A f x = f x
  | [], _, _, _ => rfl
  | v :: A, c, f, h => by
    rw [mkF, mkF_out (fun hh => h (List.mem_cons_of_mem _ hh)), up_f _ _ (fun e => h (by rw [e]; exact List.mem_cons_self ..))]
theorem Back.fr {M f f' : Nat → Nat} {b : Nat} : ∀ {X : List Nat}, Back M f b X → (∀ x, x ∈ X → f' x = f x) → Back M f' b X
  | [], _, _ => trivial
  | x :: X, h, hf => ⟨by rw [hf x (List.mem_cons_self ..)]; exact h.1, h.2.fr fun y hy => hf y (List.mem_cons_of_mem _ hy)⟩
theorem mkF_back {M : Nat → Nat} {b : Nat} : ∀ {A X : List Nat} {c : Nat} {f : Nat → Nat}, Back M f b X → c = chd M b X → (∀ x, x ∈ X → x ∉ A) → A.Pairwise (fun x y => x ≠ y) → Back M (mkF M c A f) b (A.reverse ++ X)
  | [], X, _, _, h, _, _, _ => h
  | v :: A, X, c, f, h, hc, hX, hA => by
    obtain ⟨h1, h2⟩ := List.pairwise_cons.mp hA
    rw [mkF, List.reverse_cons, List.append_assoc]
    refine mkF_back (X := v :: X) ⟨by rw [up_t]; exact hc, h.fr fun x hx => up_f _ _ (fun e => hX x hx (by rw [e]; exact List.mem_cons_self ..))⟩ rfl (fun x hx hxA => ?_) h2
    rcases List.mem_cons.mp hx with e | hx
    · exact h1 x hxA e.symm
    · exact hX x hx (List.mem_cons_of_mem _ hxA)
/-- `shrinks`: all of it -/
theorem EdI.shrunk {adj : Nat → Nat → Bool} {S : Nat → Bool} {M : Nat → Nat} (hM : MOk adj S M) (hirr : ∀ x, adj x x = false) (hsym : ∀ x y, adj x y = adj y x) {rt : Nat} (hr : M rt = 12) {f base : Nat → Nat} {E : Nat → Bool} {r : Nat → Nat} (h : EdI adj S M rt f base E r) {t a w b w' : Nat} {A R L B R' L' : List Nat} (hA : Arm M f rt base E t a A w R L) (hB : Arm M f rt base E t b B w' R' L') (hAB : ∀ v v', v ∈ A → v' ∈ B → base v ≠ base v') (hab : adj a b = true) {base' : Nat → Nat} {E' : Nat → Bool} (hb' : ∀ k, base' k = if ringX M base (A ++ B) (base k) then t else base k) (hE' : ∀ k, E' k = (E k || ringX M base (A ++ B) (base k))) :
    EdI adj S M rt (mkF M a B (mkF M b A f)) base' E' r ∧ (∀ k, f k < 12 → mkF M a B (mkF M b A f) k < 12) ∧ (∀ k, ringX M base (A ++ B) (base k) = true → S k = true ∧ k < 12) ∧ base' a = t ∧ base' b = t := by
  have nd : ∀ {a w : Nat} {A R L : List Nat}, Arm M f rt base E t a A w R L → A.Pairwise fun x y => x ≠ y := fun {a w A R L} hA => by
    have h1 := hA.2.2.1
    rw [hA.2.2.2.1] at h1
    exact ((List.pairwise_append.mp h1).1).imp fun h => h.1
  have dis : ∀ x, x ∈ A → x ∉ B := fun x h1 h2 => hAB x x h1 h2 rfl
  have b1 : Back M (mkF M b A f) b A.reverse := by
    have := mkF_back (M := M) (b := b) (A := A) (X := []) (c := b) (f := f) trivial rfl (fun x hx => nomatch hx) (nd hA)
    rwa [List.append_nil] at this
  have b2 : Back M (mkF M a B (mkF M b A f)) a B.reverse := by
    have := mkF_back (M := M) (b := a) (A := B) (X := []) (c := a) (f := mkF M b A f) trivial rfl (fun x hx => nomatch hx) (nd hB)
    rwa [List.append_nil] at this
  exact h.shrink hM hirr hsym hr hA hB hAB hab (b1.fr fun x hx => mkF_out (dis x (List.mem_reverse.mp hx))) b2 (fun x h1 h2 => by rw [mkF_out h2, mkF_out h1]) hb' hE'
