/-! paths of a tree of alternate lines, from even node to even node -/
def EP (M f : Nat → Nat) (rt : Nat) : Nat → List Nat → Prop
  | u, [] => u = rt
  | u, y :: t => u ≠ rt ∧ f (M u) = y ∧ EP M f rt y t
/-- no node twice -/
def Smp (M : Nat → Nat) (L : List Nat) : Prop := L.Pairwise fun x y => x ≠ y ∧ x ≠ M y
theorem EP.det {M f : Nat → Nat} {rt : Nat} : ∀ {L L' : List Nat} {u : Nat}, EP M f rt u L → EP M f rt u L' → L = L'
  | [], [], _, _, _ => rfl
  | [], _ :: _, _, h, h' => absurd h h'.1
  | _ :: _, [], _, h, h' => absurd h' h.1
  | y :: t, y' :: t', u, h, h' => by
    obtain rfl : y = y' := h.2.1.symm.trans h'.2.1
    rw [EP.det h.2.2 h'.2.2]
theorem EP.split {M f : Nat → Nat} {rt : Nat} : ∀ {P : List Nat} {L : List Nat} {u z : Nat} {R : List Nat}, EP M f rt u L → u :: L = P ++ z :: R → EP M f rt z R
  | [], L, u, z, R, h, e => by
    rw [List.nil_append, List.cons.injEq] at e
    rw [← e.1, ← e.2]
    exact h
  | p :: P, [], u, z, R, h, e => by
    rw [List.cons_append, List.cons.injEq] at e
    exact absurd e.2 (by simp)
  | p :: P, y :: t, u, z, R, h, e => by
    rw [List.cons_append, List.cons.injEq] at e
    exact EP.split h.2.2 e.2
theorem EP.frame {M f f' : Nat → Nat} {rt : Nat} : ∀ {L : List Nat} {u : Nat}, EP M f rt u L → (∀ y, y ∈ u :: L → f' (M y) = f (M y)) → EP M f' rt u L
  | [], _, h, _ => h
  | y :: t, u, h, hf => ⟨h.1, by rw [hf u (List.mem_cons_self ..)]; exact h.2.1, EP.frame h.2.2 fun z hz => hf z (List.mem_cons_of_mem _ hz)⟩
theorem EP.join {M f f' : Nat → Nat} {rt : Nat} : ∀ {P : List Nat} {L : List Nat} {u z : Nat} {R R' : List Nat}, EP M f rt u L → u :: L = P ++ z :: R → (∀ y, y ∈ P → f' (M y) = f (M y)) → EP M f' rt z R' → ∃ L', u :: L' = P ++ z :: R' ∧ EP M f' rt u L'
  | [], L, u, z, R, R', h, e, _, h' => by
    rw [List.nil_append, List.cons.injEq] at e
    rw [e.1]
    exact ⟨R', rfl, h'⟩
  | p :: P, [], u, z, R, R', h, e, _, h' => by
    rw [List.cons_append, List.cons.injEq] at e
    exact absurd e.2 (by simp)
  | p :: P, y :: t, u, z, R, R', h, e, hf, h' => by
    rw [List.cons_append, List.cons.injEq] at e
    obtain ⟨t', e', h3⟩ := EP.join h.2.2 e.2 (fun y hy => hf y (List.mem_cons_of_mem _ hy)) h'
    exact ⟨y :: t', by rw [e', e.1, List.cons_append], h.1, by rw [hf u (by rw [e.1]; exact List.mem_cons_self ..)]; exact h.2.1, h3⟩
/-- the ones of a part are not the root; the next one -/
theorem EP.nxt {M f : Nat → Nat} {rt : Nat} : ∀ {A : List Nat} {L : List Nat} {u w : Nat} {R : List Nat}, EP M f rt u L → u :: L = A ++ w :: R → ∀ x, x ∈ A → x ≠ rt ∧ (f (M x) ∈ A ∨ f (M x) = w)
  | [], _, _, _, _, _, _ => fun x hx => nomatch hx
  | p :: A, [], u, w, R, h, e => by
    rw [List.cons_append, List.cons.injEq] at e
    exact absurd e.2 (by simp)
  | p :: A, y :: t, u, w, R, h, e => by
    rw [List.cons_append, List.cons.injEq] at e
    intro x hx
    rcases List.mem_cons.mp hx with hx | hx
    · rw [hx, ← e.1]
      refine ⟨h.1, ?_⟩
      rw [h.2.1]
      cases A with
      | nil => rw [List.nil_append, List.cons.injEq] at e; exact .inr e.2.1
      | cons q A' => rw [List.cons_append, List.cons.injEq] at e; exact .inl (by rw [e.2.1]; exact List.mem_cons_of_mem _ (List.mem_cons_self ..))
    · obtain ⟨h1, h2⟩ := EP.nxt h.2.2 e.2 x hx
      exact ⟨h1, h2.imp (List.mem_cons_of_mem _) id⟩
/-- lines both ways, pairs within the set -/
def MOk (adj : Nat → Nat → Bool) (S : Nat → Bool) (M : Nat → Nat) : Prop := ∀ x, x < 12 → M x = 12 ∨ (M x < 12 ∧ M (M x) = x ∧ S x = true ∧ adj x (M x) = true)
/-- a tree about a root: from whom, bases, even ones, ranks -/
def EdI (adj : Nat → Nat → Bool) (S : Nat → Bool) (M : Nat → Nat) (rt : Nat) (f base : Nat → Nat) (E : Nat → Bool) (r : Nat → Nat) : Prop :=
  (E rt = true ∧ base rt = rt ∧ f rt = 12) ∧
  (∀ x, E x = true → x < 12 ∧ S x = true ∧ E (base x) = true ∧ base (base x) = base x) ∧
  (∀ x, E x = true → x ≠ rt → M x < 12 ∧ f (M x) < 12 ∧ E (f (M x)) = true ∧ adj (M x) (f (M x)) = true ∧ (base x = x → E (M x) = false ∧ r (base (f (M x))) < r x) ∧ (base x ≠ x → E (M x) = true ∧ base (M x) = base x ∧ base (f (M x)) = base x)) ∧
  (∀ x, E x = false → base x = x) ∧
  (∀ x, f x < 12 → x < 12 ∧ M x < 12 ∧ E (M x) = true) ∧
  (∀ u, E u = true → ∃ L, EP M f rt u L ∧ Smp M (u :: L))
theorem EdI.mem {adj : Nat → Nat → Bool} {S : Nat → Bool} {M : Nat → Nat} {rt : Nat} {f base : Nat → Nat} {E : Nat → Bool} {r : Nat → Nat} (h : EdI adj S M rt f base E r) : ∀ {L : List Nat} {u : Nat}, E u = true → EP M f rt u L → ∀ y, y ∈ L → E y = true ∧ (base y = base u ∨ r (base y) < r (base u))
  | [], _, _, _ => fun y hy => nomatch hy
  | z :: t, u, hu, hp => by
    obtain ⟨h1, h2, h3, h4, h5, h6⟩ := h.2.2.1 u hu hp.1
    have hz : E z = true ∧ (base z = base u ∨ r (base z) < r (base u)) := by
      rw [← hp.2.1]
      refine ⟨h3, ?_⟩
      by_cases e : base u = u
      · rw [e]; exact .inr (h5 e).2
      · exact .inl (h6 e).2.2
    intro y hy
    rcases List.mem_cons.mp hy with e | hy
    · rw [e]; exact hz
    · obtain ⟨h7, h8⟩ := h.mem hz.1 hp.2.2 y hy
      refine ⟨h7, ?_⟩
      rcases h8 with h8 | h8
      · rw [h8]; exact hz.2
      · rcases hz.2 with h9 | h9
        · rw [← h9]; exact .inr h8
        · exact .inr (Nat.lt_trans h8 h9)
/-- both of a pair even: of one block -/
theorem EdI.mate {adj : Nat → Nat → Bool} {S : Nat → Bool} {M : Nat → Nat} {rt : Nat} {f base : Nat → Nat} {E : Nat → Bool} {r : Nat → Nat} (h : EdI adj S M rt f base E r) (hM : M rt = 12) {x : Nat} (hx : E x = true) (hy : E (M x) = true) : base (M x) = base x ∧ base x ≠ x := by
  have h1 : x ≠ rt := fun e => by
    rw [e, hM] at hy
    have := (h.2.1 12 hy).1
    omega
  obtain ⟨-, -, -, -, h5, h6⟩ := h.2.2.1 x hx h1
  by_cases e : base x = x
  · rw [(h5 e).1] at hy; cases hy
  · exact ⟨(h6 e).2.1, e⟩
/-- the base of a block lies on the way out of it -/
theorem EdI.through {adj : Nat → Nat → Bool} {S : Nat → Bool} {M : Nat → Nat} {rt : Nat} {f base : Nat → Nat} {E : Nat → Bool} {r : Nat → Nat} (h : EdI adj S M rt f base E r) {x : Nat} : ∀ {A : List Nat} {L : List Nat} {u w : Nat} {R : List Nat}, E u = true → EP M f rt u L → u :: L = A ++ w :: R → base w ≠ x → (∃ v, v ∈ A ∧ base v = x) → x ∈ A
  | [], _, _, _, _, _, _, _, _, ⟨v, hv, _⟩ => nomatch hv
  | p :: A, [], u, w, R, _, _, e, _, _ => by
    rw [List.cons_append, List.cons.injEq] at e
    exact absurd e.2 (by simp)
  | p :: A, y :: t, u, w, R, hu, hp, e, hw, ⟨v, hv, hb⟩ => by
    rw [List.cons_append, List.cons.injEq] at e
    obtain ⟨h1, h2, h3, h4, h5, h6⟩ := h.2.2.1 u hu hp.1
    rw [hp.2.1] at h3 h6
    have go := fun hv => List.mem_cons_of_mem p (h.through h3 hp.2.2 e.2 hw hv)
    rcases List.mem_cons.mp hv with hv | hv
    · rw [hv, ← e.1] at hb
      by_cases eb : base u = u
      · rw [← hb, eb, e.1]; exact List.mem_cons_self ..
      · have h7 := (h6 eb).2.2
        refine go ?_
        cases A with
        | nil => rw [List.nil_append, List.cons.injEq] at e; rw [← e.2.1, h7] at hw; exact absurd hb hw
        | cons q A' => rw [List.cons_append, List.cons.injEq] at e; exact ⟨q, List.mem_cons_self .., by rw [← e.2.1, h7, hb]⟩
    · exact go ⟨v, hv, hb⟩
