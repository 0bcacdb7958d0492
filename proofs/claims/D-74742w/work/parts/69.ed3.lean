/-- what the marks of a ring say of a base -/
def ringX (M base : Nat → Nat) (D : List Nat) (x : Nat) : Bool := D.any fun v => x == base v || x == base (M v)
theorem ringX_iff {M base : Nat → Nat} {D : List Nat} {x : Nat} : ringX M base D x = true ↔ ∃ v, v ∈ D ∧ (x = base v ∨ x = base (M v)) := by
  unfold ringX
  simp [List.any_eq_true]
theorem EdI.shrink {adj : Nat → Nat → Bool} {S : Nat → Bool} {M : Nat → Nat} (hM : MOk adj S M) (hirr : ∀ x, adj x x = false) (hsym : ∀ x y, adj x y = adj y x) {rt : Nat} (hr : M rt = 12) {f f' base : Nat → Nat} {E : Nat → Bool} {r : Nat → Nat} (h : EdI adj S M rt f base E r) {t a w b w' : Nat} {A R L B R' L' : List Nat} (hA : Arm M f rt base E t a A w R L) (hB : Arm M f rt base E t b B w' R' L') (hAB : ∀ v v', v ∈ A → v' ∈ B → base v ≠ base v') (hab : adj a b = true) (hbA : Back M f' b A.reverse) (hbB : Back M f' a B.reverse) (hf : ∀ x, x ∉ A → x ∉ B → f' x = f x)
    {base' : Nat → Nat} {E' : Nat → Bool} (hb' : ∀ k, base' k = if ringX M base (A ++ B) (base k) then t else base k) (hE' : ∀ k, E' k = (E k || ringX M base (A ++ B) (base k))) :
    EdI adj S M rt f' base' E' r ∧ (∀ k, f k < 12 → f' k < 12) ∧ (∀ k, ringX M base (A ++ B) (base k) = true → S k = true ∧ k < 12) ∧ base' a = t ∧ base' b = t := by
  have B1 : ∀ k, ringX M base (A ++ B) (base k) = true → base' k = t ∧ E' k = true := fun k hk => by rw [hb', hE', hk]; simp
  have B0 : ∀ k, ringX M base (A ++ B) (base k) = false → base' k = base k ∧ E' k = E k := fun k hk => by rw [hb', hE', hk]; simp
  have BE : ∀ k, E k = true → E' k = true := fun k hk => by rw [hE', hk]; rfl
  obtain ⟨a1, a2, a3, a4⟩ := hA.even h
  obtain ⟨b1, b2, b3, b4⟩ := hB.even h
  have ht : E t = true ∧ base t = t := by
    have := h.2.1 w a3
    rw [hA.2.2.2.2.2] at this
    exact this.2.2
  have d2 : ∀ v, v ∈ A ∨ v ∈ B → E v = true ∧ v ≠ rt ∧ r t < r (base v) ∧ ((f (M v) ∈ A ∨ f (M v) ∈ B) ∨ base (f (M v)) = t) ∧ base v ≠ t ∧ M v < 12 ∧ M (M v) = v := fun v hv => by
    rcases hv with hv | hv
    · obtain ⟨-, h2, h3, h4, h5⟩ := a2 v hv
      have h6 := (h.2.2.1 v h2 h3).1
      refine ⟨h2, h3, h4, ?_, hA.2.2.2.2.1 v hv, h6, (hM.inv (h.2.1 v h2).1 h6).1⟩
      rcases h5 with h5 | h5
      · exact .inl (.inl h5)
      · rw [h5]; exact .inr hA.2.2.2.2.2
    · obtain ⟨-, h2, h3, h4, h5⟩ := b2 v hv
      have h6 := (h.2.2.1 v h2 h3).1
      refine ⟨h2, h3, h4, ?_, hB.2.2.2.2.1 v hv, h6, (hM.inv (h.2.1 v h2).1 h6).1⟩
      rcases h5 with h5 | h5
      · exact .inl (.inr h5)
      · rw [h5]; exact .inr hB.2.2.2.2.2
  have rgi : ∀ v, v ∈ A ∨ v ∈ B → ∀ x, x = base v ∨ x = base (M v) → ringX M base (A ++ B) x = true := fun v hv x hx => ringX_iff.mpr ⟨v, List.mem_append.mpr hv, hx⟩
  have rg : ∀ x, ringX M base (A ++ B) (base x) = true → (E x = true ∧ ∃ v, (v ∈ A ∨ v ∈ B) ∧ base x = base v) ∨ (E x = false ∧ ∃ v, (v ∈ A ∨ v ∈ B) ∧ x = M v) := fun x hx => by
    obtain ⟨v, hv, e⟩ := ringX_iff.mp hx
    have hv := List.mem_append.mp hv
    have hvE := (d2 v hv).1
    cases ex : E x
    · refine .inr ⟨rfl, v, hv, ?_⟩
      rw [h.2.2.2.1 x ex] at e
      rcases e with e | e
      · rw [e, (h.2.1 v hvE).2.2.1] at ex; cases ex
      · cases em : E (M v)
        · rw [h.2.2.2.1 _ em] at e; exact e
        · rw [e, (h.2.1 _ em).2.2.1] at ex; cases ex
    · refine .inl ⟨rfl, v, hv, ?_⟩
      rcases e with e | e
      · exact e
      · cases em : E (M v)
        · rw [h.2.2.2.1 _ em] at e
          have := (h.2.1 x ex).2.2.1
          rw [e, em] at this; cases this
        · rw [e, (h.mate hr hvE em).1]
  -- those that come into the block
  have inR : ∀ y, (ringX M base (A ++ B) (base y) = true ∨ (E y = true ∧ base y = t)) → E' y = true ∧ base' y = t := fun y hy => by
    rcases hy with hy | ⟨h1, h2⟩
    · exact ⟨(B1 y hy).2, (B1 y hy).1⟩
    · refine ⟨BE y h1, ?_⟩
      rw [hb', h2, ite_self]
  have aR : ringX M base (A ++ B) (base a) = true ∨ (E a = true ∧ base a = t) := by
    have e := hA.2.2.2.1
    cases hc : A with
    | nil => rw [hc, List.nil_append, List.cons.injEq] at e; exact .inr ⟨hA.1, by rw [e.1]; exact hA.2.2.2.2.2⟩
    | cons q A' => rw [← hc]; rw [hc, List.cons_append, List.cons.injEq] at e; exact .inl (rgi a (.inl (by rw [hc, e.1]; exact List.mem_cons_self ..)) _ (.inl rfl))
  have bR : ringX M base (A ++ B) (base b) = true ∨ (E b = true ∧ base b = t) := by
    have e := hB.2.2.2.1
    cases hc : B with
    | nil => rw [hc, List.nil_append, List.cons.injEq] at e; exact .inr ⟨hB.1, by rw [e.1]; exact hB.2.2.2.2.2⟩
    | cons q A' => rw [← hc]; rw [hc, List.cons_append, List.cons.injEq] at e; exact .inl (rgi b (.inr (by rw [hc, e.1]; exact List.mem_cons_self ..)) _ (.inl rfl))
  have tn : ∀ y, base y = t → ringX M base (A ++ B) (base y) = false := fun y hy => by
    cases hc : ringX M base (A ++ B) (base y)
    · rfl
    · rcases rg y hc with ⟨-, v, hv, e⟩ | ⟨h1, -⟩
      · exact absurd (e.symm.trans hy) (d2 v hv).2.2.2.2.1
      · rw [h.2.2.2.1 y h1] at hy; rw [hy, ht.1] at h1; cases h1
  -- from whom, on the ring
  have mkB : ∀ {Z : List Nat} {c o : Nat}, (∀ x, x ∈ Z → x ∈ A ∨ x ∈ B) → (c < 12 ∧ (ringX M base (A ++ B) (base c) = true ∨ (E c = true ∧ base c = t))) → (∀ v X, Z = X ++ [v] → adj v c = true) → (∀ X v x Y, Z = X ++ v :: x :: Y → adj v (M x) = true) → Back M f' c Z → ∀ v, v ∈ Z → f' v < 12 ∧ adj v (f' v) = true ∧ (ringX M base (A ++ B) (base (f' v)) = true ∨ (E (f' v) = true ∧ base (f' v) = t)) := fun {Z c o} hZ hc h1 h2 hb v hv => by
    obtain ⟨Z1, X, e, h3⟩ := hb.mem hv
    rw [h3.1]
    cases X with
    | nil => exact ⟨hc.1, h1 v Z1 e, hc.2⟩
    | cons x Y =>
      have hx := hZ x (by rw [e]; simp)
      exact ⟨(d2 x hx).2.2.2.2.2.1, h2 Z1 v x Y e, .inl (rgi x hx _ (.inr rfl))⟩
  have arm_adj : ∀ {a w : Nat} {A R L : List Nat}, Arm M f rt base E t a A w R L → (∀ y, y ∈ A → y ∈ a :: L ∧ E y = true ∧ y ≠ rt ∧ r t < r (base y) ∧ (f (M y) ∈ A ∨ f (M y) = w)) → ∀ X v x Y, A.reverse = X ++ v :: x :: Y → adj v (M x) = true := fun {a w A R L} hA a2 X v x Y e => by
    have e2 : A = Y.reverse ++ x :: v :: X.reverse := by
      have := congrArg List.reverse e
      rw [List.reverse_reverse] at this
      rw [this]; simp
    have h1 : EP M f rt x (v :: (X.reverse ++ w :: R)) := hA.2.1.split (P := Y.reverse) (by rw [hA.2.2.2.1, e2]; simp)
    obtain ⟨-, hx, hx2, -, -⟩ := a2 x (by rw [e2]; simp)
    have h3 := (h.2.2.1 x hx hx2).2.2.2.1
    rw [h1.2.1] at h3
    rw [hsym]; exact h3
  have arm_last : ∀ {a w : Nat} {A R L : List Nat}, Arm M f rt base E t a A w R L → ∀ v X, A.reverse = X ++ [v] → v = a := fun {a w A R L} hA v X e => by
    have e2 : A = v :: X.reverse := by
      have := congrArg List.reverse e
      rw [List.reverse_reverse] at this
      rw [this]; simp
    have := hA.2.2.2.1
    rw [e2, List.cons_append, List.cons.injEq] at this
    exact this.1.symm
  have d3 : ∀ v, v ∈ A ∨ v ∈ B → f' v < 12 ∧ adj v (f' v) = true ∧ (ringX M base (A ++ B) (base (f' v)) = true ∨ (E (f' v) = true ∧ base (f' v) = t)) := fun v hv => by
    rcases hv with hv | hv
    · exact mkB (o := 0) (fun x hx => .inl (List.mem_reverse.mp hx)) ⟨(h.2.1 b hB.1).1, bR⟩ (fun v X e => by rw [arm_last hA v X e]; exact hab) (arm_adj hA a2) hbA v (List.mem_reverse.mpr hv)
    · exact mkB (o := 0) (fun x hx => .inr (List.mem_reverse.mp hx)) ⟨(h.2.1 a hA.1).1, aR⟩ (fun v X e => by rw [arm_last hB v X e, hsym]; exact hab) (arm_adj hB b2) hbB v (List.mem_reverse.mpr hv)
  have f_out : ∀ x, base x = t ∨ E x = false → f' x = f x := fun x hx => by
    refine hf x (fun hv => ?_) (fun hv => ?_)
    · have := d2 x (.inl hv)
      rcases hx with hx | hx
      · exact this.2.2.2.2.1 hx
      · rw [hx] at this; cases this.1
    · have := d2 x (.inr hv)
      rcases hx with hx | hx
      · exact this.2.2.2.2.1 hx
      · rw [hx] at this; cases this.1
  have rtt : r (base rt) ≤ r t := by
    have h1 : ∀ {L : List Nat} {u : Nat}, EP M f rt u L → rt ∈ u :: L := by
      intro L
      induction L with
      | nil => intro u hu; rw [show u = rt from hu]; exact List.mem_cons_self ..
      | cons y L ih => intro u hu; exact List.mem_cons_of_mem _ (ih hu.2.2)
    have h2 : EP M f rt w R := hA.2.1.split hA.2.2.2.1
    rcases (a4 rt (h1 h2)).2 with e | e
    · rw [e]; exact Nat.le_refl _
    · omega
  have rtn : rt ∉ A ∧ rt ∉ B := ⟨fun hv => (d2 rt (.inl hv)).2.1 rfl, fun hv => (d2 rt (.inr hv)).2.1 rfl⟩
  have rtr : ringX M base (A ++ B) (base rt) = false := by
    cases hc : ringX M base (A ++ B) (base rt)
    · rfl
    · rcases rg rt hc with ⟨-, v, hv, e⟩ | ⟨h1, -⟩
      · have := (d2 v hv).2.2.1
        rw [← e] at this
        omega
      · rw [h.1.1] at h1; cases h1
  refine ⟨⟨⟨BE rt h.1.1, by rw [(B0 rt rtr).1]; exact h.1.2.1, by rw [hf rt rtn.1 rtn.2]; exact h.1.2.2⟩, fun x hx => ?_, fun x hx hxr => ?_, fun x hx => ?_, fun x hx => ?_, fun u hu => ?_⟩, fun k hk => ?_, fun k hk => ?_, (inR a aR).2, (inR b bR).2⟩
  · -- J2
    cases hc : ringX M base (A ++ B) (base x)
    · obtain ⟨e1, e2⟩ := B0 x hc
      rw [e2] at hx
      obtain ⟨h1, h2, h3, h4⟩ := h.2.1 x hx
      refine ⟨h1, h2, by rw [e1]; exact BE _ h3, ?_⟩
      rw [e1, (B0 (base x) (by rw [h4]; exact hc)).1, h4]
    · have h0 : x < 12 ∧ S x = true := by
        rcases rg x hc with ⟨h1, -⟩ | ⟨-, v, hv, e⟩
        · exact ⟨(h.2.1 x h1).1, (h.2.1 x h1).2.1⟩
        · obtain ⟨h1, h2, h3, h4, h5, h6, h7⟩ := d2 v hv
          rw [e]
          exact ⟨h6, (hM.inv h6 (by rw [h7]; exact (h.2.1 v h1).1)).2.1⟩
      refine ⟨h0.1, h0.2, ?_, ?_⟩
      · rw [(B1 x hc).1]; exact BE t ht.1
      · rw [(B1 x hc).1]; exact (inR t (.inr ht)).2
  · -- J3
    by_cases hmx : M x ∈ A ∨ M x ∈ B
    · obtain ⟨h1, h2, h3, h4, h5, h6, h7⟩ := d2 _ hmx
      have hx12 : x < 12 ∧ M (M x) = x := by
        cases e : E x
        · have hx2 := hx
          rw [hE', e, Bool.false_or] at hx2
          rcases rg x hx2 with ⟨h8, -⟩ | ⟨-, v, hv, e8⟩
          · rw [e] at h8; cases h8
          · obtain ⟨g1, g2, g3, g4, g5, g6, g7⟩ := d2 v hv
            rw [e8, g7]
            exact ⟨g6, rfl⟩
        · have := (h.2.1 x e).1
          exact ⟨this, (hM.inv this (h.2.1 _ h1).1).1⟩
      have rx : ringX M base (A ++ B) (base x) = true := rgi _ hmx _ (.inr (by rw [hx12.2]))
      have rmx : ringX M base (A ++ B) (base (M x)) = true := rgi _ hmx _ (.inl rfl)
      obtain ⟨g1, g2, g3⟩ := d3 _ hmx
      have g4 := inR _ g3
      have xt : x ≠ t := fun e => by
        rw [tn x (by rw [e]; exact ht.2)] at rx; cases rx
      rw [(B1 x rx).1, (B1 _ rmx).1, g4.2]
      exact ⟨(h.2.1 _ h1).1, g1, g4.1, g2, fun e => absurd e.symm xt, fun _ => ⟨(B1 _ rmx).2, rfl, rfl⟩⟩
    · have hxe : E x = true := by
        cases ex : E x
        · have hx2 := hx
          rw [hE', ex, Bool.false_or] at hx2
          rcases rg x hx2 with ⟨h8, -⟩ | ⟨-, v, hv, e8⟩
          · rw [ex] at h8; cases h8
          · exact absurd (by rw [e8, (d2 v hv).2.2.2.2.2.2]; exact hv) hmx
        · rfl
      have ef : f' (M x) = f (M x) := hf _ (fun hh => hmx (.inl hh)) (fun hh => hmx (.inr hh))
      obtain ⟨h1, h2, h3, h4, h5, h6⟩ := h.2.2.1 x hxe hxr
      rw [ef]
      refine ⟨h1, h2, BE _ h3, h4, ?_⟩
      have hmm : M (M x) = x := (hM.inv (h.2.1 x hxe).1 h1).1
      cases rx : ringX M base (A ++ B) (base x)
      · rw [(B0 x rx).1]
        refine ⟨fun e => ?_, fun e => ?_⟩
        · obtain ⟨h7, h8⟩ := h5 e
          refine ⟨?_, ?_⟩
          · rw [hE', h7, Bool.false_or]
            cases hc : ringX M base (A ++ B) (base (M x))
            · rfl
            · rcases rg _ hc with ⟨h9, -⟩ | ⟨-, v, hv, e9⟩
              · rw [h7] at h9; cases h9
              · have ev : x = v := by rw [← hmm, e9, (d2 v hv).2.2.2.2.2.2]
                rw [rgi v hv (base x) (.inl (by rw [ev]))] at rx
                cases rx
          · cases hc : ringX M base (A ++ B) (base (f (M x)))
            · rw [(B0 _ hc).1]; exact h8
            · rw [(B1 _ hc).1]
              rcases rg _ hc with ⟨-, v, hv, e9⟩ | ⟨h9, -⟩
              · rw [e9] at h8
                have := (d2 v hv).2.2.1
                omega
              · rw [h3] at h9; cases h9
        · obtain ⟨h7, h8, h9⟩ := h6 e
          rw [(B0 (M x) (by rw [h8]; exact rx)).1, (B0 (f (M x)) (by rw [h9]; exact rx)).1]
          exact ⟨BE _ h7, h8, h9⟩
      · rw [(B1 x rx).1]
        have xt : x ≠ t := fun e => by
          rw [tn x (by rw [e]; exact ht.2)] at rx; cases rx
        refine ⟨fun e => absurd e.symm xt, fun _ => ?_⟩
        by_cases eb : base x = x
        · -- the base of a block on the way
          obtain ⟨v, hv, e9⟩ : ∃ v, (v ∈ A ∨ v ∈ B) ∧ base x = base v := by
            rcases rg x rx with ⟨-, h9⟩ | ⟨h9, -⟩
            · exact h9
            · rw [hxe] at h9; cases h9
          have xin : x ∈ A ∨ x ∈ B := by
            rcases hv with hv | hv
            · exact .inl (h.through hA.1 hA.2.1 hA.2.2.2.1 (by rw [hA.2.2.2.2.2]; exact Ne.symm xt) ⟨v, hv, by rw [← e9, eb]⟩)
            · exact .inr (h.through hB.1 hB.2.1 hB.2.2.2.1 (by rw [hB.2.2.2.2.2]; exact Ne.symm xt) ⟨v, hv, by rw [← e9, eb]⟩)
          have rmx : ringX M base (A ++ B) (base (M x)) = true := rgi x xin _ (.inr rfl)
          have hn := (d2 x xin).2.2.2.1
          refine ⟨(B1 _ rmx).2, (B1 _ rmx).1, (inR (f (M x)) ?_).2⟩
          rcases hn with hn | hn
          · exact .inl (rgi _ hn _ (.inl rfl))
          · exact .inr ⟨h3, hn⟩
        · obtain ⟨h7, h8, h9⟩ := h6 eb
          have r8 := B1 (M x) (by rw [h8]; exact rx)
          have r9 := B1 (f (M x)) (by rw [h9]; exact rx)
          exact ⟨r8.2, r8.1, r9.1⟩
  · -- J4
    rw [hE', Bool.or_eq_false_iff] at hx
    rw [(B0 x hx.2).1]
    exact h.2.2.2.1 x hx.1
  · -- J5
    by_cases hv : x ∈ A ∨ x ∈ B
    · obtain ⟨h1, h2, h3, h4, h5, h6, h7⟩ := d2 _ hv
      exact ⟨(h.2.1 x h1).1, h6, (B1 _ (rgi x hv _ (.inr rfl))).2⟩
    · rw [hf x (fun hh => hv (.inl hh)) (fun hh => hv (.inr hh))] at hx
      obtain ⟨h1, h2, h3⟩ := h.2.2.2.2.1 x hx
      exact ⟨h1, h2, BE _ h3⟩
  · -- J6
    have hBA : ∀ v v', v ∈ B → v' ∈ A → base v ≠ base v' := fun v v' hv hv' e => hAB v' v hv' hv e.symm
    have hf2 : ∀ x, x ∉ B → x ∉ A → f' x = f x := fun x h1 h2 => hf x h2 h1
    cases eu : E u
    · rw [hE', eu, Bool.false_or] at hu
      rcases rg u hu with ⟨h8, -⟩ | ⟨-, v, hv, e8⟩
      · rw [eu] at h8; cases h8
      · rw [e8]
        rcases hv with hv | hv
        · obtain ⟨X, -, h1, h2⟩ := hA.back hM hirr hr h hB hAB hbA hf hv
          exact ⟨_, h1, h2⟩
        · obtain ⟨X, -, h1, h2⟩ := hB.back hM hirr hr h hA hBA hbB hf2 hv
          exact ⟨_, h1, h2⟩
    · obtain ⟨Lu, hp, hs⟩ := h.2.2.2.2.2 u eu
      by_cases hc : ∃ y, y ∈ u :: Lu ∧ (M y ∈ A ∨ M y ∈ B)
      · obtain ⟨P, z, Q, e, hz, hP⟩ := first_of hc
        have hP2 : ∀ y, y ∈ P → M y ∉ A ∧ M y ∉ B := fun y hy => ⟨fun hh => hP y hy (.inl hh), fun hh => hP y hy (.inr hh)⟩
        rcases hz with hz | hz
        · exact hA.redir hM hirr hr h hB hAB hbA hf eu hp hs e hz hP2
        · exact hB.redir hM hirr hr h hA hBA hbB hf2 eu hp hs e hz (fun y hy => ⟨(hP2 y hy).2, (hP2 y hy).1⟩)
      · exact ⟨Lu, hp.frame fun y hy => hf _ (fun hh => hc ⟨y, hy, .inl hh⟩) (fun hh => hc ⟨y, hy, .inr hh⟩), hs⟩
  · by_cases hv : k ∈ A ∨ k ∈ B
    · exact (d3 k hv).1
    · rw [hf k (fun hh => hv (.inl hh)) (fun hh => hv (.inr hh))]; exact hk
  · rcases rg k hk with ⟨h1, -⟩ | ⟨-, v, hv, e⟩
    · exact ⟨(h.2.1 k h1).2.1, (h.2.1 k h1).1⟩
    · obtain ⟨h1, h2, h3, h4, h5, h6, h7⟩ := d2 v hv
      rw [e]
      exact ⟨(hM.inv h6 (by rw [h7]; exact (h.2.1 v h1).1)).2.1, h6⟩
