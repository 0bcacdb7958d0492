/-! the path that was found is turned over -/
def opn (M : Nat → Nat) : Nat → List Nat → Nat → Nat
  | _, [] => M
  | e, v :: L => opn (va_up (va_up M e v) v e) (M v) L
/-- pairs but for one node, that hangs -/
def DM (adj : Nat → Nat → Bool) (S : Nat → Bool) (M : Nat → Nat) (e : Nat) : Prop := e < 12 ∧ S e = true ∧ ∀ x, x < 12 → x ≠ e → M x = 12 ∨ (M x < 12 ∧ M (M x) = x ∧ S x = true ∧ adj x (M x) = true ∧ M x ≠ e)
theorem opn_ok {adj : Nat → Nat → Bool} {S : Nat → Bool} {M0 f : Nat → Nat} {rt : Nat} (hirr : ∀ x, adj x x = false) (hsym : ∀ x y, adj x y = adj y x) (hrt : M0 rt = 12) : ∀ (L : List Nat) (v e : Nat) (M : Nat → Nat), EP M0 f rt v L → Smp M0 (v :: L) → (∀ y, y ∈ v :: L → M y = M0 y ∧ y < 12 ∧ S y = true ∧ y ≠ e ∧ (y ≠ rt → M0 y < 12 ∧ M0 (M0 y) = y ∧ adj (M0 y) (f (M0 y)) = true)) → DM adj S M e → adj e v = true → MOk adj S (opn M e (v :: L)) ∧ ∀ x, x < 12 → (opn M e (v :: L) x < 12 ↔ M x < 12 ∨ x = e ∨ x = rt)
  | [], v, e, M, hp, hs, hy, hd, ha => by
    obtain ⟨h1, h2, h3, h4, -⟩ := hy v (List.mem_cons_self ..)
    rw [show v = rt from hp] at h1 h2 h3 h4 ha ⊢
    obtain ⟨d1, d2, d3⟩ := hd
    rw [hrt] at h1
    have r1 : ∀ x, va_up (va_up M e rt) rt e x = if x = rt then e else if x = e then rt else M x := fun x => rfl
    have hne : ∀ x, x < 12 → x ≠ e → M x ≠ rt := fun x hx hxe e1 => by
      rcases d3 x hx hxe with h | ⟨h, h6, -⟩
      · omega
      · rw [e1, h1] at h6; omega
    refine ⟨fun x hx => ?_, fun x hx => ?_⟩
    · show va_up (va_up M e rt) rt e x = 12 ∨ _
      show _ ∨ (va_up (va_up M e rt) rt e x < 12 ∧ va_up (va_up M e rt) rt e (va_up (va_up M e rt) rt e x) = x ∧ S x = true ∧ adj x (va_up (va_up M e rt) rt e x) = true)
      by_cases e1 : x = rt
      · rw [e1]
        right
        rw [up_t, r1, if_neg (Ne.symm h4), if_pos rfl, hsym]
        exact ⟨d1, rfl, h3, ha⟩
      · by_cases e2 : x = e
        · rw [e2]
          right
          rw [r1 e, if_neg (Ne.symm h4), if_pos rfl, up_t]
          exact ⟨h2, rfl, d2, ha⟩
        · rw [r1 x, if_neg e1, if_neg e2]
          rcases d3 x hx e2 with h | ⟨g1, g2, g3, g4, g5⟩
          · exact .inl h
          · right
            rw [r1, if_neg (hne x hx e2), if_neg g5]
            exact ⟨g1, g2, g3, g4⟩
    · show va_up (va_up M e rt) rt e x < 12 ↔ _
      rw [r1]
      by_cases e1 : x = rt
      · rw [if_pos e1]; exact ⟨fun _ => .inr (.inr e1), fun _ => d1⟩
      · rw [if_neg e1]
        by_cases e2 : x = e
        · rw [if_pos e2]; exact ⟨fun _ => .inr (.inl e2), fun _ => h2⟩
        · rw [if_neg e2]; exact ⟨.inl, fun h => h.resolve_right fun h => h.elim e2 e1⟩
  | y :: t, v, e, M, hp, hs, hy, hd, ha => by
    obtain ⟨h1, h2, h3, h4, h5⟩ := hy v (List.mem_cons_self ..)
    obtain ⟨h6, h7, h8⟩ := h5 hp.1
    obtain ⟨d1, d2, d3⟩ := hd
    obtain ⟨s1, s2⟩ := List.pairwise_cons.mp hs
    have hvv : M v ≠ v := fun e1 => by
      have := (d3 v h2 h4).resolve_left (by rw [h1]; omega)
      rw [e1, hirr] at this
      cases this.2.2.2.1
    obtain ⟨v1, v2, v3, v4, v5⟩ := (d3 v h2 h4).resolve_left (by rw [h1]; omega)
    have r1 : ∀ x, va_up (va_up M e v) v e x = if x = v then e else if x = e then v else M x := fun x => rfl
    have hd' : DM adj S (va_up (va_up M e v) v e) (M v) := by
      refine ⟨v1, ?_, fun x hx hxe => ?_⟩
      · have := (d3 (M v) v1 v5).resolve_left (by rw [v2]; omega)
        exact this.2.2.1
      · by_cases e1 : x = v
        · rw [e1, up_t, r1, if_neg (Ne.symm h4), if_pos rfl, hsym]
          exact .inr ⟨d1, rfl, v3, ha, Ne.symm v5⟩
        · by_cases e2 : x = e
          · rw [e2, r1 e, if_neg (Ne.symm h4), if_pos rfl, up_t]
            exact .inr ⟨h2, rfl, d2, ha, Ne.symm hvv⟩
          · rw [r1 x, if_neg e1, if_neg e2]
            rcases d3 x hx e2 with h | ⟨g1, g2, g3, g4, g5⟩
            · exact .inl h
            · have g6 : M x ≠ v := fun e3 => by rw [e3] at g2; exact hxe g2.symm
              rw [r1, if_neg g6, if_neg g5]
              refine .inr ⟨g1, g2, g3, g4, fun e3 => e1 ?_⟩
              rw [e3, v2] at g2
              exact g2.symm
    have ih := opn_ok hirr hsym hrt t y (M v) (va_up (va_up M e v) v e) hp.2.2 s2 (fun z hz => by
      obtain ⟨g1, g2, g3, g4, g5⟩ := hy z (List.mem_cons_of_mem _ hz)
      refine ⟨?_, g2, g3, fun e3 => ?_, g5⟩
      · rw [r1, if_neg (Ne.symm (s1 z hz).1), if_neg g4, g1]
      · apply (s1 z hz).2
        rw [e3, h1, h7]) hd' (by rw [h1, ← hp.2.1]; exact h8)
    refine ⟨ih.1, fun x hx => ?_⟩
    refine (ih.2 x hx).trans ?_
    rw [r1]
    by_cases e1 : x = v
    · rw [if_pos e1, e1]; exact ⟨fun _ => .inl v1, fun _ => .inl d1⟩
    · rw [if_neg e1]
      by_cases e2 : x = e
      · rw [if_pos e2]; exact ⟨fun _ => .inr (.inl e2), fun _ => .inl h2⟩
      · rw [if_neg e2]
        constructor
        · rintro (h | h | h)
          · exact .inl h
          · rw [h, v2]; exact .inl h2
          · exact .inr (.inr h)
        · rintro (h | h | h)
          · exact .inl h
          · exact absurd h e2
          · exact .inr (.inr h)
/-- a free one was come to -/
theorem EdI.freed {adj : Nat → Nat → Bool} {S : Nat → Bool} {M : Nat → Nat} (hM : MOk adj S M) (hirr : ∀ x, adj x x = false) (hsym : ∀ x y, adj x y = adj y x) {rt : Nat} (hr : M rt = 12) {f base : Nat → Nat} {E : Nat → Bool} {r : Nat → Nat} (h : EdI adj S M rt f base E r) {v e : Nat} (hv : E v = true) (he : e < 12) (heS : S e = true) (hee : e ≠ rt) (hem : M e = 12) (hve : adj v e = true) : ∃ L, EP M f rt v L ∧ (∀ y, y ∈ v :: L → y ≠ e ∧ M y ≠ e ∧ y < 12 ∧ (y ≠ rt → M y < 12 ∧ M y ≠ y)) ∧ Smp M (v :: L) ∧ MOk adj S (opn M e (v :: L)) ∧ ∀ x, x < 12 → (opn M e (v :: L) x < 12 ↔ M x < 12 ∨ x = e ∨ x = rt) := by
  obtain ⟨L, h1, h2⟩ := h.2.2.2.2.2 v hv
  have h3 := h.even_path hv h1
  have h4 : ∀ y, y ∈ v :: L → y ≠ e := fun y hy e1 => by
    rw [e1] at hy
    have := h.2.2.1 e (h3 e hy) hee
    omega
  have h5 : ∀ y, y < 12 → M y ≠ e := fun y hy e1 => by
    have := (hM.inv hy (by omega)).1
    rw [e1, hem] at this
    omega
  refine ⟨L, h1, fun y hy => ⟨h4 y hy, h5 y (h.2.1 y (h3 y hy)).1, (h.2.1 y (h3 y hy)).1, fun hn => ?_⟩, h2, opn_ok hirr hsym hr L v e M h1 h2 (fun y hy => ?_) ⟨he, heS, fun x hx hxe => ?_⟩ (by rw [hsym]; exact hve)⟩
  · have g1 := (h.2.2.1 y (h3 y hy) hn).1
    refine ⟨g1, fun e1 => ?_⟩
    have := (hM.inv (h.2.1 y (h3 y hy)).1 g1).2.2
    rw [e1, hirr] at this
    cases this
  · obtain ⟨g1, g2, -⟩ := h.2.1 y (h3 y hy)
    refine ⟨rfl, g1, g2, h4 y hy, fun hn => ?_⟩
    obtain ⟨k1, k2, k3, k4, -⟩ := h.2.2.1 y (h3 y hy) hn
    exact ⟨k1, (hM.inv g1 k1).1, k4⟩
  · rcases hM x hx with g | ⟨g1, g2, g3, g4⟩
    · exact .inl g
    · exact .inr ⟨g1, g2, g3, g4, h5 x hx⟩
