/-! counts -/
theorem cnt_le_of {p q : Nat → Bool} : ∀ n, (∀ i, i < n → p i = true → q i = true) → cnt p n ≤ cnt q n
  | 0, _ => Nat.le_refl _
  | n + 1, h => by
    have ih := cnt_le_of n (fun i hi => h i (by omega))
    rw [cnt, cnt]
    cases hp : p n
    · simp only [Bool.false_eq_true, if_false]; omega
    · rw [h n (by omega) hp]; omega
theorem cnt_eq_of {p q : Nat → Bool} : ∀ n, (∀ i, i < n → p i = true → q i = true) → cnt q n ≤ cnt p n → ∀ i, i < n → q i = true → p i = true
  | 0, _, _, i, hi, _ => by omega
  | n + 1, h, hc, i, hi, hq => by
    have ih := cnt_le_of n (fun i hi => h i (by omega))
    rw [cnt, cnt] at hc
    have hn : q n = true → p n = true := fun hqn => by
      cases hp : p n
      · rw [hp, hqn] at hc
        simp only [Bool.false_eq_true, if_false, if_true] at hc
        omega
      · rfl
    by_cases e : i = n
    · rw [e] at hq ⊢; exact hn hq
    · refine cnt_eq_of n (fun i hi => h i (by omega)) ?_ i (by omega) hq
      cases hp : p n
      · cases hqn : q n
        · rw [hp, hqn] at hc; omega
        · rw [hn hqn] at hp; cases hp
      · rw [hp, h n (by omega) hp] at hc
        simp only [if_true] at hc
        omega
theorem cnt_add (p q : Nat → Bool) : ∀ n, (∀ i, i < n → p i = true → q i = false) → cnt (fun i => p i || q i) n = cnt p n + cnt q n
  | 0, _ => rfl
  | n + 1, h => by
    rw [cnt, cnt, cnt, cnt_add p q n (fun i hi => h i (by omega))]
    cases hp : p n
    · rw [Bool.false_or]; simp only [Bool.false_eq_true, if_false]; omega
    · rw [h n (by omega) hp, Bool.or_false]; simp only [Bool.false_eq_true, if_false, if_true]; omega
theorem cnt_split (p q : Nat → Bool) : ∀ n, cnt p n = cnt (fun i => p i && q i) n + cnt (fun i => p i && !q i) n
  | 0 => rfl
  | n + 1 => by
    rw [cnt, cnt, cnt, cnt_split p q n]
    cases p n <;> cases q n <;> simp <;> omega
theorem cnt_one {j : Nat} : ∀ n, j < n → cnt (fun i => i == j) n = 1
  | n + 1, h => by
    rw [cnt]
    by_cases e : n = j
    · subst e
      have : cnt (fun i => i == n) n = 0 := by
        have key : ∀ m, m ≤ n → cnt (fun i => i == n) m = 0 := by
          intro m
          induction m with
          | zero => intro _; rfl
          | succ m ih => intro hm; rw [cnt, ih (by omega)]; simp; omega
        exact key n (Nat.le_refl _)
      rw [this]; simp
    · rw [cnt_one n (by omega)]; simp [e]
theorem cnt_rem {p : Nat → Bool} {n j : Nat} (hj : j < n) (hp : p j = true) : cnt p n = cnt (fun i => p i && !(i == j)) n + 1 := by
  rw [cnt_split p (fun i => i == j) n, ← cnt_one n hj, Nat.add_comm]
  congr 1
  exact cnt_congr n fun i _ => by
    by_cases e : i = j
    · rw [e, hp]; simp
    · simp [e]
theorem cnt_inj {g : Nat → Nat} {m : Nat} : ∀ (k : Nat) (p q : Nat → Bool), (∀ x, x < k → p x = true → g x < m ∧ q (g x) = true) → (∀ x y, x < k → y < k → p x = true → p y = true → g x = g y → x = y) → cnt p k ≤ cnt q m
  | 0, _, _, _, _ => Nat.zero_le _
  | k + 1, p, q, h, hi => by
    rw [cnt]
    cases hp : p k
    · rw [if_neg (by simp)]
      exact cnt_inj k p q (fun x hx => h x (by omega)) (fun x y hx hy => hi x y (by omega) (by omega))
    · obtain ⟨h1, h2⟩ := h k (by omega) hp
      rw [if_pos rfl, cnt_rem h1 h2]
      refine Nat.succ_le_succ (cnt_inj k p _ (fun x hx hpx => ?_) (fun x y hx hy => hi x y (by omega) (by omega)))
      obtain ⟨h3, h4⟩ := h x (by omega) hpx
      refine ⟨h3, ?_⟩
      have h5 : g x ≠ g k := fun e => by
        have := hi x k (by omega) (by omega) hpx hp e
        omega
      rw [h4]
      simp [h5]
theorem cnt_surj {g : Nat → Nat} {n m : Nat} {p q : Nat → Bool} (h : ∀ y, y < m → q y = true → ∃ x, x < n ∧ p x = true ∧ g x = y) : cnt q m ≤ cnt p n := by
  have h' : ∀ y, ∃ x, y < m → q y = true → x < n ∧ p x = true ∧ g x = y := fun y => by
    by_cases h1 : y < m ∧ q y = true
    · obtain ⟨x, hx⟩ := h y h1.1 h1.2
      exact ⟨x, fun _ _ => hx⟩
    · exact ⟨0, fun a b => absurd ⟨a, b⟩ h1⟩
  refine cnt_inj (g := fun y => Classical.choose (h' y)) m q p (fun y hy hq => ?_) (fun y z hy hz hqy hqz e => ?_)
  · have := Classical.choose_spec (h' y) hy hq
    exact ⟨this.1, this.2.1⟩
  · have h1 := (Classical.choose_spec (h' y) hy hqy).2.2
    have h2 := (Classical.choose_spec (h' z) hz hqz).2.2
    have e : Classical.choose (h' y) = Classical.choose (h' z) := e
    rw [← h1, e, h2]
theorem cnt_pos {p : Nat → Bool} : ∀ n, cnt p n ≠ 0 → ∃ x, x < n ∧ p x = true
  | 0, h => absurd rfl h
  | n + 1, h => by
    cases hp : p n
    · rw [cnt, hp] at h
      obtain ⟨x, hx, hpx⟩ := cnt_pos n h
      exact ⟨x, by omega, hpx⟩
    · exact ⟨n, by omega, hp⟩
/-- what goes in pairs is even -/
theorem cnt_even {g : Nat → Nat} {n : Nat} : ∀ (k : Nat) (p : Nat → Bool), cnt p n ≤ k → (∀ x, x < n → p x = true → g x < n ∧ p (g x) = true ∧ g (g x) = x ∧ g x ≠ x) → cnt p n % 2 = 0
  | k, p, hk, h => by
    by_cases e : cnt p n = 0
    · rw [e]
    · obtain ⟨x, hx, hp⟩ := cnt_pos n e
      obtain ⟨h1, h2, h3, h4⟩ := h x hx hp
      have e1 := cnt_rem hx hp
      have e2 := cnt_rem (p := fun i => p i && !(i == x)) h1 (by rw [h2]; simp [h4])
      match k, hk with
      | 0, hk => omega
      | 1, hk => omega
      | k + 2, hk =>
        have := cnt_even (g := g) (n := n) k (fun i => p i && !(i == x) && !(i == g x)) (by omega) (fun y hy hpy => by
          simp only [Bool.and_eq_true, Bool.not_eq_true', beq_eq_false_iff_ne] at hpy
          obtain ⟨⟨g1, g2⟩, g3⟩ := hpy
          obtain ⟨k1, k2, k3, k4⟩ := h y hy g1
          refine ⟨k1, ?_, k3, k4⟩
          simp only [Bool.and_eq_true, Bool.not_eq_true', beq_eq_false_iff_ne]
          refine ⟨⟨k2, fun e3 => ?_⟩, fun e3 => ?_⟩
          · rw [e3] at k3; exact g3 k3.symm
          · rw [e3, h3] at k3; exact g2 k3.symm)
        omega
/-! a tree that can't grow -/
/-- what the even ones that were gone over stand beside -/
def EdC (adj : Nat → Nat → Bool) (S : Nat → Bool) (M f base : Nat → Nat) (E Pr : Nat → Bool) : Prop :=
  (∀ x, Pr x = true → E x = true) ∧ (∀ x k, Pr x = true → k < 12 → S k = true → adj x k = true → E k = true ∨ f k < 12) ∧ (∀ x y, Pr x = true → Pr y = true → adj x y = true → base x = base y ∨ M x = y)
/-- nodes that need no more be looked at -/
def Dead (adj : Nat → Nat → Bool) (S : Nat → Bool) (M : Nat → Nat) (D : Nat → Bool) (k : Nat) : Prop :=
  (∀ x, D x = true → x < 12 ∧ S x = true ∧ (M x < 12 ∨ x < k)) ∧ (∀ x, D x = true → M x < 12 → D (M x) = true) ∧
  (∀ N, MOk adj S N → cnt (fun x => decide (N x < 12) && (D x || D (N x))) 12 ≤ cnt (fun x => D x && decide (M x < 12)) 12) ∧
  (∀ x, x < k → x < 12 → S x = true → M x < 12 ∨ D x = true)
theorem Dead.start {adj : Nat → Nat → Bool} {S : Nat → Bool} {M : Nat → Nat} : Dead adj S M (fun _ => false) 0 := by
  refine ⟨fun x h => (nomatch h), fun x h => (nomatch h), fun N _ => ?_, fun x h => by omega⟩
  exact cnt_le_of 12 fun i _ h => by simp at h
/-- a pair more leaves the dead as they are -/
theorem Dead.found {adj : Nat → Nat → Bool} {S : Nat → Bool} {M M' : Nat → Nat} {D : Nat → Bool} {k e : Nat} (h : Dead adj S M D k) (hM' : MOk adj S M') (hc : ∀ x, x < 12 → (M' x < 12 ↔ M x < 12 ∨ x = e ∨ x = k)) : Dead adj S M' D (k + 1) := by
  obtain ⟨h1, h2, h3, h4⟩ := h
  have up : ∀ x, x < 12 → M x < 12 → M' x < 12 := fun x hx hm => (hc x hx).mpr (.inl hm)
  have eqs := cnt_eq_of (p := fun x => D x && decide (M x < 12)) (q := fun x => decide (M' x < 12) && (D x || D (M' x))) 12 (fun i hi hp => by
    simp only [Bool.and_eq_true, decide_eq_true_eq] at hp
    simp only [Bool.and_eq_true, decide_eq_true_eq, Bool.or_eq_true]
    exact ⟨up i hi hp.2, .inl hp.1⟩) (h3 M' hM')
  have same : ∀ x, x < 12 → D x = true → (M' x < 12 ↔ M x < 12) := fun x hx hD => by
    refine ⟨fun hm => ?_, up x hx⟩
    have := eqs x hx (by simp [hm, hD])
    simp only [Bool.and_eq_true, decide_eq_true_eq] at this
    exact this.2
  refine ⟨fun x hx => ?_, fun x hx hm => ?_, fun N hN => ?_, fun x hx hx12 hS => ?_⟩
  · obtain ⟨g1, g2, g3⟩ := h1 x hx
    refine ⟨g1, g2, ?_⟩
    rcases g3 with g3 | g3
    · exact .inl (up x g1 g3)
    · exact .inr (by omega)
  · have hx12 := (h1 x hx).1
    have hi := (hM'.inv hx12 hm).1
    have := eqs (M' x) hm (by rw [hi]; simp [hx, hx12])
    simp only [Bool.and_eq_true] at this
    exact this.1
  · refine Nat.le_trans (h3 N hN) (cnt_le_of 12 fun i hi hp => ?_)
    simp only [Bool.and_eq_true, decide_eq_true_eq] at hp ⊢
    exact ⟨hp.1, up i hi hp.2⟩
  · by_cases e1 : x = k
    · exact .inl ((hc x hx12).mpr (.inr (.inr e1)))
    · rcases h4 x (by omega) hx12 hS with g | g
      · exact .inl (up x hx12 g)
      · exact .inr g
theorem cnt_or_le (p q : Nat → Bool) : ∀ n, cnt (fun i => p i || q i) n ≤ cnt p n + cnt q n
  | 0 => Nat.le_refl _
  | n + 1 => by
    have := cnt_or_le p q n
    rw [cnt, cnt, cnt]
    cases p n <;> cases q n <;> simp <;> omega
/-- a tree that can't grow is dead -/
theorem Dead.fail {adj : Nat → Nat → Bool} {S : Nat → Bool} {M : Nat → Nat} (hM : MOk adj S M) (hirr : ∀ x, adj x x = false) (hsym : ∀ x y, adj x y = adj y x) {D : Nat → Bool} {k : Nat} (h : Dead adj S M D k) (hk : M k = 12) {f base : Nat → Nat} {E : Nat → Bool} {r : Nat → Nat} (hI : EdI adj S M k f base E r) (hC : EdC adj S M f base E E) : Dead adj S M (fun x => D x || (E x || decide (f x < 12))) (k + 1) := by
  obtain ⟨h1, h2, h3, h4⟩ := h
  have hDk : D k = false := by
    cases e : D k
    · rfl
    · rcases (h1 k e).2.2 with g | g <;> omega
  have hEk := hI.1.1
  have k12 := (hI.2.1 k hEk).1
  have inn : ∀ x, f x < 12 → x < 12 ∧ S x = true ∧ M x < 12 ∧ E (M x) = true := fun x hx => by
    obtain ⟨g1, g2, g3⟩ := hI.2.2.2.2.1 x hx
    exact ⟨g1, (hM.inv g1 g2).2.1, g2, g3⟩
  have dM : ∀ x, x < 12 → M x < 12 → D (M x) = true → D x = true := fun x hx hm hD => by
    have e := (hM.inv hx hm).1
    have := h2 _ hD (by rw [e]; exact hx)
    rwa [e] at this
  refine ⟨fun x hx => ?_, fun x hx hm => ?_, fun N hN => ?_, fun x hx hx12 hS => ?_⟩
  · simp only [Bool.or_eq_true, decide_eq_true_eq] at hx
    rcases hx with hx | hx | hx
    · obtain ⟨g1, g2, g3⟩ := h1 x hx
      exact ⟨g1, g2, g3.imp id fun h => by omega⟩
    · obtain ⟨g1, g2, -⟩ := hI.2.1 x hx
      refine ⟨g1, g2, ?_⟩
      by_cases e : x = k
      · exact .inr (by omega)
      · exact .inl (hI.2.2.1 x hx e).1
    · obtain ⟨g1, g2, g3, -⟩ := inn x hx
      exact ⟨g1, g2, .inl g3⟩
  · simp only [Bool.or_eq_true, decide_eq_true_eq] at hx ⊢
    rcases hx with hx | hx | hx
    · exact .inl (h2 x hx hm)
    · exact .inr (.inr (hI.2.2.1 x hx (fun e => by rw [e, hk] at hm; omega)).2.1)
    · exact .inr (.inl (inn x hx).2.2.2)
  · -- the count
    have a1 := cnt_split (fun x => decide (N x < 12) && ((D x || (E x || decide (f x < 12))) || (D (N x) || (E (N x) || decide (f (N x) < 12))))) (fun x => D x || D (N x)) 12
    have a2 := cnt_split (fun x => (D x || (E x || decide (f x < 12))) && decide (M x < 12)) D 12
    have a3 : cnt (fun x => (decide (N x < 12) && ((D x || (E x || decide (f x < 12))) || (D (N x) || (E (N x) || decide (f (N x) < 12))))) && (D x || D (N x))) 12 ≤ cnt (fun x => (D x || (E x || decide (f x < 12))) && decide (M x < 12) && D x) 12 := by
      refine Nat.le_trans (cnt_le_of 12 fun i hi hp => ?_) (Nat.le_trans (h3 N hN) (cnt_le_of 12 fun i hi hp => ?_))
      · simp only [Bool.and_eq_true] at hp ⊢
        exact ⟨hp.1.1, hp.2⟩
      · simp only [Bool.and_eq_true] at hp ⊢
        exact ⟨⟨by rw [hp.1]; rfl, hp.2⟩, hp.1⟩
    refine Nat.le_trans (Nat.le_of_eq a1) (Nat.le_trans (Nat.add_le_add a3 ?_) (Nat.le_of_eq a2.symm))
    -- even ones, odd ones, bases
    have c1 : cnt (fun x => E x && !D x) 12 + cnt (fun x => decide (f x < 12) && !E x && !D x) 12 ≤ cnt (fun x => (D x || (E x || decide (f x < 12))) && decide (M x < 12) && !D x) 12 + 1 := by
      rw [cnt_rem (p := fun x => E x && !D x) k12 (by simp [hEk, hDk]), Nat.add_right_comm, ← cnt_add]
      · refine Nat.succ_le_succ (cnt_le_of 12 fun i hi hp => ?_)
        simp only [Bool.or_eq_true, Bool.and_eq_true, Bool.not_eq_true', decide_eq_true_eq, beq_eq_false_iff_ne] at hp ⊢
        rcases hp with ⟨⟨g1, g2⟩, g3⟩ | ⟨⟨g1, g2⟩, g3⟩
        · exact ⟨⟨.inr (.inl g1), (hI.2.2.1 i g1 g3).1⟩, g2⟩
        · exact ⟨⟨.inr (.inr g1), (inn i g1).2.2.1⟩, g3⟩
      · intro i hi hp
        simp only [Bool.and_eq_true, Bool.not_eq_true', beq_eq_false_iff_ne] at hp
        simp [hp.1.1]
    have c2 : cnt (fun x => decide (f x < 12) && !E x && !D x) 12 + 1 ≤ cnt (fun x => E x && !D x && (base x == x)) 12 := by
      rw [cnt_rem (p := fun x => E x && !D x && (base x == x)) k12 (by simp [hEk, hDk, hI.1.2.1])]
      refine Nat.succ_le_succ (cnt_inj (g := M) 12 _ _ (fun x hx hp => ?_) (fun x y hx hy hpx hpy e => ?_))
      · simp only [Bool.and_eq_true, Bool.not_eq_true', decide_eq_true_eq, beq_eq_false_iff_ne, beq_iff_eq] at hp ⊢
        obtain ⟨⟨g1, g2⟩, g3⟩ := hp
        obtain ⟨i1, i2, i3, i4⟩ := inn x g1
        have mm := (hM.inv hx i3).1
        have nk : M x ≠ k := fun e => by rw [e, hk] at mm; omega
        refine ⟨i3, ⟨⟨i4, ?_⟩, ?_⟩, nk⟩
        · cases hd : D (M x)
          · rfl
          · rw [dM x hx i3 hd] at g3; cases g3
        · by_cases e : base (M x) = M x
          · exact e
          · have := ((hI.2.2.1 _ i4 nk).2.2.2.2.2 e).1
            rw [mm, g2] at this
            cases this
      · simp only [Bool.and_eq_true, Bool.not_eq_true', decide_eq_true_eq] at hpx hpy
        rw [← (hM.inv hx (inn x hpx.1.1).2.2.1).1, e, (hM.inv hy (inn y hpy.1.1).2.2.1).1]
    have c3 : cnt (fun x => (E x && !D x) && (decide (N x < 12) && (E (N x) && !D (N x)))) 12 + cnt (fun x => E x && !D x && (base x == x)) 12 ≤ cnt (fun x => E x && !D x) 12 := by
      rw [cnt_split (fun x => E x && !D x) (fun x => decide (N x < 12) && (E (N x) && !D (N x))) 12]
      refine Nat.add_le_add_left (cnt_surj (g := base) fun b hb hq => ?_) _
      simp only [Bool.and_eq_true, Bool.not_eq_true', beq_iff_eq] at hq
      obtain ⟨⟨b1, b2⟩, b3⟩ := hq
      refine Classical.byContradiction fun hno => ?_
      have all : ∀ x, x < 12 → E x = true → D x = false → base x = b → N x < 12 ∧ E (N x) = true ∧ D (N x) = false := fun x hx g1 g2 g3 => by
        refine Classical.byContradiction fun hn => hno ⟨x, hx, ?_, g3⟩
        simp only [Bool.and_eq_true, Bool.not_eq_true', Bool.and_eq_false_iff, decide_eq_false_iff_not, Bool.not_eq_false']
        refine ⟨⟨g1, g2⟩, ?_⟩
        by_cases e1 : N x < 12
        · right
          cases e2 : E (N x)
          · exact .inl rfl
          · cases e3 : D (N x)
            · exact absurd ⟨e1, e2, e3⟩ hn
            · exact .inr rfl
        · exact .inl e1
      have p1 := cnt_even (g := N) 12 (n := 12) (fun x => E x && !D x && (base x == b)) (cnt_le _ 12) (fun x hx hp => by
        simp only [Bool.and_eq_true, Bool.not_eq_true', beq_iff_eq] at hp ⊢
        obtain ⟨⟨g1, g2⟩, g3⟩ := hp
        obtain ⟨k1, k2, k3⟩ := all x hx g1 g2 g3
        obtain ⟨i1, i2, i3⟩ := hN.inv hx k1
        refine ⟨k1, ⟨⟨k2, k3⟩, ?_⟩, i1, fun e => by rw [e, hirr] at i3; cases i3⟩
        rcases hC.2.2 x (N x) g1 k2 i3 with e | e
        · rw [← e, g3]
        · rw [← e, (hI.mate hk g1 (by rw [e]; exact k2)).1, g3])
      have p2 := cnt_even (g := M) 12 (n := 12) (fun x => (E x && !D x && (base x == b)) && !(x == b)) (cnt_le _ 12) (fun x hx hp => by
        simp only [Bool.and_eq_true, Bool.not_eq_true', beq_iff_eq, beq_eq_false_iff_ne] at hp ⊢
        obtain ⟨⟨⟨g1, g2⟩, g3⟩, g4⟩ := hp
        have nk : x ≠ k := fun e => g4 (by rw [← g3, e, hI.1.2.1])
        obtain ⟨k1, k2, k3, k4, k5, k6⟩ := hI.2.2.1 x g1 nk
        obtain ⟨j1, j2, j3⟩ := k6 (by rw [g3]; exact Ne.symm g4)
        obtain ⟨i1, i2, i3⟩ := hM.inv hx k1
        refine ⟨k1, ⟨⟨⟨j1, ?_⟩, by rw [j2, g3]⟩, fun e => ?_⟩, i1, fun e => by rw [e, hirr] at i3; cases i3⟩
        · cases hd : D (M x)
          · rfl
          · rw [dM x hx k1 hd] at g2; cases g2
        · have := (hI.mate hk j1 (by rw [i1]; exact g1)).2
          rw [j2, g3, e] at this
          exact this rfl)
      have p3 := cnt_rem (p := fun x => E x && !D x && (base x == b)) hb (by simp [b1, b2, b3])
      omega
    have c4 : cnt (fun x => decide (N x < 12) && (decide (f (N x) < 12) && !E (N x) && !D (N x))) 12 ≤ cnt (fun x => decide (f x < 12) && !E x && !D x) 12 := by
      refine cnt_inj (g := N) 12 _ _ (fun x hx hp => ?_) (fun x y hx hy hpx hpy e => ?_)
      · simp only [Bool.and_eq_true, decide_eq_true_eq] at hp
        refine ⟨hp.1, ?_⟩
        simp only [Bool.and_eq_true, decide_eq_true_eq]
        exact hp.2
      · simp only [Bool.and_eq_true, decide_eq_true_eq] at hpx hpy
        rw [← (hN.inv hx hpx.1).1, e, (hN.inv hy hpy.1).1]
    have c5 : cnt (fun x => (decide (N x < 12) && ((D x || (E x || decide (f x < 12))) || (D (N x) || (E (N x) || decide (f (N x) < 12))))) && !(D x || D (N x))) 12 ≤ cnt (fun x => decide (f x < 12) && !E x && !D x) 12 + cnt (fun x => decide (N x < 12) && (decide (f (N x) < 12) && !E (N x) && !D (N x))) 12 + cnt (fun x => (E x && !D x) && (decide (N x < 12) && (E (N x) && !D (N x)))) 12 := by
      refine Nat.le_trans (cnt_le_of (q := fun x => ((decide (f x < 12) && !E x && !D x) || (decide (N x < 12) && (decide (f (N x) < 12) && !E (N x) && !D (N x)))) || ((E x && !D x) && (decide (N x < 12) && (E (N x) && !D (N x))))) 12 fun x hx hp => ?_) (Nat.le_trans (cnt_or_le _ _ 12) (Nat.add_le_add_right (cnt_or_le _ _ 12) _))
      simp only [Bool.and_eq_true, decide_eq_true_eq, Bool.not_eq_true', Bool.or_eq_false_iff] at hp
      obtain ⟨⟨n1, g⟩, g1, g2⟩ := hp
      rw [g1, g2, Bool.false_or, Bool.false_or] at g
      simp only [g1, g2, n1, decide_true, Bool.true_and, Bool.not_false, Bool.and_true]
      obtain ⟨i1, i2, i3⟩ := hN.inv hx n1
      have i4 := (hN.inv n1 (by rw [i1]; exact hx)).2.1
      have q1 : E x = true → E (N x) = true ∨ f (N x) < 12 := fun e => hC.2.1 x (N x) e n1 i4 i3
      have q2 : E (N x) = true → E x = true ∨ f x < 12 := fun e => hC.2.1 (N x) x e hx i2 (by rw [hsym]; exact i3)
      simp only [Bool.or_eq_true, decide_eq_true_eq] at g
      cases ex : E x <;> cases ey : E (N x)
      · rw [ex, ey] at g
        simp only [Bool.false_eq_true, false_or] at g
        rcases g with g | g <;> simp [g]
      · have := (q2 ey).resolve_left (by rw [ex]; simp)
        simp [this]
      · have := (q1 ex).resolve_left (by rw [ey]; simp)
        simp [this]
      · simp
    omega
  · by_cases e : x = k
    · exact .inr (by simp [e, hEk])
    · rcases h4 x (by omega) hx12 hS with g | g
      · exact .inl g
      · exact .inr (by simp [g])
/-- at last there is no greater one -/
theorem Dead.most {adj : Nat → Nat → Bool} {S : Nat → Bool} {M : Nat → Nat} {D : Nat → Bool} {n : Nat} (hSn : ∀ x, S x = true → x < n) (h : Dead adj S M D n) (N : Nat → Nat) (hN : MOk adj S N) : cnt (fun x => decide (N x < 12)) 12 ≤ cnt (fun x => decide (M x < 12)) 12 := by
  obtain ⟨h1, h2, h3, h4⟩ := h
  rw [cnt_split (fun x => decide (N x < 12)) (fun x => D x || D (N x)) 12, cnt_split (fun x => decide (M x < 12)) D 12]
  refine Nat.add_le_add (Nat.le_trans (h3 N hN) (cnt_le_of 12 fun i hi hp => ?_)) (cnt_le_of 12 fun i hi hp => ?_)
  · simp only [Bool.and_eq_true] at hp ⊢
    exact ⟨hp.2, hp.1⟩
  · simp only [Bool.and_eq_true, Bool.not_eq_true', Bool.or_eq_false_iff, decide_eq_true_eq] at hp ⊢
    have hS := (hN.inv hi hp.1).2.1
    exact ⟨(h4 i (hSn i hS) hi hS).resolve_right (by rw [hp.2.1]; simp), hp.2.1⟩
