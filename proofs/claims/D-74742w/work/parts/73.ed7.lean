/-! the greatest matchings of a set have as many pairs as the table says -/
def adjN (n : Nat) (w : Nat → Nat → Int32) (x y : Nat) : Bool := decide (x < n) && decide (y < n) && lw w x y
theorem adjN_t {n : Nat} {w : Nat → Nat → Int32} {x y : Nat} : adjN n w x y = true ↔ x < n ∧ y < n ∧ lw w x y = true := by
  unfold adjN
  simp [and_assoc]
theorem adjN_irr {N : NetM} (h : okN N) (x : Nat) : adjN N.1 N.2.1 x x = false := by
  cases e : adjN N.1 N.2.1 x x
  · rfl
  · obtain ⟨h1, -, h2⟩ := adjN_t.mp e
    exact absurd (h.2.2.2.1 x h1) (of_decide_eq_true h2)
theorem adjN_sym {N : NetM} (h : okN N) (x y : Nat) : adjN N.1 N.2.1 x y = adjN N.1 N.2.1 y x := by
  have key : ∀ x y, adjN N.1 N.2.1 x y = true → adjN N.1 N.2.1 y x = true := fun x y e => by
    obtain ⟨h1, h2, h3⟩ := adjN_t.mp e
    refine adjN_t.mpr ⟨h2, h1, ?_⟩
    unfold lw at h3 ⊢
    rw [← h.2.2.1 x y h1 h2]
    exact h3
  cases e : adjN N.1 N.2.1 x y
  · cases e2 : adjN N.1 N.2.1 y x
    · rfl
    · rw [key y x e2] at e; cases e
  · exact (key x y e).symm
theorem comb_fst (c d : D4) : (comb c d).1 = max c.1 d.1 := by
  unfold comb
  split
  · show c.1 = _; omega
  · split
    · show d.1 = _; omega
    · show c.1 = _; omega
theorem dfold_ge0 {w : Nat → Nat → Int32} {a rest : Nat} {r : Nat → D4} : ∀ k, (r rest).1 ≤ (dfold w a rest r k).1
  | 0 => Nat.le_refl _
  | k + 1 => by
    have ih := dfold_ge0 (w := w) (a := a) (rest := rest) (r := r) k
    rw [dfold]
    split
    · rw [comb_fst]; omega
    · exact ih
theorem dfold_ge {w : Nat → Nat → Int32} {a rest b : Nat} {r : Nat → D4} (h : a < b ∧ rest.testBit b = true ∧ lw w a b = true) : ∀ k, b < k → (r (sd rest (2 ^ b))).1 + 1 ≤ (dfold w a rest r k).1
  | k + 1, hk => by
    rw [dfold]
    by_cases e : b = k
    · subst e
      rw [if_pos h, comb_fst]
      show _ ≤ max _ ((r (sd rest (2 ^ b))).1 + 1)
      omega
    · have ih := dfold_ge (r := r) h k (by omega)
      split
      · rw [comb_fst]; omega
      · exact ih
theorem dfold_or {w : Nat → Nat → Int32} {a rest : Nat} {r : Nat → D4} : ∀ k, (dfold w a rest r k).1 = (r rest).1 ∨ ∃ b, b < k ∧ (a < b ∧ rest.testBit b = true ∧ lw w a b = true) ∧ (dfold w a rest r k).1 = (r (sd rest (2 ^ b))).1 + 1
  | 0 => .inl rfl
  | k + 1 => by
    have ih := dfold_or (w := w) (a := a) (rest := rest) (r := r) k
    have up : (dfold w a rest r k).1 = (r rest).1 ∨ ∃ b, b < k + 1 ∧ (a < b ∧ rest.testBit b = true ∧ lw w a b = true) ∧ (dfold w a rest r k).1 = (r (sd rest (2 ^ b))).1 + 1 := ih.imp id fun ⟨b, h1, h2⟩ => ⟨b, by omega, h2⟩
    rw [dfold]
    split
    · rename_i hc
      rw [comb_fst]
      rcases Nat.le_total (bump (r (sd rest (2 ^ k))) (wn w a k)).1 (dfold w a rest r k).1 with e | e
      · rw [Nat.max_eq_left e]; exact up
      · rw [Nat.max_eq_right e]
        exact .inr ⟨k, by omega, hc, rfl⟩
    · exact up
theorem MOk.mono {adj : Nat → Nat → Bool} {S S' : Nat → Bool} {M : Nat → Nat} (h : MOk adj S M) (hS : ∀ x, S x = true → M x < 12 → S' x = true) : MOk adj S' M := fun x hx => (h x hx).imp id fun ⟨h1, h2, h3, h4⟩ => ⟨h1, h2, hS x h3 h1, h4⟩
theorem sd_1 {s a x : Nat} : (sd s (2 ^ a)).testBit x = true ↔ s.testBit x = true ∧ x ≠ a := by
  rw [sd_bit, Nat.testBit_two_pow, Bool.and_eq_true, Bool.not_eq_true', decide_eq_false_iff_not]
  exact ⟨fun h => ⟨h.1, Ne.symm h.2⟩, fun h => ⟨h.1, Ne.symm h.2⟩⟩
theorem dp_upper {N : NetM} (hN : okN N) : ∀ (b s : Nat), s < 2 ^ N.1 → s ≤ b → ∀ M, MOk (adjN N.1 N.2.1) s.testBit M → cnt (fun x => decide (M x < 12)) 12 ≤ 2 * (dp N.1 N.2.1 s).1 := by
  intro b
  induction b with
  | zero =>
    intro s _ hs M hM
    obtain rfl : s = 0 := by omega
    refine Nat.le_trans (cnt_le_of (q := fun _ => false) 12 fun i hi hp => ?_) (by rw [dp_0]; decide)
    have := (hM.inv hi (of_decide_eq_true hp)).2.1
    rw [Nat.zero_testBit] at this
    cases this
  | succ b ih =>
    intro s hs hb M hM
    have hs4 : s < 4096 := Nat.lt_of_lt_of_le hs (p12 hN.2.1)
    rcases fstb_ok s hs4 with e | ⟨h1, h2, h3, h4⟩
    · exact ih s hs (by omega) M hM
    · have h0 : s ≠ 0 := fun e => by rw [e, Nat.zero_testBit] at h1; cases h1
      rw [dp_eq hs4 h0]
      have l1 : sd s (2 ^ fstb s) < s := sd_lt_self h1 (Nat.testBit_two_pow_self ..)
      by_cases ha : M (fstb s) < 12
      · obtain ⟨i1, i2, i3⟩ := hM.inv h2 ha
        obtain ⟨j1, j2, j3⟩ := adjN_t.mp i3
        obtain ⟨k1, k2, k3⟩ := hM.inv ha (by rw [i1]; exact h2)
        have hne : M (fstb s) ≠ fstb s := fun e => by rw [e, adjN_irr hN] at i3; cases i3
        have hlt : fstb s < M (fstb s) := by
          rcases Nat.lt_or_ge (M (fstb s)) (fstb s) with h | h
          · rw [h4 _ h] at k2; cases k2
          · omega
        have rb : (sd s (2 ^ fstb s)).testBit (M (fstb s)) = true := sd_1.mpr ⟨k2, hne⟩
        have hd := dfold_ge (w := N.2.1) (r := dp N.1 N.2.1) ⟨hlt, rb, j3⟩ N.1 j2
        have l2 := sd_le (sd s (2 ^ fstb s)) (2 ^ M (fstb s))
        have ih2 := ih (sd (sd s (2 ^ fstb s)) (2 ^ M (fstb s))) (by omega) (by omega) (fun x => if x = fstb s ∨ x = M (fstb s) then 12 else M x) (fun x hx => by
          show (if x = fstb s ∨ x = M (fstb s) then 12 else M x) = 12 ∨ ((if x = fstb s ∨ x = M (fstb s) then 12 else M x) < 12 ∧ _)
          by_cases e : x = fstb s ∨ x = M (fstb s)
          · rw [if_pos e]; exact .inl rfl
          · rw [if_neg e]
            rcases hM x hx with g | ⟨g1, g2, g3, g4⟩
            · exact .inl g
            · refine .inr ⟨g1, ?_, ?_, ?_⟩
              · show (if (if x = fstb s ∨ x = M (fstb s) then 12 else M x) = fstb s ∨ (if x = fstb s ∨ x = M (fstb s) then 12 else M x) = M (fstb s) then 12 else M (if x = fstb s ∨ x = M (fstb s) then 12 else M x)) = x
                rw [if_neg e, if_neg, g2]
                rintro (c | c)
                · rw [c] at g2; exact e (.inr g2.symm)
                · rw [c, i1] at g2; exact e (.inl g2.symm)
              · exact sd_1.mpr ⟨sd_1.mpr ⟨g3, fun c => e (.inl c)⟩, fun c => e (.inr c)⟩
              · show adjN _ _ x (if x = fstb s ∨ x = M (fstb s) then 12 else M x) = true
                rw [if_neg e]; exact g4)
        have e1 := cnt_rem (p := fun x => decide (M x < 12)) h2 (decide_eq_true ha)
        have e2 := cnt_rem (p := fun x => decide (M x < 12) && !(x == fstb s)) ha (by rw [i1]; simp [h2, hne])
        have e3 : cnt (fun x => decide (M x < 12) && !(x == fstb s) && !(x == M (fstb s))) 12 = cnt (fun x => decide ((if x = fstb s ∨ x = M (fstb s) then 12 else M x) < 12)) 12 := cnt_congr 12 fun x hx => by
          by_cases c1 : x = fstb s
          · simp [c1]
          · by_cases c2 : x = M (fstb s)
            · simp [c2]
            · simp [c1, c2, beq_false_of_ne c1, beq_false_of_ne c2]
        omega
      · have := ih (sd s (2 ^ fstb s)) (by omega) (by omega) M (hM.mono fun x hx hm => sd_1.mpr ⟨hx, fun e => ha (by rw [← e]; exact hm)⟩)
        have hd := dfold_ge0 (w := N.2.1) (a := fstb s) (rest := sd s (2 ^ fstb s)) (r := dp N.1 N.2.1) N.1
        omega
theorem dp_attained {N : NetM} (hN : okN N) : ∀ (b s : Nat), s < 2 ^ N.1 → s ≤ b → ∃ M, MOk (adjN N.1 N.2.1) s.testBit M ∧ cnt (fun x => decide (M x < 12)) 12 = 2 * (dp N.1 N.2.1 s).1 := by
  intro b
  induction b with
  | zero =>
    intro s _ hs
    obtain rfl : s = 0 := by omega
    exact ⟨fun _ => 12, fun x _ => .inl rfl, by rw [dp_0]; decide⟩
  | succ b ih =>
    intro s hs hb
    have hs4 : s < 4096 := Nat.lt_of_lt_of_le hs (p12 hN.2.1)
    rcases fstb_ok s hs4 with e | ⟨h1, h2, h3, h4⟩
    · exact ih s hs (by omega)
    · have h0 : s ≠ 0 := fun e => by rw [e, Nat.zero_testBit] at h1; cases h1
      have l1 : sd s (2 ^ fstb s) < s := sd_lt_self h1 (Nat.testBit_two_pow_self ..)
      rw [dp_eq hs4 h0]
      rcases dfold_or (w := N.2.1) (a := fstb s) (rest := sd s (2 ^ fstb s)) (r := dp N.1 N.2.1) N.1 with e | ⟨k, hk, ⟨c1, c2, c3⟩, e⟩
      · obtain ⟨M, g1, g2⟩ := ih (sd s (2 ^ fstb s)) (by omega) (by omega)
        exact ⟨M, g1.mono fun x hx _ => (sd_1.mp hx).1, by rw [g2, e]⟩
      · have l2 := sd_le (sd s (2 ^ fstb s)) (2 ^ k)
        obtain ⟨M, g1, g2⟩ := ih (sd (sd s (2 ^ fstb s)) (2 ^ k)) (by omega) (by omega)
        have k12 : k < 12 := Nat.lt_of_lt_of_le hk hN.2.1
        have ka : fstb s < N.1 := by
          rcases Nat.lt_or_ge (fstb s) N.1 with h | h
          · exact h
          · omega
        have hadj : adjN N.1 N.2.1 (fstb s) k = true := adjN_t.mpr ⟨ka, hk, c3⟩
        have sk := (sd_1.mp c2).1
        have no : ∀ x, x < 12 → M x < 12 → x ≠ fstb s ∧ x ≠ k := fun x hx hm => by
          have := (g1.inv hx hm).2.1
          exact ⟨(sd_1.mp (sd_1.mp this).1).2, (sd_1.mp this).2⟩
        have na : ¬ M (fstb s) < 12 := fun h => (no _ h2 h).1 rfl
        have nk : ¬ M k < 12 := fun h => (no _ k12 h).2 rfl
        have r1 : ∀ x, va_up (va_up M (fstb s) k) k (fstb s) x = if x = k then fstb s else if x = fstb s then k else M x := fun x => rfl
        refine ⟨va_up (va_up M (fstb s) k) k (fstb s), fun x hx => ?_, ?_⟩
        · by_cases e1 : x = k
          · rw [e1, up_t, r1, if_neg (by omega), if_pos rfl]
            exact .inr ⟨h2, rfl, sk, by rw [adjN_sym hN]; exact hadj⟩
          · by_cases e2 : x = fstb s
            · rw [e2, r1 (fstb s), if_neg (by omega), if_pos rfl, up_t]
              exact .inr ⟨k12, rfl, h1, hadj⟩
            · rw [r1 x, if_neg e1, if_neg e2]
              rcases g1 x hx with g | ⟨q1, q2, q3, q4⟩
              · exact .inl g
              · obtain ⟨z1, z2⟩ := no (M x) q1 (by rw [q2]; exact hx)
                refine .inr ⟨q1, ?_, (sd_1.mp (sd_1.mp q3).1).1, q4⟩
                rw [r1, if_neg z2, if_neg z1, q2]
        · rw [cnt_rem (j := k) k12 (by rw [up_t]; exact decide_eq_true h2), cnt_rem (j := fstb s) h2 (by rw [r1, if_neg (by omega), if_pos rfl]; simp [k12]; omega)]
          have e3 : cnt (fun x => decide (va_up (va_up M (fstb s) k) k (fstb s) x < 12) && !(x == k) && !(x == fstb s)) 12 = cnt (fun x => decide (M x < 12)) 12 := cnt_congr 12 fun x hx => by
            rw [r1]
            by_cases c1 : x = k
            · rw [c1]; simp [nk]
            · by_cases c2 : x = fstb s
              · rw [c2]; simp [na]
              · simp [c1, c2, beq_false_of_ne c1, beq_false_of_ne c2]
          rw [e3, g2, e]
          omega
theorem most_dp {N : NetM} (hN : okN N) {s k : Nat} (hs : s < 2 ^ N.1) {M : Nat → Nat} (hM : MOk (adjN N.1 N.2.1) s.testBit M) (hmax : ∀ M', MOk (adjN N.1 N.2.1) s.testBit M' → cnt (fun x => decide (M' x < 12)) 12 ≤ cnt (fun x => decide (M x < 12)) 12) (hk : cnt (fun x => decide (M x < 12)) 12 = 2 * k) : k = (dp N.1 N.2.1 s).1 := by
  have h1 := dp_upper hN s s hs (Nat.le_refl _) M hM
  obtain ⟨M', h2, h3⟩ := dp_attained hN s s hs (Nat.le_refl _)
  have h4 := hmax M' h2
  omega
