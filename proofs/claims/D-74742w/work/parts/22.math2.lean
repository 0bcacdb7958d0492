theorem cnt_mono {p q : Nat → Bool} (h : ∀ i, p i = true → q i = true) : ∀ n, cnt p n ≤ cnt q n
  | 0 => Nat.le_refl 0
  | n + 1 => by
    have h1 := cnt_mono h n
    have h2 := h n
    rw [cnt, cnt]
    cases hp : p n <;> cases hq : q n <;> simp_all <;> omega
theorem cnt_lt {p q : Nat → Bool} (h : ∀ i, p i = true → q i = true) {j : Nat} (hp : p j = false) (hq : q j = true) : ∀ n, j < n → cnt p n < cnt q n
  | 0, hj => absurd hj (by omega)
  | n + 1, hj => by
    rw [cnt, cnt]
    by_cases e : j = n
    · subst e
      have h1 := cnt_mono h j
      rw [hp, hq]
      simp
      omega
    · have h1 := cnt_lt h hp hq n (by omega)
      have h2 := h n
      cases hpn : p n <;> cases hqn : q n <;> simp_all <;> omega
theorem bit_lt {s i : Nat} (hs : s < 4096) (h : s.testBit i = true) : i < 12 := by
  rcases Nat.lt_or_ge i 12 with h1 | h1
  · exact h1
  · have h2 : s < 2 ^ i := Nat.lt_of_lt_of_le hs (Nat.pow_le_pow_right (n := 2) (by omega) h1)
    rw [Nat.testBit_lt_two_pow h2] at h
    cases h
theorem lt_4096 {s : Nat} (h : ∀ i, 12 ≤ i → s.testBit i = false) : s < 4096 := Nat.lt_pow_two_of_testBit (n := 12) s h
theorem bits_ext {s t : Nat} (h : ∀ i, s.testBit i = t.testBit i) : s = t := Nat.eq_of_testBit_eq h
theorem bits_ne {s t : Nat} (h : s ≠ t) : ∃ i, s.testBit i ≠ t.testBit i := by
  apply Classical.byContradiction
  intro hn
  exact h (bits_ext fun i => Classical.byContradiction fun hi => hn ⟨i, hi⟩)
theorem pcn_lt {s t : Nat} (ht : t < 4096) (h : ∀ i, s.testBit i = true → t.testBit i = true) (hne : s ≠ t) : pcn s < pcn t := by
  obtain ⟨i, hi⟩ := bits_ne hne
  have h1 := h i
  cases hs : s.testBit i with
  | true => rw [hs, h1 hs] at hi; exact absurd rfl hi
  | false =>
    cases htt : t.testBit i with
    | false => rw [hs, htt] at hi; exact absurd rfl hi
    | true => exact cnt_lt (p := fun i => s.testBit i) (q := fun i => t.testBit i) h hs htt 12 (bit_lt ht htt)
theorem or_lt {a b : Nat} (ha : a < 4096) (hb : b < 4096) : a ||| b < 4096 := Nat.or_lt_two_pow (n := 12) ha hb
theorem and_lt {a b : Nat} (ha : a < 4096) : a &&& b < 4096 := Nat.lt_of_le_of_lt Nat.and_le_left ha
theorem sd_lt {a b : Nat} (ha : a < 4096) : sd a b < 4096 := lt_4096 fun i hi => by
  rw [sd_bit, Nat.testBit_lt_two_pow (Nat.lt_of_lt_of_le ha (Nat.pow_le_pow_right (n := 2) (by omega) hi))]
  rfl
theorem allN_bit {N : NetM} {i : Nat} : (allN N).testBit i = decide (i < N.1) := by
  unfold allN
  rw [Nat.testBit_two_pow_sub_one]
theorem allN_lt {N : NetM} (h : N.1 ≤ 12) : allN N < 4096 := lt_4096 fun i hi => by
  rw [allN_bit, decide_eq_false (by omega)]
theorem besN_bit {N : NetM} {a b : Nat} : (besN N a).testBit b = (decide (b < N.1) && ln N a b) := mk_bit _ _ _
theorem nbr_lt {N : NetM} {was left : Nat} (hl : left < 4096) : ∀ k, nbr N was left k < 4096
  | 0 => (by show 0 < 4096; decide)
  | k + 1 => by
    rw [nbr]
    refine or_lt (nbr_lt hl k) ?_
    split
    · rw [Nat.and_comm]; exact and_lt hl
    · decide
theorem or_sub (a b : Nat) : ∀ i, a.testBit i = true → (a ||| b).testBit i = true := fun i h => by rw [Nat.testBit_or, h]; rfl
theorem clo_lt {N : NetM} {left : Nat} (hl : left < 4096) : ∀ f part, part < 4096 → clo N left f part < 4096
  | 0, part, h => h
  | f + 1, part, h => by
    rw [clo]
    split
    · exact h
    · exact clo_lt hl f _ (or_lt h (nbr_lt hl _))
theorem clo_sub {N : NetM} {left : Nat} : ∀ f part i, part.testBit i = true → (clo N left f part).testBit i = true
  | 0, part, i, h => h
  | f + 1, part, i, h => by
    rw [clo]
    split
    · exact h
    · exact clo_sub f _ i (or_sub _ _ i h)
theorem sd_lt_pcn {left part : Nat} (hl : left < 4096) (h0 : left ≠ 0) (h : ∀ i, (low left).testBit i = true → part.testBit i = true) : pcn (sd left part) < pcn left := by
  rcases low_in left hl with e | ⟨h1, h2, h3⟩
  · exact absurd e h0
  · refine pcn_lt hl (fun i hi => ?_) (fun e => ?_)
    · rw [sd_bit] at hi
      cases hx : left.testBit i
      · rw [hx] at hi; exact hi
      · rfl
    · obtain ⟨i, hi⟩ := bits_ne (s := low left) (t := 0) h1
      have hi' : (low left).testBit i = true := by
        cases hx : (low left).testBit i
        · rw [hx, Nat.zero_testBit] at hi; exact absurd rfl hi
        · rfl
      have h5 : left.testBit i = true := by
        have := hi'
        rw [← h2, Nat.testBit_and, hi'] at this
        exact this
      have h6 := sd_bit left part i
      rw [e, h5, h i hi'] at h6
      cases h6
def newW (N : NetM) (a b : Nat) : NetM := if ln N a b then N else setW N a b (nI 1)
