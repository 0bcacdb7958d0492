theorem neg_nI {b : Nat} (h : b < 2 ^ 31) : (-1 : Int32) ≠ nI b := fun e => nI_ne h e.symm
theorem nlt_m1 {a : Nat} (h : a < 2 ^ 31) : ¬ nI a < (-1 : Int32) := fun e => by
  have h1 := Int32.lt_iff_toInt_lt.mp e
  rw [nI_toInt h, show (-1 : Int32).toInt = -1 from rfl] at h1
  omega
/-! the numbers of lines and of pairs, counted twice or once -/
theorem sumN_cnt (p : Nat → Bool) : ∀ n, sumN (fun a => if p a = true then 1 else 0) n = cnt p n
  | 0 => rfl
  | n + 1 => by rw [sumN, cnt, sumN_cnt p n]
theorem sumN_add (f g : Nat → Nat) : ∀ n, sumN (fun a => f a + g a) n = sumN f n + sumN g n
  | 0 => rfl
  | n + 1 => by rw [sumN, sumN, sumN, sumN_add f g n]; omega
theorem sumN_eq {f g : Nat → Nat} : ∀ n, (∀ a, a < n → f a = g a) → sumN f n = sumN g n
  | 0, _ => rfl
  | n + 1, h => by rw [sumN, sumN, sumN_eq n (fun a ha => h a (by omega)), h n (by omega)]
theorem twice_lines {p : Nat → Nat → Bool} : ∀ n, (∀ a b, a < n → b < n → p a b = p b a) → (∀ a, a < n → p a a = false) → sumN (fun a => cnt (p a) n) n = 2 * sumN (fun a => cnt (p a) a) n
  | 0, _, _ => rfl
  | n + 1, hs, hi => by
    have h1 := twice_lines n (fun a b ha hb => hs a b (by omega) (by omega)) (fun a ha => hi a (by omega))
    rw [sumN, sumN, show (fun a => cnt (p a) (n + 1)) = fun a => cnt (p a) n + (if p a n = true then 1 else 0) from rfl, sumN_add, h1, sumN_cnt, cnt, hi n (by omega), cnt_congr n (fun a ha => hs a n (by omega) (by omega))]
    simp
    omega
theorem okN.sym {N : NetM} (h : okN N) {a b : Nat} (ha : a < N.1) (hb : b < N.1) : N.2.1 a b = N.2.1 b a := h.2.2.1 a b ha hb
theorem ln_sym {N : NetM} (h : okN N) {a b : Nat} (ha : a < N.1) (hb : b < N.1) : ln N a b = ln N b a := by unfold ln; rw [h.sym ha hb]
theorem ln_irr {N : NetM} (h : okN N) {a : Nat} (ha : a < N.1) : ln N a a = false := by unfold ln; rw [h.2.2.2.1 a ha]; decide
theorem linesN_M {N : NetM} (h : okN N) : linesN N = linesM N := by
  unfold linesN linesM
  rw [sumN_eq N.1 (g := fun a => cnt (fun b => ln N a b) N.1) (fun a ha => by unfold besN; exact pcn_mk h.2.1), twice_lines N.1 (p := fun a b => ln N a b) (fun a b ha hb => ln_sym h ha hb) (fun a ha => ln_irr h ha)]
  omega
theorem mate_irr {N : NetM} (h : okN N) {a b : Nat} (ha : a < N.1) (hb : b < N.1) (e : N.2.2 a = nI b) : a ≠ b := fun e2 => by
  have h1 := h.2.1
  obtain ⟨c, hc, hc1, hc2, hc3⟩ := h.mate ha (by rw [e]; exact fun e3 => neg_nI (by omega) e3.symm)
  have h2 : c = b := nI_inj (by omega) (by omega) (hc1.symm.trans e)
  rw [h2, ← e2] at hc3
  exact hc3 (h.2.2.2.1 a ha)
theorem pairsN_M {N : NetM} (h : okN N) : pairsN N = pairsM N := by
  have hn := h.2.1
  have hmt : ∀ a, a < N.1 → N.2.2 a ≠ -1 → ∃ b, b < N.1 ∧ N.2.2 a = nI b ∧ N.2.2 b = nI a ∧ cl (N.2.2 a) = b ∧ a ≠ b := fun a ha hm => by
    obtain ⟨b, hb, h1, h2, h3⟩ := h.mate ha hm
    exact ⟨b, hb, h1, h2, by rw [h1]; exact nI_clamp (by omega), mate_irr h ha hb h1⟩
  have hlt : ∀ a b, a < 12 → b < 12 → (nI a < nI b ↔ a < b) := fun a b ha hb => nI_ltI (by omega) (by omega)
  have key : cnt (fun a => decide (N.2.2 a ≠ -1) && !decide (nI a < N.2.2 a)) N.1 = pairsM N := by
    apply Nat.le_antisymm
    · refine cnt_inj (g := fun a => cl (N.2.2 a)) N.1 _ _ (fun a ha hp => ?_) (fun a b ha hb hp hq e => ?_)
      · simp only [Bool.and_eq_true, decide_eq_true_iff, Bool.not_eq_true', decide_eq_false_iff_not] at hp
        obtain ⟨b, hb, h1, h2, h3, h4⟩ := hmt a ha hp.1
        refine ⟨by rw [h3]; exact hb, decide_eq_true ?_⟩
        show nI (cl (N.2.2 a)) < N.2.2 (cl (N.2.2 a))
        rw [h3, h2, hlt b a (by omega) (by omega)]
        have := hp.2
        rw [h1, hlt a b (by omega) (by omega)] at this
        omega
      · simp only [Bool.and_eq_true, decide_eq_true_iff, Bool.not_eq_true', decide_eq_false_iff_not] at hp hq
        obtain ⟨c, hc, h1, h2, h3, h4⟩ := hmt a ha hp.1
        obtain ⟨d, hd, g1, g2, g3, g4⟩ := hmt b hb hq.1
        have e' : cl (N.2.2 a) = cl (N.2.2 b) := e
        rw [h3, g3] at e'
        rw [e'] at h2
        exact nI_inj (by omega) (by omega) (h2.symm.trans g2)
    · refine cnt_inj (g := fun a => cl (N.2.2 a)) N.1 _ _ (fun a ha hp => ?_) (fun a b ha hb hp hq e => ?_)
      · have hp := of_decide_eq_true hp
        have hm : N.2.2 a ≠ -1 := fun e => by
          rw [e] at hp
          exact nlt_m1 (by omega) hp
        obtain ⟨b, hb, h1, h2, h3, h4⟩ := hmt a ha hm
        rw [h1, hlt a b (by omega) (by omega)] at hp
        refine ⟨by rw [h3]; exact hb, ?_⟩
        show (decide (N.2.2 (cl (N.2.2 a)) ≠ -1) && !decide (nI (cl (N.2.2 a)) < N.2.2 (cl (N.2.2 a)))) = true
        rw [h3, h2, Bool.and_eq_true, decide_eq_true_iff, Bool.not_eq_true', decide_eq_false_iff_not, hlt b a (by omega) (by omega)]
        exact ⟨nI_ne (by omega), by omega⟩
      · have hm : ∀ a, a < N.1 → nI a < N.2.2 a → N.2.2 a ≠ -1 := fun a ha hp e => by
          rw [e] at hp
          exact nlt_m1 (by omega) hp
        obtain ⟨c, hc, h1, h2, h3, h4⟩ := hmt a ha (hm a ha (of_decide_eq_true hp))
        obtain ⟨d, hd, g1, g2, g3, g4⟩ := hmt b hb (hm b hb (of_decide_eq_true hq))
        have e' : cl (N.2.2 a) = cl (N.2.2 b) := e
        rw [h3, g3] at e'
        rw [e'] at h2
        exact nI_inj (by omega) (by omega) (h2.symm.trans g2)
  have hs := cnt_split (fun a => decide (N.2.2 a ≠ -1)) (fun a => decide (nI a < N.2.2 a)) N.1
  have h1 : cnt (fun a => decide (N.2.2 a ≠ -1) && decide (nI a < N.2.2 a)) N.1 = pairsM N := cnt_congr N.1 fun a ha => by
    by_cases e : nI a < N.2.2 a
    · rw [decide_eq_true e, Bool.and_true]
      exact decide_eq_true fun e2 => by
        rw [e2] at e
        exact nlt_m1 (by omega) e
    · rw [decide_eq_false e, Bool.and_false]
  unfold pairsN matedN
  rw [hs, h1, key]
  omega
/-! changes keep networks in order -/
theorem okN_setW {N : NetM} (h : okN N) {a b : Nat} (ha : a < N.1) (hb : b < N.1) (hab : a ≠ b) {w : Int32} (hw : (w = -1 ∧ N.2.2 a ≠ nI b ∧ N.2.2 b ≠ nI a) ∨ ∃ k, k ≤ 999 ∧ w = nI k) : okN (setW N a b w) := by
  obtain ⟨h1, h2, h3, h4, h5, h6⟩ := h
  refine ⟨h1, h2, fun i j hi hj => ?_, fun i hi => ?_, fun i j hi hj => ?_, fun i hi => ?_⟩
  · show (if i = b ∧ j = a then w else if i = a ∧ j = b then w else N.2.1 i j) = (if j = b ∧ i = a then w else if j = a ∧ i = b then w else N.2.1 j i)
    by_cases e1 : i = b ∧ j = a
    · rw [if_pos e1]
      by_cases e2 : j = b ∧ i = a
      · rw [if_pos e2]
      · rw [if_neg e2, if_pos ⟨e1.2, e1.1⟩]
    · rw [if_neg e1]
      by_cases e2 : i = a ∧ j = b
      · rw [if_pos e2, if_pos ⟨e2.2, e2.1⟩]
      · rw [if_neg e2, if_neg (fun e => e2 ⟨e.2, e.1⟩), if_neg (fun e => e1 ⟨e.2, e.1⟩)]
        exact h3 i j hi hj
  · show (if i = b ∧ i = a then w else if i = a ∧ i = b then w else N.2.1 i i) = -1
    rw [if_neg (fun e => hab (e.2.symm.trans e.1)), if_neg (fun e => hab (e.1.symm.trans e.2))]
    exact h4 i hi
  · show (if i = b ∧ j = a then w else if i = a ∧ j = b then w else N.2.1 i j) = -1 ∨ ∃ k, k ≤ 999 ∧ (if i = b ∧ j = a then w else if i = a ∧ j = b then w else N.2.1 i j) = nI k
    split
    · rcases hw with hw | hw
      · exact .inl hw.1
      · exact .inr hw
    · split
      · rcases hw with hw | hw
        · exact .inl hw.1
        · exact .inr hw
      · exact h5 i j hi hj
  · rcases h6 i hi with h | ⟨c, hc, hc1, hc2, hc3⟩
    · exact .inl h
    · refine .inr ⟨c, hc, hc1, hc2, ?_⟩
      show (if i = b ∧ c = a then w else if i = a ∧ c = b then w else N.2.1 i c) ≠ -1
      split
      · rename_i e
        rcases hw with ⟨-, hw, hw2⟩ | ⟨k, hk, rfl⟩
        · rw [e.1, e.2] at hc1; exact absurd hc1 hw2
        · exact fun e => neg_nI (by omega) e.symm
      · split
        · rename_i e
          rcases hw with ⟨-, hw, hw2⟩ | ⟨k, hk, rfl⟩
          · rw [e.1, e.2] at hc1; exact absurd hc1 hw
          · exact fun e => neg_nI (by omega) e.symm
        · exact hc3
theorem okN_unM {N : NetM} (h : okN N) {a b : Nat} (ha : a < N.1) (hb : b < N.1) (hab : N.2.2 a = nI b) : okN (unM N a b) := by
  have hn := h.2.1
  have hba : N.2.2 b = nI a := by
    obtain ⟨c, hc, h1, h2, h3⟩ := h.mate ha (by rw [hab]; exact fun e => neg_nI (by omega) e.symm)
    obtain rfl : c = b := nI_inj (by omega) (by omega) (h1.symm.trans hab)
    exact h2
  obtain ⟨h1, h2, h3, h4, h5, h6⟩ := h
  refine ⟨h1, h2, h3, h4, h5, fun i hi => ?_⟩
  have hi' : i < N.1 := hi
  show (if i = b then (-1 : Int32) else if i = a then -1 else N.2.2 i) = -1 ∨ ∃ c, c < N.1 ∧ (if i = b then (-1 : Int32) else if i = a then -1 else N.2.2 i) = nI c ∧ (if c = b then (-1 : Int32) else if c = a then -1 else N.2.2 c) = nI i ∧ N.2.1 i c ≠ -1
  by_cases e1 : i = b
  · rw [if_pos e1]; exact .inl rfl
  · rw [if_neg e1]
    by_cases e2 : i = a
    · rw [if_pos e2]; exact .inl rfl
    · rw [if_neg e2]
      rcases h6 i hi with h | ⟨c, hc, hc1, hc2, hc3⟩
      · exact .inl h
      · refine .inr ⟨c, hc, hc1, ?_, hc3⟩
        have n1 : c ≠ b := fun e => by
          rw [e, hba] at hc2
          exact e2 (nI_inj (by omega) (by omega) hc2.symm)
        have n2 : c ≠ a := fun e => by
          rw [e, hab] at hc2
          exact e1 (nI_inj (by omega) (by omega) hc2.symm)
        rw [if_neg n1, if_neg n2]
        exact hc2
theorem okN_setM {N : NetM} (h : okN N) {a b : Nat} (ha : a < N.1) (hb : b < N.1) (hl : N.2.1 a b ≠ -1) (fa : N.2.2 a = -1) (fb : N.2.2 b = -1) : okN (setM N a b) := by
  have hn := h.2.1
  have hab : a ≠ b := fun e => hl (by rw [← e]; exact h.2.2.2.1 a ha)
  have hsym := h.sym ha hb
  obtain ⟨h1, h2, h3, h4, h5, h6⟩ := h
  refine ⟨h1, h2, h3, h4, h5, fun i hi => ?_⟩
  have hi' : i < N.1 := hi
  show (if i = b then nI a else if i = a then nI b else N.2.2 i) = -1 ∨ ∃ c, c < N.1 ∧ (if i = b then nI a else if i = a then nI b else N.2.2 i) = nI c ∧ (if c = b then nI a else if c = a then nI b else N.2.2 c) = nI i ∧ N.2.1 i c ≠ -1
  by_cases e1 : i = b
  · rw [if_pos e1]
    exact .inr ⟨a, ha, rfl, by rw [if_neg hab, if_pos rfl, e1], by rw [e1, ← hsym]; exact hl⟩
  · rw [if_neg e1]
    by_cases e2 : i = a
    · rw [if_pos e2]
      exact .inr ⟨b, hb, rfl, by rw [if_pos rfl, e2], by rw [e2]; exact hl⟩
    · rw [if_neg e2]
      rcases h6 i hi with h | ⟨c, hc, hc1, hc2, hc3⟩
      · exact .inl h
      · refine .inr ⟨c, hc, hc1, ?_, hc3⟩
        have n1 : c ≠ b := fun e => by
          rw [e, fb] at hc2
          exact neg_nI (b := i) (by omega) hc2
        have n2 : c ≠ a := fun e => by
          rw [e, fa] at hc2
          exact neg_nI (b := i) (by omega) hc2
        rw [if_neg n1, if_neg n2]
        exact hc2
theorem okN_cutN {N : NetM} (h : okN N) {a b : Nat} (ha : a < N.1) (hb : b < N.1) (hab : a ≠ b) : okN (cutN N a b) := by
  have hn := h.2.1
  unfold cutN
  by_cases e : N.2.2 a = nI b
  · rw [if_pos e]
    refine okN_setW (okN_unM h ha hb e) ha hb hab (.inl ⟨rfl, ?_, ?_⟩)
    · show (if a = b then (-1 : Int32) else if a = a then -1 else N.2.2 a) ≠ nI b
      rw [if_neg hab, if_pos rfl]
      exact neg_nI (by omega)
    · show (if b = b then (-1 : Int32) else if b = a then -1 else N.2.2 b) ≠ nI a
      rw [if_pos rfl]
      exact neg_nI (by omega)
  · rw [if_neg e]
    refine okN_setW h ha hb hab (.inl ⟨rfl, e, fun e2 => e ?_⟩)
    obtain ⟨c, hc, h1, h2, h3⟩ := h.mate hb (by rw [e2]; exact fun e => neg_nI (by omega) e.symm)
    obtain rfl : c = a := nI_inj (by omega) (by omega) (h1.symm.trans e2)
    exact h2
