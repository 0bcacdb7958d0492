/-! the most of each set, laid from the lesser sets on -/
def fstF : Nat → Nat → Nat → Nat
  | 0, k, _ => k
  | f + 1, k, s => if s.testBit k then k else fstF f (k + 1) s
def fstb (s : Nat) : Nat := fstF 12 0 s
abbrev D4 : Type := Nat × Nat × Nat × Nat
/-- how many pairs, in how many ways, weights at most and at least: one more road -/
def comb (c d : D4) : D4 := if d.1 < c.1 then c else if c.1 < d.1 then d else (c.1, c.2.1 + d.2.1, max c.2.2.1 d.2.2.1, min c.2.2.2 d.2.2.2)
def bump (d : D4) (w : Nat) : D4 := (d.1 + 1, d.2.1, d.2.2.1 + w, d.2.2.2 + w)
def lw (w : Nat → Nat → Int32) (a b : Nat) : Bool := decide (w a b ≠ -1)
def wn (w : Nat → Nat → Int32) (a b : Nat) : Nat := (w a b).toNatClampNeg
def dfold (w : Nat → Nat → Int32) (a rest : Nat) (rec : Nat → D4) : Nat → D4
  | 0 => rec rest
  | k + 1 => if a < k ∧ rest.testBit k = true ∧ lw w a k = true then comb (dfold w a rest rec k) (bump (rec (sd rest (2 ^ k))) (wn w a k)) else dfold w a rest rec k
def dpF (n : Nat) (w : Nat → Nat → Int32) : Nat → Nat → D4
  | 0, _ => (0, 1, 0, 0)
  | f + 1, s => if s = 0 then (0, 1, 0, 0) else dfold w (fstb s) (sd s (2 ^ fstb s)) (dpF n w f) n
def dp (n : Nat) (w : Nat → Nat → Int32) (s : Nat) : D4 := dpF n w s s
theorem sd_le (a b : Nat) : sd a b ≤ a := by
  have h : sd a b = a &&& sd a b := bits_ext fun i => by
    rw [Nat.testBit_and, sd_bit]
    cases a.testBit i <;> simp
  rw [h]
  exact Nat.and_le_left
theorem sd_lt_self {a b i : Nat} (h1 : a.testBit i = true) (h2 : b.testBit i = true) : sd a b < a := by
  refine Nat.lt_of_le_of_ne (sd_le a b) fun e => ?_
  have h3 := sd_bit a b i
  rw [e, h1, h2] at h3
  cases h3
theorem dfold_congr {w : Nat → Nat → Int32} {a rest : Nat} {r r' : Nat → D4} (h : ∀ s, s ≤ rest → r s = r' s) : ∀ k, dfold w a rest r k = dfold w a rest r' k
  | 0 => h rest (Nat.le_refl _)
  | k + 1 => by
    rw [dfold, dfold, dfold_congr h k, h _ (sd_le rest (2 ^ k))]
set_option maxRecDepth 100000 in
theorem fstb_ok : ∀ s, s < 4096 → s = 0 ∨ (s.testBit (fstb s) = true ∧ fstb s < 12 ∧ low s = 2 ^ fstb s ∧ ∀ j, j < fstb s → s.testBit j = false) := by decide +kernel
theorem dpF_stable {n : Nat} {w : Nat → Nat → Int32} : ∀ (f s : Nat), s < 4096 → s ≤ f → dpF n w f s = dp n w s := by
  have key : ∀ (b s : Nat), s < 4096 → s ≤ b → ∀ f, s ≤ f → dpF n w f s = dpF n w s s := by
    intro b
    induction b with
    | zero =>
      intro s _ hs f hf
      have : s = 0 := by omega
      subst this
      cases f with
      | zero => rfl
      | succ f => rfl
    | succ b ih =>
      intro s h1 hs f hf
      rcases fstb_ok s h1 with e | ⟨h2, h3, -, -⟩
      · subst e
        cases f with
        | zero => rfl
        | succ f => rfl
      · have hp : s ≠ 0 := fun e => by subst e; rw [Nat.zero_testBit] at h2; cases h2
        obtain ⟨f', rfl⟩ : ∃ f', f = f' + 1 := ⟨f - 1, by omega⟩
        obtain ⟨s', rfl⟩ : ∃ s', s = s' + 1 := ⟨s - 1, by omega⟩
        rw [dpF, dpF, if_neg hp, if_neg hp]
        have hr : sd (s' + 1) (2 ^ fstb (s' + 1)) < s' + 1 := sd_lt_self h2 (by rw [Nat.testBit_two_pow_self])
        refine dfold_congr (fun t ht => ?_) n
        rw [ih t (by omega) (by omega) f' (by omega), ih t (by omega) (by omega) s' (by omega)]
  exact fun f s h1 h2 => key s s h1 (Nat.le_refl _) f h2
theorem dp_0 {n : Nat} {w : Nat → Nat → Int32} : dp n w 0 = (0, 1, 0, 0) := rfl
theorem dp_eq {n : Nat} {w : Nat → Nat → Int32} {s : Nat} (h : s < 4096) (h0 : s ≠ 0) : dp n w s = dfold w (fstb s) (sd s (2 ^ fstb s)) (dp n w) n := by
  obtain ⟨s', rfl⟩ : ∃ s', s = s' + 1 := ⟨s - 1, by omega⟩
  rcases fstb_ok _ h with e | ⟨h2, h3, -, -⟩
  · exact absurd e h0
  · have hr : sd (s' + 1) (2 ^ fstb (s' + 1)) < s' + 1 := sd_lt_self h2 (by rw [Nat.testBit_two_pow_self])
    show dpF n w (s' + 1) (s' + 1) = _
    rw [dpF, if_neg h0]
    exact dfold_congr (fun t ht => dpF_stable s' t (by omega) (by omega)) n
/-- the model's tables -/
def LaidOk (n : Nat) (w : Nat → Nat → Int32) (F : Nat → Nat → Int32) (L : Nat → Nat → Int64) : Prop := ∀ s, s < 2 ^ n → F 15 s = nI (dp n w s).1 ∧ L 18 s = lN (dp n w s).2.1 ∧ F 16 s = nI (dp n w s).2.2.1 ∧ F 17 s = nI (dp n w s).2.2.2
def ModIs (I : Nat → Int32) (F : Nat → Nat → Int32) (L : Nat → Nat → Int64) (S : Nat × (Nat → Nat) × (Nat → Int32) × Int32 × List NetM × NetM) (t : Nat) (En : (Nat → Int32) → NetM → Prop) : Prop :=
  I 0 = nI t ∧ I 2 = nI S.1 ∧ I 5 = S.2.2.2.1 ∧ I 12 = nI S.2.2.2.2.1.length ∧ (∀ j, j < 500 → F 8 j = nI (S.2.1 j)) ∧ (∀ r, r < 3 → F 1 r = S.2.2.1 r) ∧ En (F 9) S.2.2.2.2.2 ∧ (∀ i M, S.2.2.2.2.1[i]? = some M → En (F (100 + i)) M) ∧ (I 19 = nI 0 ∨ (I 19 = nI 1 ∧ LaidOk S.2.2.2.2.2.1 S.2.2.2.2.2.2.1 F L))
