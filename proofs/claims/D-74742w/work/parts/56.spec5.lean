/-! texts: what is read, or where it is wrong -/
abbrev Rst : Type := Except (Nat × Nat) Nat
/-- the sign at a place; 256: the end -/
def byt (b : Nat → Nat) (n k : Nat) : Nat := if n ≤ k then 256 else b k
def skpF (b : Nat → Nat) (n : Nat) : Nat → Nat → Nat
  | 0, p => p
  | f + 1, p => if byt b n p = 32 then skpF b n f (p + 1) else p
def skp (b : Nat → Nat) (n p : Nat) : Nat := skpF b n (n - p) p
def isDg (c : Nat) : Bool := decide (48 ≤ c ∧ c ≤ 57)
def digF (b : Nat → Nat) (n : Nat) : Nat → Nat → Nat → Nat × Nat
  | 0, p, v => (v, p)
  | f + 1, p, v => if isDg (byt b n p) then digF b n f (p + 1) (min 100000 (10 * v + byt b n p - 48)) else (v, p)
def mustR (b : Nat → Nat) (n c p : Nat) : Rst := if byt b n (skp b n p) = c then .ok (skp b n p + 1) else .error (1, skp b n p)
def numR (b : Nat → Nat) (n lo hi but p : Nat) : Except (Nat × Nat) (Nat × Nat) :=
  if isDg (byt b n (skp b n p)) then
    if (decide (lo ≤ (digF b n (n - skp b n p) (skp b n p) 0).1 ∧ (digF b n (n - skp b n p) (skp b n p) 0).1 ≤ hi) && !(decide ((digF b n (n - skp b n p) (skp b n p) 0).1 < 12) && but.testBit (digF b n (n - skp b n p) (skp b n p) 0).1)) = true then .ok (digF b n (n - skp b n p) (skp b n p) 0) else .error (2, skp b n p)
  else .error (1, skp b n p)
theorem byt_lt {b : Nat → Nat} {n k : Nat} (hb : ∀ j, j < 500 → b j < 256) (hn : n ≤ 500) : byt b n k ≤ 256 := by
  unfold byt
  split
  · omega
  · have := hb k (by omega); omega
theorem byt_end {b : Nat → Nat} {n k : Nat} (h : n ≤ k) : byt b n k = 256 := if_pos h
theorem byt_in {b : Nat → Nat} {n k : Nat} (h : byt b n k ≠ 256) : k < n := Nat.not_le.mp fun e => h (byt_end e)
theorem skpF_ok {b : Nat → Nat} {n : Nat} : ∀ (f p : Nat), p + f = n → p ≤ skpF b n f p ∧ skpF b n f p ≤ n ∧ byt b n (skpF b n f p) ≠ 32
  | 0, p, h => ⟨Nat.le_refl _, by show p ≤ n; omega, by show byt b n p ≠ 32; rw [byt_end (by omega)]; decide⟩
  | f + 1, p, h => by
    rw [skpF]
    by_cases e : byt b n p = 32
    · rw [if_pos e]
      have := skpF_ok (b := b) (n := n) f (p + 1) (by omega)
      exact ⟨by omega, this.2.1, this.2.2⟩
    · rw [if_neg e]
      exact ⟨Nat.le_refl _, by omega, e⟩
theorem skp_ok {b : Nat → Nat} {n p : Nat} (h : p ≤ n) : p ≤ skp b n p ∧ skp b n p ≤ n ∧ byt b n (skp b n p) ≠ 32 := skpF_ok (n - p) p (by omega)
theorem skp_s {b : Nat → Nat} {n p : Nat} (hp : p < n) (h : byt b n p = 32) : skp b n p = skp b n (p + 1) := by
  unfold skp
  rw [show n - p = (n - (p + 1)) + 1 by omega, skpF, if_pos h]
theorem skp_n {b : Nat → Nat} {n p : Nat} (h : byt b n p ≠ 32) : skp b n p = p := by
  unfold skp
  cases n - p with
  | zero => rfl
  | succ f => rw [skpF, if_neg h]
theorem digF_ok {b : Nat → Nat} {n : Nat} : ∀ (f p v : Nat), p + f = n → v ≤ 100000 → p ≤ (digF b n f p v).2 ∧ (digF b n f p v).2 ≤ n ∧ (digF b n f p v).1 ≤ 100000
  | 0, p, v, h, hv => ⟨Nat.le_refl _, by show p ≤ n; omega, hv⟩
  | f + 1, p, v, h, hv => by
    rw [digF]
    by_cases e : isDg (byt b n p) = true
    · rw [if_pos e]
      have := digF_ok (b := b) (n := n) f (p + 1) (min 100000 (10 * v + byt b n p - 48)) (by omega) (Nat.min_le_left _ _)
      exact ⟨by omega, this.2.1, this.2.2⟩
    · rw [if_neg e]
      exact ⟨Nat.le_refl _, by omega, hv⟩
/-- the reader's fields: where it is, or what was wrong and where -/
def RdSt (I : Nat → Int32) (n : Nat) : Rst → Prop
  | .ok p => I 4 = nI p ∧ I 6 = nI 0 ∧ I 7 = -1 ∧ p ≤ n
  | .error (k, q) => I 6 = nI k ∧ I 7 = nI q ∧ 1 ≤ k ∧ k ≤ 3 ∧ q ≤ n
def TxIs (I : Nat → Int32) (F : Nat → Nat → Int32) (b : Nat → Nat) (n : Nat) : Prop := I 3 = nI n ∧ n ≤ 500 ∧ (∀ j, j < 500 → F 8 j = nI (b j)) ∧ ∀ j, j < 500 → b j < 256
/-- the sign as the model has it -/
def sgI (c : Nat) : Int32 := if c = 256 then -1 else nI c
theorem isDg_n {c : Nat} (h : isDg c = true) : 48 ≤ c ∧ c ≤ 57 := of_decide_eq_true h
