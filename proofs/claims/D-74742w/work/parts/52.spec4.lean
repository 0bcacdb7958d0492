/-! a flower shrunk to its base -/
def goneF (r : List Nat) : Nat → Nat
  | 0 => 0
  | k + 1 => goneF r k ||| 2 ^ rowV r (k + 1)
def goneR (r : List Nat) : Nat := goneF r (r.length - 1)
def mxr (N : NetM) (a : Nat) (r : List Nat) (b : Nat) : Nat → Int32
  | 0 => N.2.1 a b
  | k + 1 => if N.2.1 (rowV r (k + 1)) b ≤ mxr N a r b k then mxr N a r b k else N.2.1 (rowV r (k + 1)) b
def stP (g x : Nat) : Bool := !g.testBit x
def numN (g x : Nat) : Nat := cnt (stP g) x
/-- who has a number -/
def whoN (g n i : Nat) : Nat := (fndF (fun x => stP g x && decide (numN g x = i)) n 0).getD 0
/-- the weights about the base -/
def curN (N : NetM) (a : Nat) (r : List Nat) (b : Nat) : Int32 := if (goneR r).testBit b then N.2.1 a b else mxr N a r b (r.length - 1)
def wmN (N : NetM) (a : Nat) (cur : Nat → Int32) : NetM := (N.1, fun x y => if x = a ∧ y ≠ a then cur y else if y = a ∧ x ≠ a then cur x else N.2.1 x y, N.2.2)
def mateM (N : NetM) (g x : Nat) : Int32 := if N.2.2 x = -1 then -1 else nI (numN g (cl (N.2.2 x)))
def shrN (N : NetM) (a : Nat) (r : List Nat) : NetM := (numN (goneR r) N.1, fun i j => if i = j then -1 else (wmN N a (curN N a r)).2.1 (whoN (goneR r) N.1 i) (whoN (goneR r) N.1 j), fun i => mateM N (goneR r) (whoN (goneR r) N.1 i))
def opShrink (S : SysM) (x : Int32) : Ans :=
  if isNd (sN S) x = false then (1, nI 0, refS S 0)
  else match flowN (sN S) (cl x) with
    | none => (2, nI 0, refS S 2)
    | some r => (0, nI (shrN (sN S) (cl x) r).1, keepS S (shrN (sN S) (cl x) r))
theorem goneF_bit {r : List Nat} {i : Nat} : ∀ k, (goneF r k).testBit i = true ↔ ∃ j, 1 ≤ j ∧ j ≤ k ∧ rowV r j = i
  | 0 => by
    rw [goneF, Nat.zero_testBit]
    exact ⟨(fun h => by cases h), fun ⟨j, h, h', _⟩ => absurd h (by omega)⟩
  | k + 1 => by
    rw [goneF, Nat.testBit_or, Bool.or_eq_true, goneF_bit k, Nat.testBit_two_pow, decide_eq_true_iff]
    constructor
    · rintro (⟨j, h1, h2, h3⟩ | h)
      · exact ⟨j, h1, by omega, h3⟩
      · exact ⟨k + 1, by omega, by omega, h⟩
    · rintro ⟨j, h1, h2, h3⟩
      by_cases e : j = k + 1
      · subst e; exact Or.inr h3
      · exact Or.inl ⟨j, h1, by omega, h3⟩
theorem goneF_lt {N : NetM} (hn : N.1 ≤ 12) {r : List Nat} (h : ∀ i ∈ r, i < N.1) : ∀ k, k < r.length → goneF r k < 4096
  | 0, _ => by show 0 < 4096; decide
  | k + 1, hk => or_lt (goneF_lt hn h k (by omega)) (Nat.pow_lt_pow_right (by omega) (show rowV r (k + 1) < 12 from Nat.lt_of_lt_of_le (h _ (rowV_mem hk)) hn))
theorem numN_s {g x : Nat} : numN g (x + 1) = numN g x + (if stP g x then 1 else 0) := rfl
theorem numN_le {g x : Nat} : numN g x ≤ x := cnt_le _ _
theorem numN_mono {g x y : Nat} (h : x ≤ y) : numN g x ≤ numN g y := by
  induction y with
  | zero =>
    obtain rfl : x = 0 := by omega
    exact Nat.le_refl _
  | succ y ih =>
    by_cases e : x = y + 1
    · rw [e]; exact Nat.le_refl _
    · have := ih (by omega)
      rw [numN_s]
      omega
theorem numN_lt {g x y : Nat} (h : x < y) (hx : g.testBit x = false) : numN g x < numN g y := by
  have h1 : numN g (x + 1) ≤ numN g y := numN_mono h
  rw [numN_s, if_pos (by simp [stP, hx])] at h1
  omega
theorem numN_inj {g x y : Nat} (hx : g.testBit x = false) (hy : g.testBit y = false) (h : numN g x = numN g y) : x = y := by
  rcases Nat.lt_trichotomy x y with e | e | e
  · have := numN_lt e hx; omega
  · exact e
  · have := numN_lt e hy; omega
theorem numN_on {g n i : Nat} : ∀ n, i < numN g n → ∃ x, x < n ∧ g.testBit x = false ∧ numN g x = i
  | 0, h => absurd h (by simp [numN, cnt])
  | n + 1, h => by
    rw [numN_s] at h
    by_cases e : i < numN g n
    · obtain ⟨x, a, b, c⟩ := numN_on (n := n) n e
      exact ⟨x, by omega, b, c⟩
    · by_cases e2 : stP g n = true
      · rw [if_pos e2] at h
        exact ⟨n, by omega, by simpa [stP] using e2, by omega⟩
      · rw [if_neg e2] at h; omega
theorem fndF_at {p : Nat → Bool} {x : Nat} (hx : p x = true) (hu : ∀ y, p y = true → y = x) : ∀ f i, i ≤ x → x < i + f → fndF p f i = some x
  | 0, i, h1, h2 => absurd h2 (by omega)
  | f + 1, i, h1, h2 => by
    rw [fndF_s]
    by_cases e : p i = true
    · rw [if_pos e, hu i e]
    · rw [if_neg e]
      have : i ≠ x := fun h => e (by rw [h]; exact hx)
      exact fndF_at hx hu f (i + 1) (by omega) (by omega)
theorem whoN_num {g n x : Nat} (hx : x < n) (hg : g.testBit x = false) : whoN g n (numN g x) = x := by
  unfold whoN
  rw [fndF_at (x := x) (by simp [stP, hg]) (fun y hy => ?_) n 0 (by omega) (by omega)]
  · rfl
  · rw [Bool.and_eq_true, decide_eq_true_iff] at hy
    exact numN_inj (by simpa [stP] using hy.1) hg hy.2
theorem Enc.cong {f : Nat → Int32} {N M : NetM} (hE : Enc f N) (h1 : M.1 = N.1) (h2 : ∀ i j, i < N.1 → j < N.1 → M.2.1 i j = N.2.1 i j) (h3 : ∀ i, i < N.1 → M.2.2 i = N.2.2 i) : Enc f M :=
  ⟨hE.1.trans (by rw [h1]), fun i hi => (hE.2.1 i (by rw [← h1]; exact hi)).trans (h3 i (by rw [← h1]; exact hi)).symm, fun i j hi hj => (hE.2.2 i j (by rw [← h1]; exact hi) (by rw [← h1]; exact hj)).trans (h2 i j (by rw [← h1]; exact hi) (by rw [← h1]; exact hj)).symm⟩
theorem wmN_at {N : NetM} {a x b : Nat} {cur : Nat → Int32} (hx : x ≠ a) (hb : b ≠ a) : (wmN N a cur).2.1 x b = N.2.1 x b := by
  show (if x = a ∧ b ≠ a then cur b else if b = a ∧ x ≠ a then cur x else N.2.1 x b) = _
  rw [if_neg (fun h => hx h.1), if_neg (fun h => hb h.1)]
theorem wmN_a {N : NetM} {a b : Nat} {cur : Nat → Int32} (hb : b ≠ a) : (wmN N a cur).2.1 a b = cur b := if_pos ⟨rfl, hb⟩
theorem wmN_set {N : NetM} {a b : Nat} {cur : Nat → Int32} {w : Int32} (hb : b ≠ a) : setW (wmN N a cur) a b w = wmN N a (va_up cur b w) := by
  unfold setW wmN
  congr 2
  funext i j
  simp only [va_up]
  by_cases e1 : i = a
  · subst e1
    have e2 : ¬ i = b := fun h => hb h.symm
    by_cases e3 : j = b
    · subst e3; simp [hb, e2]
    · by_cases e4 : j = i
      · subst e4; simp [e2]
      · simp [e2, e3, e4]
  · by_cases e3 : j = a
    · subst e3
      by_cases e5 : i = b
      · subst e5; simp [e1]
      · simp [e1, e5]
    · simp [e1, e3]
theorem wmN_0 {N : NetM} (hN : okN N) {a : Nat} (ha : a < N.1) {f : Nat → Int32} (hE : Enc f N) : Enc f (wmN N a (fun b => N.2.1 a b)) := hE.cong rfl (fun i j hi hj => by
  show (if i = a ∧ j ≠ a then N.2.1 a j else if j = a ∧ i ≠ a then N.2.1 a i else N.2.1 i j) = _
  by_cases e1 : i = a ∧ j ≠ a
  · rw [if_pos e1, e1.1]
  · rw [if_neg e1]
    by_cases e2 : j = a ∧ i ≠ a
    · rw [if_pos e2, e2.1]; exact hN.2.2.1 a i ha hi
    · rw [if_neg e2]) (fun _ _ => rfl)
