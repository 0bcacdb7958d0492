/-! sets of bits, counts -/
def mk (p : Nat → Bool) : Nat → Nat
  | 0 => 0
  | k + 1 => mk p k ||| (if p k then 2 ^ k else 0)
def cnt (p : Nat → Bool) : Nat → Nat
  | 0 => 0
  | k + 1 => cnt p k + (if p k then 1 else 0)
def sumN (f : Nat → Nat) : Nat → Nat
  | 0 => 0
  | k + 1 => sumN f k + f k
theorem mk_bit (p : Nat → Bool) : ∀ n i, (mk p n).testBit i = (decide (i < n) && p i)
  | 0, i => by simp [mk]
  | n + 1, i => by
    rw [mk, Nat.testBit_or, mk_bit p n i]
    by_cases h : i = n
    · subst h
      cases hp : p i
      · simp
      · simp
    · cases hp : p n
      · by_cases h2 : i < n
        · simp [h2, show i < n + 1 by omega]
        · simp [h2, show ¬ i < n + 1 by omega]
      · rw [if_pos rfl, Nat.testBit_two_pow]
        by_cases h2 : i < n
        · simp [h2, show i < n + 1 by omega, show ¬ n = i by omega]
        · simp [h2, show ¬ i < n + 1 by omega, show ¬ n = i by omega]
theorem mk_lt (p : Nat → Bool) (n : Nat) : mk p n < 2 ^ n := Nat.lt_pow_two_of_testBit _ fun i h => by
  rw [mk_bit]
  simp [show ¬ i < n by omega]
theorem p12 {n : Nat} (h : n ≤ 12) : 2 ^ n ≤ 4096 := Nat.pow_le_pow_right (by omega) h
theorem mk_4096 (p : Nat → Bool) {n : Nat} (h : n ≤ 12) : mk p n < 4096 := Nat.lt_of_lt_of_le (mk_lt p n) (p12 h)
theorem cnt_le (p : Nat → Bool) : ∀ n, cnt p n ≤ n
  | 0 => Nat.le_refl 0
  | n + 1 => by
    have := cnt_le p n
    rw [cnt]
    split <;> omega
/-- how many bits of the first twelve -/
def pcn (s : Nat) : Nat := cnt (fun i => s.testBit i) 12
theorem pcn_le (s : Nat) : pcn s ≤ 12 := cnt_le _ 12
theorem sumN_le {f : Nat → Nat} {b : Nat} (h : ∀ i, f i ≤ b) : ∀ n, sumN f n ≤ n * b
  | 0 => by simp [sumN]
  | n + 1 => by
    have h1 := sumN_le h n
    have h2 := h n
    rw [sumN, Nat.add_mul]
    omega
def besN (N : NetM) (a : Nat) : Nat := mk (fun b => ln N a b) N.1
def allN (N : NetM) : Nat := 2 ^ N.1 - 1
/-- lines, by the class's own count -/
def linesN (N : NetM) : Nat := sumN (fun a => pcn (besN N a)) N.1 / 2
/-- nodes with a mate -/
def matedN (N : NetM) : Nat := cnt (fun a => decide (N.2.2 a ≠ -1)) N.1
def pairsN (N : NetM) : Nat := matedN N / 2
/-- what is beside a set, within another -/
def nbr (N : NetM) (was left : Nat) : Nat → Nat
  | 0 => 0
  | k + 1 => nbr N was left k ||| (if was.testBit k then besN N k &&& left else 0)
/-- what hangs together with a part, within a set -/
def clo (N : NetM) (left : Nat) : Nat → Nat → Nat
  | 0, part => part
  | f + 1, part => if part ||| nbr N part left N.1 = part then part else clo N left f (part ||| nbr N part left N.1)
def low (s : Nat) : Nat := s &&& (2 ^ 32 - s)
/-- parts with an odd number of nodes -/
def oddF (N : NetM) : Nat → Nat → Nat
  | 0, _ => 0
  | f + 1, left => if left = 0 then 0 else pcn (clo N left 13 (low left)) % 2 + oddF N f (sd left (clo N left 13 (low left)))
def oddN (N : NetM) (set : Nat) : Nat := oddF N 13 (sd (allN N) set)
/-- changes of a network -/
def setW (N : NetM) (a b : Nat) (w : Int32) : NetM := (N.1, fun i j => if i = b ∧ j = a then w else if i = a ∧ j = b then w else N.2.1 i j, N.2.2)
def setM (N : NetM) (a b : Nat) : NetM := (N.1, N.2.1, fun i => if i = b then nI a else if i = a then nI b else N.2.2 i)
def unM (N : NetM) (a b : Nat) : NetM := (N.1, N.2.1, fun i => if i = b then -1 else if i = a then -1 else N.2.2 i)
def emptyN (n : Nat) : NetM := (n, fun _ _ => -1, fun _ => -1)
def bitcX (x : Int32) : Int32 :=
  let x := x - (((x.toUInt32 >>> ((nI 1).toUInt32 &&& Int32.toUInt32 31)).toInt32) &&& 1431655765)
  let x := (x &&& 858993459) + (((x.toUInt32 >>> ((nI 2).toUInt32 &&& Int32.toUInt32 31)).toInt32) &&& 858993459)
  let x := (x + ((x.toUInt32 >>> ((nI 4).toUInt32 &&& Int32.toUInt32 31)).toInt32)) &&& 252645135
  let x := x + ((x.toUInt32 >>> ((nI 8).toUInt32 &&& Int32.toUInt32 31)).toInt32)
  let x := x + ((x.toUInt32 >>> ((nI 16).toUInt32 &&& Int32.toUInt32 31)).toInt32)
  x &&& nI 63
set_option maxRecDepth 100000 in
theorem bitc_ok : ∀ s, s < 4096 → bitcX (nI s) = nI (pcn s) := by decide +kernel
set_option maxRecDepth 100000 in
theorem low_ok : ∀ s, s < 4096 → nI s &&& (-nI s) = nI (low s) := by decide +kernel
set_option maxRecDepth 100000 in
theorem low_in : ∀ s, s < 4096 → s = 0 ∨ (low s ≠ 0 ∧ low s &&& s = low s ∧ low s < 4096) := by decide +kernel
