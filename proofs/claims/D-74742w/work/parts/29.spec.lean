/-! what both sides hold: bytes fed (how many, which), what was refused, the last fault's place, networks kept (oldest first), the network -/
abbrev SysM : Type := Nat × (Nat → Nat) × (Nat → Int32) × Int32 × List NetM × NetM
abbrev sTp (S : SysM) : Nat := S.1
abbrev sTb (S : SysM) : Nat → Nat := S.2.1
abbrev sRf (S : SysM) : Nat → Int32 := S.2.2.1
abbrev sPl (S : SysM) : Int32 := S.2.2.2.1
abbrev sKs (S : SysM) : List NetM := S.2.2.2.2.1
abbrev sN (S : SysM) : NetM := S.2.2.2.2.2
/-- a network as both sides make it -/
def okN (N : NetM) : Prop := 1 ≤ N.1 ∧ N.1 ≤ 12 ∧ (∀ a b, a < N.1 → b < N.1 → N.2.1 a b = N.2.1 b a) ∧ (∀ a, a < N.1 → N.2.1 a a = -1) ∧ (∀ a b, a < N.1 → b < N.1 → N.2.1 a b = -1 ∨ ∃ k, k ≤ 999 ∧ N.2.1 a b = nI k) ∧
  ∀ a, a < N.1 → N.2.2 a = -1 ∨ ∃ b, b < N.1 ∧ N.2.2 a = nI b ∧ N.2.2 b = nI a ∧ N.2.1 a b ≠ -1
def okS (S : SysM) : Prop := sTp S ≤ 500 ∧ (∀ j, j < 500 → sTb S j < 256) ∧ (sKs S).length ≤ 8 ∧ (∀ N ∈ sKs S, okN N) ∧ okN (sN S)
def kp (ks : List NetM) (N : NetM) : List NetM := (if ks.length = 8 then ks.tail else ks) ++ [N]
/-- the network is kept, another one comes -/
def keepS (S : SysM) (N : NetM) : SysM := (S.1, S.2.1, S.2.2.1, S.2.2.2.1, kp (sKs S) (sN S), N)
def refS (S : SysM) (r : Nat) : SysM := (S.1, S.2.1, va_up (sRf S) r (sRf S r + nI 1), S.2.2.2.1, S.2.2.2.2.1, S.2.2.2.2.2)
theorem kp_len (ks : List NetM) (N : NetM) (h : ks.length ≤ 8) : (kp ks N).length = (if ks.length = 8 then 8 else ks.length + 1) ∧ (kp ks N).length ≤ 8 := by
  unfold kp
  split
  · rename_i e
    simp [e]
  · rename_i e
    simp
    omega
def isNd (N : NetM) (x : Int32) : Bool := decide (nI 0 ≤ x ∧ x ≤ nI (N.1 - 1))
theorem isNd_t {N : NetM} {x : Int32} (h1 : 1 ≤ N.1) (h2 : N.1 ≤ 12) (h : isNd N x = true) : ∃ a, a < N.1 ∧ x = nI a := by
  have h3 := of_decide_eq_true h
  obtain ⟨j, hj, e⟩ := nI_of2 (n := N.1 - 1) (M := nI (N.1 - 1)) (nI_toInt (by omega)) (Int32.not_lt.mpr h3.1) h3.2
  exact ⟨j, by omega, e⟩
/-! what a call answers: which exception (0: none), the answer, what is held then -/
abbrev Ans : Type := Nat × Int32 × SysM
def setN (S : SysM) (N : NetM) : SysM := (S.1, S.2.1, S.2.2.1, S.2.2.2.1, S.2.2.2.2.1, N)
def linesM (N : NetM) : Nat := sumN (fun a => cnt (fun b => ln N a b) a) N.1
def pairsM (N : NetM) : Nat := cnt (fun a => decide (nI a < N.2.2 a)) N.1
def cl (x : Int32) : Nat := x.toNatClampNeg
def opJoin (S : SysM) (x y w : Int32) : Ans :=
  if (isNd (sN S) x && isNd (sN S) y) = false then (1, nI 0, refS S 0)
  else if (decide (x = y) || !decide (nI 0 ≤ w ∧ w ≤ nI 999)) = true then (2, nI 0, refS S 1)
  else (0, nI (linesM (setW (sN S) (cl x) (cl y) w)), keepS S (setW (sN S) (cl x) (cl y) w))
def cutN (N : NetM) (a b : Nat) : NetM := setW (if N.2.2 a = nI b then unM N a b else N) a b (-1)
def opCut (S : SysM) (x y : Int32) : Ans :=
  if (isNd (sN S) x && isNd (sN S) y) = false then (1, nI 0, refS S 0)
  else if x = y then (2, nI 0, refS S 1)
  else if (sN S).2.1 (cl x) (cl y) = -1 then (3, nI 0, refS S 2)
  else (0, nI (linesM (cutN (sN S) (cl x) (cl y))), keepS S (cutN (sN S) (cl x) (cl y)))
def opPair (S : SysM) (x y : Int32) : Ans :=
  if (isNd (sN S) x && isNd (sN S) y) = false then (1, nI 0, refS S 0)
  else if x = y then (2, nI 0, refS S 1)
  else if (sN S).2.1 (cl x) (cl y) = -1 ∨ (sN S).2.2 (cl x) ≠ -1 ∨ (sN S).2.2 (cl y) ≠ -1 then (3, nI 0, refS S 2)
  else (0, nI (pairsM (setM (sN S) (cl x) (cl y))), keepS S (setM (sN S) (cl x) (cl y)))
def opPart (S : SysM) (x : Int32) : Ans :=
  if isNd (sN S) x = false then (1, nI 0, refS S 0)
  else if (sN S).2.2 (cl x) = -1 then (2, nI 0, refS S 2)
  else (0, (sN S).2.2 (cl x), keepS S (unM (sN S) (cl x) (cl ((sN S).2.2 (cl x)))))
/-- back by one -/
def opUndo (S : SysM) : Int32 × SysM := match (sKs S).getLast? with
  | none => (-1, S)
  | some N => (nI ((sKs S).length - 1), (S.1, S.2.1, S.2.2.1, S.2.2.2.1, (sKs S).dropLast, N))
def opStatus (S : SysM) (x : Int32) : Int32 := if nI 0 ≤ x ∧ x ≤ nI 2 then sRf S (cl x) else -1
def wordB (a : Int32) (k : Nat) : Nat := (a >>> (nI (24 - 8 * k) &&& 31) &&& 255).toNatClampNeg
def feedB (a b c d e : Int32) (k : Nat) : Nat := wordB (if k < 4 then a else if k < 8 then b else if k < 12 then c else if k < 16 then d else e) (k % 4)
def opFeed (S : SysM) (a b c d e : Int32) : Int32 × SysM := if 500 < sTp S + 20 then (-1, S) else (nI (sTp S + 20), (S.1 + 20, fun j => if sTp S ≤ j ∧ j < sTp S + 20 then feedB a b c d e (j - sTp S) else sTb S j, S.2.2))
