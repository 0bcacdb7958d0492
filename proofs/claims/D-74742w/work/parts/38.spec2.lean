/-! what is asked: answers -/
def sumI (f : Nat → Int32) : Nat → Int32
  | 0 => nI 0
  | k + 1 => sumI f k + f k
abbrev dpN (N : NetM) (s : Nat) : D4 := dp N.1 N.2.1 s
abbrev topN (N : NetM) : D4 := dpN N (allN N)
def missI (N : NetM) : Int32 := nI N.1 - nI 2 * nI (topN N).1
def sumWf (N : NetM) (a : Nat) : Int32 := if nI a < N.2.2 a then N.2.1 a (cl (N.2.2 a)) else nI 0
def toldV (S : SysM) (x : Int32) : Int32 :=
  if x = nI 0 then nI (sN S).1 else if x = nI 1 then nI (linesM (sN S)) else if x = nI 2 then nI (pairsM (sN S)) else if x = nI 3 then nI (topN (sN S)).1
  else if x = nI 4 then missI (sN S) else if x = nI 5 then sumI (sumWf (sN S)) (sN S).1 else if x = nI 6 then nI (sTp S) else nI (sKs S).length
def opTold (S : SysM) (x : Int32) : Ans := if nI 0 ≤ x ∧ x ≤ nI 7 then (0, toldV S x, S) else (1, nI 0, refS S 1)
def restN (N : NetM) (a b : Nat) : Nat := sd (sd (allN N) (2 ^ a)) (2 ^ b)
def someN (N : NetM) (a b : Nat) : Bool := ln N a b && decide ((dpN N (restN N a b)).1 + 1 = (topN N).1)
def lineV (N : NetM) (a b : Nat) (x : Int32) : Int32 :=
  if x = nI 0 then bI (ln N a b) else if x = nI 1 then N.2.1 a b else if x = nI 2 then bI (decide (N.2.2 a = nI b)) else if x = nI 3 then bI (someN N a b)
  else bI (someN N a b && decide ((dpN N (restN N a b)).2.1 = (topN N).2.1))
def opLine (S : SysM) (x y q : Int32) : Ans :=
  if (isNd (sN S) x && isNd (sN S) y) = false then (1, nI 0, refS S 0)
  else if (decide (x = y) || !decide (nI 0 ≤ q ∧ q ≤ nI 4)) = true then (2, nI 0, refS S 1)
  else (0, lineV (sN S) (cl x) (cl y) q, S)
def misN (N : NetM) : Nat := mk (fun a => decide ((dpN N (sd (allN N) (2 ^ a))).1 = (topN N).1)) N.1
def bsdN (N : NetM) : Nat := mk (fun a => !(misN N).testBit a && decide (besN N a &&& misN N ≠ 0)) N.1
def setV (N : NetM) (x : Int32) : Nat := if x = nI 0 then misN N else if x = nI 1 then bsdN N else sd (sd (allN N) (misN N)) (bsdN N)
/-- alternate rows of nodes, the last one ahead -/
def altB (N : NetM) : List Nat → Nat → Bool
  | [], _ => false
  | a :: l, b => !(a :: l).contains b && ln N a b && (decide (N.2.2 a = nI b) == decide ((a :: l).length % 2 = 0))
def orF (g : Nat → Nat × Nat) : Nat → Nat × Nat
  | 0 => (0, 0)
  | k + 1 => ((orF g k).1 ||| (g k).1, (orF g k).2 ||| (g k).2)
/-- where rows end: behind an odd many of nodes, behind an even many -/
def labF (N : NetM) : Nat → List Nat → Nat × Nat
  | 0, _ => (0, 0)
  | _ + 1, [] => (0, 0)
  | f + 1, a :: l => (let r := orF (fun b => if altB N (a :: l) b then labF N f (b :: a :: l) else (0, 0)) N.1
    if l.length % 2 = 0 then (r.1 ||| 2 ^ a, r.2) else (r.1, r.2 ||| 2 ^ a))
def labN (N : NetM) : Nat × Nat := orF (fun a => if N.2.2 a = -1 then labF N 13 [a] else (0, 0)) N.1
def evS (N : NetM) : Nat := (labN N).1
def odS (N : NetM) : Nat := (labN N).2
def labV (N : NetM) (x : Int32) : Nat := if x = nI 3 then evS N else if x = nI 4 then sd (odS N) (evS N) else sd (sd (allN N) (evS N)) (sd (odS N) (evS N))
def opSets (S : SysM) (x : Int32) : Ans := if nI 0 ≤ x ∧ x ≤ nI 5 then (0, (if x < nI 3 then nI (setV (sN S) x) else nI (labV (sN S) x)), S) else (1, nI 0, refS S 1)
/-- the first greatest row -/
def fndF (p : Nat → Bool) : Nat → Nat → Option Nat
  | 0, _ => none
  | f + 1, i => if p i then some i else fndF p f (i + 1)
abbrev Fst : Type := Nat × Nat × (Nat → Int32)
def fstP (N : NetM) (left due a b : Nat) : Bool := left.testBit b && ln N a b && decide ((dpN N (sd left (2 ^ b))).1 + 1 = due)
def fstS (N : NetM) (q : Fst) (a : Nat) : Fst :=
  if q.1.testBit a then match fndF (fstP N (sd q.1 (2 ^ a)) q.2.1 a) (N.1 - (a + 1)) (a + 1) with
    | none => (sd q.1 (2 ^ a), q.2.1, va_up q.2.2 a (-1))
    | some b => (sd (sd q.1 (2 ^ a)) (2 ^ b), q.2.1 - 1, va_up (va_up q.2.2 a (nI b)) b (nI a))
  else q
def fstQ (N : NetM) : Nat → Fst
  | 0 => (allN N, (topN N).1, fun _ => -1)
  | k + 1 => fstS N (fstQ N k) k
def firstR (N : NetM) : Nat → Int32 := (fstQ N N.1).2.2
def nodeV (N : NetM) (a : Nat) (x : Int32) : Int32 :=
  if x = nI 0 then nI (pcn (besN N a)) else if x = nI 1 then N.2.2 a
  else if x = nI 2 then (if (evS N).testBit a then nI 0 else if (odS N).testBit a then nI 1 else nI 2)
  else if x = nI 3 then (if (misN N).testBit a then nI 0 else if (bsdN N).testBit a then nI 1 else nI 2) else firstR N a
def opNode (S : SysM) (x q : Int32) : Ans :=
  if isNd (sN S) x = false then (1, nI 0, refS S 0)
  else if nI 0 ≤ q ∧ q ≤ nI 4 then (0, nodeV (sN S) (cl x) q, S) else (2, nI 0, refS S 1)
def opOdd (S : SysM) (x : Int32) : Ans := if nI 0 ≤ x ∧ x ≤ nI (allN (sN S)) then (0, nI (oddN (sN S) (cl x)), S) else (1, nI 0, refS S 1)
def barG (N : NetM) (s : Nat) : Bool := decide (nI (oddN N s) - nI (pcn s) = missI N)
def barF (N : NetM) (x : Int32) : Nat → Option Nat
  | 0 => none
  | k + 1 => match barF N x k with
    | none => if barG N k then some k else none
    | some b => if (if x = nI 0 then pcn b ≤ pcn k else pcn k ≤ pcn b) then some b else if barG N k then some k else some b
def optI : Option Nat → Int32
  | none => -1
  | some b => nI b
def opBarrier (S : SysM) (x : Int32) : Ans := if nI 0 ≤ x ∧ x ≤ nI 1 then (0, optI (barF (sN S) x (2 ^ (sN S).1)), S) else (1, nI 0, refS S 1)
def opWays (S : SysM) : Int32 := nI (topN (sN S)).2.1
def opHeavy (S : SysM) (x : Int32) : Ans := if nI 0 ≤ x ∧ x ≤ nI 1 then (0, (if x = nI 0 then nI (topN (sN S)).2.2.1 else nI (topN (sN S)).2.2.2), S) else (1, nI 0, refS S 1)
def finN (N : NetM) : NetM := (N.1, N.2.1, firstR N)
def opFinish (S : SysM) : Int32 × SysM := (nI (pairsM (finN (sN S))) - nI (pairsM (sN S)), keepS S (finN (sN S)))
theorem misN_lt {N : NetM} (h : N.1 ≤ 12) : misN N < 4096 := mk_4096 _ h
theorem bsdN_lt {N : NetM} (h : N.1 ≤ 12) : bsdN N < 4096 := mk_4096 _ h
theorem restN_lt {N : NetM} {a b : Nat} : restN N a b < 2 ^ N.1 := by
  have h1 : 1 ≤ 2 ^ N.1 := Nat.one_le_two_pow
  have h2 : restN N a b ≤ sd (allN N) (2 ^ a) := sd_le _ _
  have h3 : sd (allN N) (2 ^ a) ≤ allN N := sd_le _ _
  have h4 : allN N = 2 ^ N.1 - 1 := rfl
  omega
theorem sall_lt {N : NetM} {s : Nat} : sd (allN N) s < 2 ^ N.1 := by
  have h1 : 1 ≤ 2 ^ N.1 := Nat.one_le_two_pow
  have h3 : sd (allN N) s ≤ allN N := sd_le _ _
  have h4 : allN N = 2 ^ N.1 - 1 := rfl
  omega
theorem all_lt {N : NetM} : allN N < 2 ^ N.1 := by
  have h1 : 1 ≤ 2 ^ N.1 := Nat.one_le_two_pow
  have h4 : allN N = 2 ^ N.1 - 1 := rfl
  omega
