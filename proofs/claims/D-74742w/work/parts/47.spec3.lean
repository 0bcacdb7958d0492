/-! rows of nodes: paths and rings, the last node ahead -/
def fsm (g : Nat → Option (List Nat)) : Nat → Nat → Option (List Nat)
  | 0, _ => none
  | f + 1, i => match g i with
    | some r => some r
    | none => fsm g f (i + 1)
theorem fsm_none {g : Nat → Option (List Nat)} {f i : Nat} (h : g i = none) : fsm g (f + 1) i = fsm g f (i + 1) := by rw [fsm, h]
theorem fsm_some {g : Nat → Option (List Nat)} {f i : Nat} {r : List Nat} (h : g i = some r) : fsm g (f + 1) i = some r := by rw [fsm, h]
def hd0 : List Nat → Nat
  | [] => 0
  | a :: _ => a
def betF (N : NetM) (due : Nat) : Nat → List Nat → Option (List Nat)
  | 0, _ => none
  | f + 1, l => if l.length = due then (if N.2.2 (hd0 l) = -1 then some l else none) else fsm (fun b => if altB N l b then betF N due f (b :: l) else none) N.1 0
def pthF (N : NetM) (a : Nat) : Nat → Nat → Option (List Nat)
  | 0, _ => none
  | f + 1, due => if N.1 < due then none else match betF N due 12 [a] with
    | some r => some r
    | none => pthF N a f (due + 2)
def pathN (N : NetM) (a : Nat) : Option (List Nat) := if N.2.2 a = -1 then pthF N a 7 2 else none
def ringB (N : NetM) : List Nat → Nat → Bool
  | [], _ => false
  | a :: l, b => !(a :: l).contains b && ln N a b && decide (N.2.2 b ≠ -1) && !(a :: l).contains (cl (N.2.2 b))
def ringF (N : NetM) (due base : Nat) : Nat → List Nat → Option (List Nat)
  | 0, _ => none
  | f + 1, l => if l.length = due then (if ln N (hd0 l) base then some l else none) else fsm (fun b => if ringB N l b then ringF N due base f (cl (N.2.2 b) :: b :: l) else none) N.1 0
def flwF (N : NetM) (a : Nat) : Nat → Nat → Option (List Nat)
  | 0, _ => none
  | f + 1, due => if N.1 < due then none else match ringF N due a 12 [a] with
    | some r => some r
    | none => flwF N a f (due + 2)
def flowN (N : NetM) (a : Nat) : Option (List Nat) := flwF N a 7 3
/-- an array holds a row -/
def RowIs (f : Nat → Int32) : List Nat → Prop
  | [] => True
  | a :: l => f l.length = nI a ∧ RowIs f l
theorem RowIs.congr {f g : Nat → Int32} : ∀ {l : List Nat}, RowIs f l → (∀ j, j < l.length → g j = f j) → RowIs g l
  | [], _, _ => trivial
  | a :: l, h, hg => ⟨(hg l.length (Nat.lt_succ_self _)).trans h.1, RowIs.congr h.2 (fun j hj => hg j (Nat.lt_succ_of_lt hj))⟩
theorem RowIs.put {f : Nat → Int32} {l : List Nat} {b : Nat} (h : RowIs f l) : RowIs (va_up f l.length (nI b)) (b :: l) := ⟨by rw [vu, if_pos rfl], h.congr fun j hj => by rw [vu, if_neg (by omega)]⟩
/-- a row of different nodes -/
def RgL (N : NetM) (l : List Nat) : Prop := (∀ i ∈ l, i < N.1) ∧ pcn (msk l) = l.length
theorem RgL.one {N : NetM} (hn : N.1 ≤ 12) {a : Nat} (h : a < N.1) : RgL N [a] := ⟨fun i hi => by rw [List.mem_singleton.mp hi]; exact h, by rw [msk, pcn_or (by rw [msk, Nat.zero_testBit]) (by omega), msk, pcn_0]; rfl⟩
theorem RgL.add {N : NetM} (hn : N.1 ≤ 12) {l : List Nat} {b : Nat} (h : RgL N l) (hb : b < N.1) (hc : (msk l).testBit b = false) : RgL N (b :: l) := ⟨fun i hi => by
  rcases List.mem_cons.mp hi with rfl | hi
  · exact hb
  · exact h.1 i hi, by rw [msk, pcn_or hc (by omega), h.2]; rfl⟩
theorem RgL.lt {N : NetM} (hn : N.1 ≤ 12) {l : List Nat} (h : RgL N l) : msk l < 4096 ∧ l.length ≤ 12 := ⟨lt_4096 fun i hi => by
  rw [msk_bit]
  cases hc : l.contains i with
  | false => rfl
  | true => have := h.1 i (List.contains_iff_mem.mp hc); omega, by rw [← h.2]; exact pcn_le _⟩
theorem altB_m {N : NetM} {a b : Nat} {l : List Nat} : altB N (a :: l) b = true ↔ (msk (a :: l)).testBit b = false ∧ ln N a b = true ∧ (N.2.2 a = nI b ↔ (a :: l).length % 2 = 0) := by rw [altB_n, msk_bit]
theorem ringB_m {N : NetM} {a b : Nat} {l : List Nat} : ringB N (a :: l) b = true ↔ (msk (a :: l)).testBit b = false ∧ ln N a b = true ∧ N.2.2 b ≠ -1 ∧ (msk (a :: l)).testBit (cl (N.2.2 b)) = false := by
  unfold ringB
  rw [Bool.and_eq_true, Bool.and_eq_true, Bool.and_eq_true, Bool.not_eq_true', Bool.not_eq_true', decide_eq_true_iff, msk_bit, msk_bit, and_assoc, and_assoc]
/-- the answers -/
def rowV (r : List Nat) (i : Nat) : Nat := r.reverse.getD i 0
def opRow (S : SysM) (o : Option (List Nat)) (d : Nat) (i : Int32) : Ans := match o with
  | none => (0, -1, S)
  | some r => if i = -1 then (0, nI (r.length - d), S) else if nI 0 ≤ i ∧ i ≤ nI (r.length - 1) then (0, nI (rowV r (cl i)), S) else (1, nI 0, refS S 0)
def opPath (S : SysM) (x i : Int32) : Ans := if isNd (sN S) x = false then (1, nI 0, refS S 0) else opRow S (pathN (sN S) (cl x)) 1 i
def opFlower (S : SysM) (x i : Int32) : Ans := if isNd (sN S) x = false then (1, nI 0, refS S 0) else opRow S (flowN (sN S) (cl x)) 0 i
def matR (N : NetM) : List Nat → NetM
  | a :: b :: l => matR (setM N a b) l
  | _ => N
def opBetter (S : SysM) (x : Int32) : Ans :=
  if isNd (sN S) x = false then (1, nI 0, refS S 0)
  else match pathN (sN S) (cl x) with
    | none => (2, nI 0, refS S 2)
    | some r => (0, nI (pairsM (matR (sN S) r.reverse)), keepS S (matR (sN S) r.reverse))
theorem betF_len {N : NetM} (hn : N.1 ≤ 12) {due : Nat} : ∀ (f : Nat) (l r : List Nat), RgL N l → betF N due f l = some r → r.length = due ∧ RgL N r
  | 0, l, r, _, h => by cases h
  | f + 1, l, r, hl, h => by
    rw [betF] at h
    by_cases e : l.length = due
    · rw [if_pos e] at h
      by_cases e2 : N.2.2 (hd0 l) = -1
      · rw [if_pos e2] at h; cases h; exact ⟨e, hl⟩
      · rw [if_neg e2] at h; cases h
    · rw [if_neg e] at h
      have key : ∀ (k i : Nat), i + k = N.1 → fsm (fun b => if altB N l b then betF N due f (b :: l) else none) k i = some r → r.length = due ∧ RgL N r := by
        intro k
        induction k with
        | zero => intro i _ h; cases h
        | succ k ih =>
          intro i hi h
          cases hg : (if altB N l i then betF N due f (i :: l) else none) with
          | none => rw [fsm_none hg] at h; exact ih (i + 1) (by omega) h
          | some r' =>
            rw [fsm_some hg] at h
            cases h
            by_cases e3 : altB N l i = true
            · rw [if_pos e3] at hg
              cases l with
              | nil => cases e3
              | cons a l => exact betF_len hn f (i :: a :: l) r (hl.add hn (by omega) (altB_m.mp e3).1) hg
            · rw [if_neg e3] at hg; cases hg
      exact key N.1 0 (by omega) h
theorem ringF_len {N : NetM} (hN : okN N) {due base : Nat} : ∀ (f : Nat) (l r : List Nat), RgL N l → ringF N due base f l = some r → r.length = due ∧ RgL N r
  | 0, l, r, _, h => by cases h
  | f + 1, l, r, hl, h => by
    have hn := hN.2.1
    rw [ringF] at h
    by_cases e : l.length = due
    · rw [if_pos e] at h
      by_cases e2 : ln N (hd0 l) base = true
      · rw [if_pos e2] at h; cases h; exact ⟨e, hl⟩
      · rw [if_neg e2] at h; cases h
    · rw [if_neg e] at h
      have key : ∀ (k i : Nat), i + k = N.1 → fsm (fun b => if ringB N l b then ringF N due base f (cl (N.2.2 b) :: b :: l) else none) k i = some r → r.length = due ∧ RgL N r := by
        intro k
        induction k with
        | zero => intro i _ h; cases h
        | succ k ih =>
          intro i hi h
          cases hg : (if ringB N l i then ringF N due base f (cl (N.2.2 i) :: i :: l) else none) with
          | none => rw [fsm_none hg] at h; exact ih (i + 1) (by omega) h
          | some r' =>
            rw [fsm_some hg] at h
            cases h
            by_cases e3 : ringB N l i = true
            · rw [if_pos e3] at hg
              cases l with
              | nil => cases e3
              | cons a l =>
                obtain ⟨g1, g2, g3, g4⟩ := ringB_m.mp e3
                obtain ⟨c, hc, hic, hci, hw⟩ := hN.mate (a := i) (by omega) g3
                have e5 : cl (N.2.2 i) = c := by rw [hic]; exact nI_clamp (by omega)
                rw [e5] at g4 hg
                have hne : i ≠ c := fun e => by
                  have h9 := hN.2.2.2.1 i (by omega)
                  rw [← e] at hw
                  exact hw h9
                refine ringF_len hN f (c :: i :: a :: l) r ((hl.add hn (by omega) g1).add hn hc ?_) hg
                rw [msk, Nat.testBit_or, g4, Nat.testBit_two_pow, decide_eq_false hne]
                rfl
            · rw [if_neg e3] at hg; cases hg
      exact key N.1 0 (by omega) h
theorem pthF_ok {N : NetM} (hn : N.1 ≤ 12) {a : Nat} (ha : a < N.1) {r : List Nat} : ∀ (f due : Nat), 2 ≤ due → due % 2 = 0 → pthF N a f due = some r → 2 ≤ r.length ∧ r.length ≤ N.1 ∧ r.length % 2 = 0 ∧ RgL N r
  | 0, due, _, _, h => by cases h
  | f + 1, due, h1, h3, h => by
    rw [pthF] at h
    by_cases e : N.1 < due
    · rw [if_pos e] at h; cases h
    · rw [if_neg e] at h
      cases hb : betF N due 12 [a] with
      | none => rw [hb] at h; exact pthF_ok hn ha f (due + 2) (by omega) (by omega) h
      | some r' =>
        rw [hb] at h
        cases h
        have h2 := betF_len hn 12 [a] r (RgL.one hn ha) hb
        exact ⟨by omega, by omega, by omega, h2.2⟩
theorem flwF_ok {N : NetM} (hN : okN N) {a : Nat} (ha : a < N.1) {r : List Nat} : ∀ (f due : Nat), 3 ≤ due → due % 2 = 1 → flwF N a f due = some r → 3 ≤ r.length ∧ r.length ≤ N.1 ∧ r.length % 2 = 1 ∧ RgL N r
  | 0, due, _, _, h => by cases h
  | f + 1, due, h1, h3, h => by
    rw [flwF] at h
    by_cases e : N.1 < due
    · rw [if_pos e] at h; cases h
    · rw [if_neg e] at h
      cases hb : ringF N due a 12 [a] with
      | none => rw [hb] at h; exact flwF_ok hN ha f (due + 2) (by omega) (by omega) h
      | some r' =>
        rw [hb] at h
        cases h
        have h2 := ringF_len hN 12 [a] r (RgL.one hN.2.1 ha) hb
        exact ⟨by omega, by omega, by omega, h2.2⟩
