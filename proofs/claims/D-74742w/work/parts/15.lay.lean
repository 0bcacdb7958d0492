/-! layouts of the objects -/
def layN (n : Nat) : Lay := (1, fun I ad => [.int (I 0), .ref (ad 1), .ref (ad 2)], fun k => if k = 2 then some (0, n) else if 100 ≤ k ∧ k < 100 + n then some (0, n) else none, fun k => if k = 1 then some (n, fun i => 100 + i) else none, fun _ => none)
theorem layN_row {n i : Nat} (h : i < n) : (layN n).2.2.1 (100 + i) = some (0, n) := by
  show (if 100 + i = 2 then some (0, n) else if 100 ≤ 100 + i ∧ 100 + i < 100 + n then some (0, n) else none) = _
  rw [if_neg (by omega), if_pos (by omega)]
theorem layN_og {n : Nat} : ∀ j N g, (layN n).2.2.2.1 j = some (N, g) → ∀ i, g i ≠ 0 := by
  intro j N g h i
  have h2 : (if j = 1 then some (n, fun i => 100 + i) else none) = some (N, g) := h
  split at h2
  · cases h2
    show 100 + i ≠ 0
    omega
  · cases h2
/-- the model's object -/
def layM : Lay := (2, fun I ad => [.int (I 0), .ref (ad 1), .int (I 2), .int (I 3), .int (I 4), .int (I 5), .int (I 6), .int (I 7), .ref (ad 8), .ref (ad 9), .ref (ad 10), .ref (ad 11), .int (I 12), .ref (ad 13), .int (I 14), .ref (ad 15), .ref (ad 16), .ref (ad 17), .ref (ad 18), .int (I 19), .ref (ad 20), .ref (ad 21), .int (I 22), .int (I 23), .ref (ad 24), .int (I 25), .ref (ad 26)],
  fun k => match k with
    | 1 => some (0, 3) | 8 => some (0, 500) | 9 => some (0, 157) | 10 => some (0, 157) | 13 => some (0, 500) | 15 => some (0, 4096) | 16 => some (0, 4096) | 17 => some (0, 4096) | 20 => some (0, 12) | 21 => some (2, 49152) | 24 => some (0, 13) | 26 => some (0, 12)
    | 100 => some (0, 157) | 101 => some (0, 157) | 102 => some (0, 157) | 103 => some (0, 157) | 104 => some (0, 157) | 105 => some (0, 157) | 106 => some (0, 157) | 107 => some (0, 157)
    | _ => none,
  fun k => if k = 11 then some (8, fun i => 100 + i) else none, fun k => if k = 18 then some 4096 else none)
/-- Trees -/
def layT : Lay := (7, fun I ad => [.ref (ad 0), .ref (ad 1), .ref (ad 2), .ref (ad 3), .ref (ad 4), .ref (ad 5), .ref (ad 6), .ref (ad 7), .int (I 8), .int (I 9), .int (I 10)],
  fun k => match k with
    | 1 => some (0, 12) | 2 => some (0, 12) | 3 => some (0, 12) | 4 => some (2, 12) | 5 => some (2, 12) | 6 => some (2, 12) | 7 => some (0, 12)
    | _ => none,
  fun _ => none, fun _ => none)
/-- Walk -/
def layW : Lay := (5, fun I ad => [.ref (ad 0), .ref (ad 1), .int (I 2), .int (I 3), .int (I 4)], fun k => if k = 1 then some (0, 13) else none, fun _ => none, fun _ => none)
/-- OddPairs -/
def layX : Lay := (0, fun I ad => [.ref (ad 0), .ref (ad 1), .ref (ad 2), .ref (ad 3), .int (I 4), .int (I 5)], fun k => match k with | 0 => some (1, 500) | 1 => some (0, 3) | _ => none, fun _ => none, fun _ => none)
/-- Greatest, Without -/
def layG : Lay := (6, fun I ad => [.ref (ad 0), .ref (ad 1), .int (I 2)], fun _ => none, fun _ => none, fun _ => none)
def layO : Lay := (8, fun I ad => [.ref (ad 0), .int (I 1), .int (I 2), .int (I 3)], fun _ => none, fun _ => none, fun _ => none)
/-- a network: how many nodes, weights, mates -/
abbrev NetM : Type := Nat × (Nat → Nat → Int32) × (Nat → Int32)
def NetAt (σ : vSt) (h : Nat) (N : NetM) : Prop := ∃ (ad : Nat → Nat) (I : Nat → Int32) (F : Nat → Nat → Int32) (L : Nat → Nat → Int64), RecAt (layN N.1) σ h ad I F L ∧ I 0 = nI N.1 ∧ (∀ i j, i < N.1 → j < N.1 → F (100 + i) j = N.2.1 i j) ∧ ∀ i, i < N.1 → F 2 i = N.2.2 i
theorem NetAt.fr {M : List Nat} {σ σ' : vSt} {h : Nat} {N : NetM} (hN : NetAt σ h N) (hf : FrL M σ σ') (hm : h ∉ M) : NetAt σ' h N := by
  obtain ⟨ad, I, F, L, hR, r⟩ := hN
  exact ⟨ad, I, F, L, hR.fr hf hm, r⟩
theorem NetAt.nz {σ : vSt} {h : Nat} {N : NetM} (hN : NetAt σ h N) : h ≠ 0 := by
  obtain ⟨ad, I, F, L, hR, r⟩ := hN
  exact hR.nz
theorem NetAt.ob {σ : vSt} {h : Nat} {N : NetM} (hN : NetAt σ h N) : ∃ wa ma : Nat, σ h = some (h, .inr (1, [.int (nI N.1), .ref wa, .ref ma])) := by
  obtain ⟨ad, I, F, L, hR, h0, r⟩ := hN
  refine ⟨ad 1, ad 2, ?_⟩
  rw [hR.ob]
  show some (h, Sum.inr (1, [Value.int (I 0), _, _])) = _
  rw [h0]
/-- a line -/
def ln (N : NetM) (a b : Nat) : Bool := decide (N.2.1 a b ≠ -1)
theorem bI_1 {b : Bool} : bI b = nI 1 ↔ b = true := by cases b <;> decide
theorem bIT {b : Bool} (h : b = true) : some (Value.int (nI 1)) = some (.int (bI b)) := by rw [h]; rfl
theorem bIF {b : Bool} (h : b = false) : some (Value.int (nI 0)) = some (.int (bI b)) := by rw [h]; rfl
theorem bIT' {b : Bool} (h : b = true) : nI 1 = bI b := by rw [h]; rfl
theorem bIF' {b : Bool} (h : b = false) : nI 0 = bI b := by rw [h]; rfl
theorem bx_has {s k : Nat} : nI (s >>> k) &&& nI 1 = bI (s.testBit k) := by
  rw [bx_and, bx_bit]
  cases s.testBit k <;> rfl
