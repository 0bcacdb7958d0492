/-! two steps of an alternate row at once -/
theorem fsm_nil {g : Nat → Option (List Nat)} : ∀ (k i : Nat), (∀ j, i ≤ j → j < i + k → g j = none) → fsm g k i = none
  | 0, _, _ => rfl
  | k + 1, i, h => by rw [fsm_none (h i (Nat.le_refl _) (by omega))]; exact fsm_nil k (i + 1) fun j h1 h2 => h j (by omega) (by omega)
theorem fsm_only {g : Nat → Option (List Nat)} {c : Nat} : ∀ (k i : Nat), i ≤ c → c < i + k → (∀ j, i ≤ j → j < i + k → j ≠ c → g j = none) → fsm g k i = g c
  | 0, i, h1, h2, _ => by omega
  | k + 1, i, h1, h2, h => by
    by_cases e : i = c
    · subst e
      cases hg : g i with
      | none => rw [fsm_none hg]; exact fsm_nil k (i + 1) fun j h3 h4 => h j (by omega) (by omega) (by omega)
      | some r => exact fsm_some hg
    · rw [fsm_none (h i (Nat.le_refl _) (by omega) e)]
      exact fsm_only k (i + 1) (by omega) (by omega) fun j h3 h4 h5 => h j (by omega) (by omega) h5
theorem fsm_cg {g g' : Nat → Option (List Nat)} : ∀ (k i : Nat), (∀ j, i ≤ j → j < i + k → g j = g' j) → fsm g k i = fsm g' k i
  | 0, _, _ => rfl
  | k + 1, i, h => by rw [fsm, fsm, h i (Nat.le_refl _) (by omega), fsm_cg k (i + 1) fun j h1 h2 => h j (by omega) (by omega)]
theorem orF_nil {g : Nat → Nat × Nat} : ∀ n, (∀ j, j < n → g j = (0, 0)) → orF g n = (0, 0)
  | 0, _ => rfl
  | n + 1, h => by rw [orF, orF_nil n fun j hj => h j (by omega), h n (by omega)]; rfl
theorem orF_only {g : Nat → Nat × Nat} {c : Nat} : ∀ n, c < n → (∀ j, j < n → j ≠ c → g j = (0, 0)) → orF g n = g c
  | n + 1, hc, h => by
    rw [orF]
    by_cases e : n = c
    · subst e
      rw [orF_nil n fun j hj => h j (by omega) (by omega)]
      show (0 ||| (g n).1, 0 ||| (g n).2) = _
      rw [Nat.zero_or, Nat.zero_or]
    · rw [orF_only n (by omega) fun j hj => h j (by omega), h n (by omega) e]
      show ((g c).1 ||| 0, (g c).2 ||| 0) = _
      rw [Nat.or_zero, Nat.or_zero]
theorem orF_cg {g g' : Nat → Nat × Nat} : ∀ n, (∀ j, j < n → g j = g' j) → orF g n = orF g' n
  | 0, _ => rfl
  | n + 1, h => by rw [orF, orF, orF_cg n fun j hj => h j (by omega), h n (by omega)]
/-- whether the one behind goes on to its mate -/
def goM (N : NetM) (l : List Nat) (b : Nat) : Bool := decide (N.2.2 b ≠ -1) && !(msk l).testBit (cl (N.2.2 b))
theorem alt2 {N : NetM} (hN : okN N) {l : List Nat} {b : Nat} (hb : b < N.1) (hl : (b :: l).length % 2 = 0) (c : Nat) (hc : c < N.1) : altB N (b :: l) c = true ↔ goM N l b = true ∧ c = cl (N.2.2 b) := by
  have hn := hN.2.1
  rw [altB_m]
  unfold goM
  rw [Bool.and_eq_true, decide_eq_true_eq, Bool.not_eq_true', msk, Nat.testBit_or, Nat.testBit_two_pow, Bool.or_eq_false_iff, decide_eq_false_iff_not]
  constructor
  · rintro ⟨⟨h1, h2⟩, h3, h4⟩
    have h5 := h4.mpr hl
    have e : c = cl (N.2.2 b) := by rw [h5]; exact (nI_clamp (by omega)).symm
    exact ⟨⟨by rw [h5]; exact nI_ne (by omega), by rw [← e]; exact h1⟩, e⟩
  · rintro ⟨⟨h1, h2⟩, rfl⟩
    obtain ⟨d, hd, h3, h4, h5⟩ := hN.mate hb h1
    have e : cl (N.2.2 b) = d := by rw [h3]; exact nI_clamp (by omega)
    rw [e] at h2 hc ⊢
    refine ⟨⟨h2, fun e9 => ?_⟩, decide_eq_true h5, fun _ => hl, fun _ => h3⟩
    rw [e9] at h5
    exact h5 (hN.2.2.2.1 d hd)
theorem goM_lt {N : NetM} (hN : okN N) {l : List Nat} {b : Nat} (hb : b < N.1) (h : goM N l b = true) : cl (N.2.2 b) < N.1 ∧ N.2.2 b = nI (cl (N.2.2 b)) ∧ cl (N.2.2 b) ≠ b ∧ N.2.2 b ≠ -1 ∧ (msk l).testBit (cl (N.2.2 b)) = false := by
  have hn := hN.2.1
  unfold goM at h
  rw [Bool.and_eq_true, decide_eq_true_eq, Bool.not_eq_true'] at h
  obtain ⟨d, hd, h3, h4, h5⟩ := hN.mate hb h.1
  have e : cl (N.2.2 b) = d := by rw [h3]; exact nI_clamp (by omega)
  rw [e] at h ⊢
  exact ⟨hd, h3, fun e9 => by rw [e9] at h5; exact h5 (hN.2.2.2.1 b hb), h.1, h.2⟩
theorem fsm2 {N : NetM} (hN : okN N) {l : List Nat} {b : Nat} (hb : b < N.1) (hl : (b :: l).length % 2 = 0) (H : Nat → Option (List Nat)) : fsm (fun c => if altB N (b :: l) c then H c else none) N.1 0 = if goM N l b then H (cl (N.2.2 b)) else none := by
  by_cases hg : goM N l b = true
  · obtain ⟨h1, -⟩ := goM_lt hN hb hg
    rw [if_pos hg, fsm_only (c := cl (N.2.2 b)) N.1 0 (Nat.zero_le _) (by omega) (fun j _ hj hjc => if_neg fun ha => hjc ((alt2 hN hb hl j (by omega)).mp ha).2)]
    exact if_pos ((alt2 hN hb hl _ h1).mpr ⟨hg, rfl⟩)
  · rw [if_neg hg]
    exact fsm_nil _ _ fun j _ hj => if_neg fun ha => hg ((alt2 hN hb hl j (by omega)).mp ha).1
theorem orF2 {N : NetM} (hN : okN N) {l : List Nat} {b : Nat} (hb : b < N.1) (hl : (b :: l).length % 2 = 0) (H : Nat → Nat × Nat) : orF (fun c => if altB N (b :: l) c then H c else (0, 0)) N.1 = if goM N l b then H (cl (N.2.2 b)) else (0, 0) := by
  by_cases hg : goM N l b = true
  · obtain ⟨h1, -⟩ := goM_lt hN hb hg
    rw [if_pos hg, orF_only (c := cl (N.2.2 b)) N.1 h1 (fun j hj hjc => if_neg fun ha => hjc ((alt2 hN hb hl j hj).mp ha).2)]
    exact if_pos ((alt2 hN hb hl _ h1).mpr ⟨hg, rfl⟩)
  · rw [if_neg hg]
    exact orF_nil _ fun j hj => if_neg fun ha => hg ((alt2 hN hb hl j hj).mp ha).1
/-- a path by pairs -/
def bet2 (N : NetM) (due f : Nat) (l : List Nat) (b : Nat) : Option (List Nat) :=
  if altB N l b then (if (b :: l).length = due then (if N.2.2 b = -1 then some (b :: l) else none) else if goM N l b then betF N due f (cl (N.2.2 b) :: b :: l) else none) else none
theorem betF_2 {N : NetM} (hN : okN N) {due f : Nat} {l : List Nat} (hl : l.length % 2 = 1) (hd : l.length < due) : betF N due (f + 2) l = fsm (bet2 N due f l) N.1 0 := by
  rw [betF, if_neg (by omega)]
  refine fsm_cg N.1 0 fun b _ hb => ?_
  unfold bet2
  by_cases ha : altB N l b = true
  · rw [if_pos ha, if_pos ha, betF]
    by_cases e : (b :: l).length = due
    · rw [if_pos e, if_pos e]; rfl
    · rw [if_neg e, if_neg e]
      exact fsm2 hN (by omega) (by rw [List.length_cons]; omega) fun c => betF N due f (c :: b :: l)
  · rw [if_neg ha, if_neg ha]
/-- labels by pairs -/
def lab2 (N : NetM) (f : Nat) (l : List Nat) (b : Nat) : Nat × Nat :=
  if altB N l b then ((if goM N l b then labF N f (cl (N.2.2 b) :: b :: l) else (0, 0)).1, (if goM N l b then labF N f (cl (N.2.2 b) :: b :: l) else (0, 0)).2 ||| 2 ^ b) else (0, 0)
theorem labF_2 {N : NetM} (hN : okN N) {f a : Nat} {l : List Nat} (hl : (a :: l).length % 2 = 1) : labF N (f + 2) (a :: l) = ((orF (lab2 N f (a :: l)) N.1).1 ||| 2 ^ a, (orF (lab2 N f (a :: l)) N.1).2) := by
  have h0 : l.length % 2 = 0 := by rw [List.length_cons] at hl; omega
  show (let r := orF (fun b => if altB N (a :: l) b then labF N (f + 1) (b :: a :: l) else (0, 0)) N.1
    if l.length % 2 = 0 then (r.1 ||| 2 ^ a, r.2) else (r.1, r.2 ||| 2 ^ a)) = _
  have e : orF (fun b => if altB N (a :: l) b then labF N (f + 1) (b :: a :: l) else (0, 0)) N.1 = orF (lab2 N f (a :: l)) N.1 := orF_cg N.1 fun b hb => by
    unfold lab2
    by_cases ha : altB N (a :: l) b = true
    · rw [if_pos ha, if_pos ha]
      show (let r := orF (fun c => if altB N (b :: a :: l) c then labF N f (c :: b :: a :: l) else (0, 0)) N.1
        if (a :: l).length % 2 = 0 then (r.1 ||| 2 ^ b, r.2) else (r.1, r.2 ||| 2 ^ b)) = _
      rw [orF2 hN hb (by rw [List.length_cons]; omega) fun c => labF N f (c :: b :: a :: l)]
      show (if (a :: l).length % 2 = 0 then _ else _) = _
      rw [if_neg (by omega)]
    · rw [if_neg ha, if_neg ha]
  rw [e]
  exact if_pos h0
