/-! bounds of the tables; small sets -/
set_option maxRecDepth 100000 in
theorem pcn_pred : ∀ s, s < 4096 → s = 0 ∨ pcn (s &&& (s - 1)) + 1 = pcn s := by decide +kernel
theorem l2i_lN (a : Nat) : (lN a).toInt32 = nI a := by
  unfold lN
  simp [← Int32.toBitVec_inj, nI]
theorem lN_inj {a b : Nat} (ha : a < 2 ^ 63) (hb : b < 2 ^ 63) (h : lN a = lN b) : a = b := by
  have h1 := congrArg Int64.toNatClampNeg h
  unfold lN at h1
  rwa [Int64.toNatClampNeg_ofNat_of_lt (by omega), Int64.toNatClampNeg_ofNat_of_lt (by omega)] at h1
theorem dfold_low {w : Nat → Nat → Int32} {a rest : Nat} {r : Nat → D4} : ∀ k, k ≤ a + 1 → dfold w a rest r k = r rest
  | 0, _ => rfl
  | k + 1, h => by rw [dfold, if_neg (by omega), dfold_low k (by omega)]
/-- what the numbers of a set keep to -/
def bnd (p : Nat) (d : D4) : Prop := d.1 ≤ p ∧ d.2.1 ≤ 13 ^ p ∧ d.2.2.1 ≤ 999 * p ∧ d.2.2.2 ≤ 999 * p
def wOk (n : Nat) (w : Nat → Nat → Int32) : Prop := ∀ a b, a < n → b < n → w a b = -1 ∨ ∃ k, k ≤ 999 ∧ w a b = nI k
theorem wOk.wn {n : Nat} {w : Nat → Nat → Int32} (h : wOk n w) {a b : Nat} (ha : a < n) (hb : b < n) (hl : w a b ≠ -1) : wn w a b ≤ 999 ∧ w a b = nI (wn w a b) := by
  obtain ⟨k, hk, e⟩ := (h a b ha hb).resolve_left hl
  have e2 : (w a b).toNatClampNeg = k := by rw [e, nI_clamp (by omega)]
  show (w a b).toNatClampNeg ≤ 999 ∧ w a b = nI (w a b).toNatClampNeg
  rw [e2]
  exact ⟨hk, e⟩
theorem okN.w {N : NetM} (h : okN N) : wOk N.1 N.2.1 := h.2.2.2.2.1
def Bn (p c : Nat) (d : D4) : Prop := d.1 ≤ p + 1 ∧ d.2.1 ≤ (1 + c) * 13 ^ p ∧ d.2.2.1 ≤ 999 * (p + 1) ∧ d.2.2.2 ≤ 999 * (p + 1)
theorem bn_comb {p c : Nat} {d e : D4} (h1 : Bn p c d) (h2 : bnd p e) {w : Nat} (hw : w ≤ 999) : Bn p (c + 1) (comb d (bump e w)) := by
  obtain ⟨h11, h12, h13, h14⟩ := h1
  obtain ⟨h21, h22, h23, h24⟩ := h2
  have e1 : (1 + (c + 1)) * 13 ^ p = (1 + c) * 13 ^ p + 13 ^ p := by rw [show 1 + (c + 1) = (1 + c) + 1 by omega, Nat.add_mul, Nat.one_mul]
  have e2 : 13 ^ p ≤ (1 + (c + 1)) * 13 ^ p := Nat.le_mul_of_pos_left _ (by omega)
  unfold comb bump Bn
  split
  · exact ⟨h11, by omega, h13, h14⟩
  · split
    · exact ⟨by simp only; omega, by simp only; omega, by simp only; omega, by simp only; omega⟩
    · exact ⟨h11, by simp only; omega, by simp only; omega, by simp only; omega⟩
theorem bn_fold {n : Nat} {w : Nat → Nat → Int32} (hw : wOk n w) {a rest p : Nat} (ha : a < n) {r : Nat → D4} (h0 : bnd p (r rest)) (h : ∀ k, rest.testBit k = true → bnd p (r (sd rest (2 ^ k)))) : ∀ k, k ≤ n → Bn p k (dfold w a rest r k)
  | 0, _ => ⟨Nat.le_succ_of_le h0.1, by have h5 := h0.2.1; show (r rest).2.1 ≤ _; rw [Nat.add_zero, Nat.one_mul]; exact h5, by have := h0.2.2.1; show (r rest).2.2.1 ≤ _; omega, by have := h0.2.2.2; show (r rest).2.2.2 ≤ _; omega⟩
  | k + 1, hk => by
    have ih := bn_fold hw ha h0 h k (by omega)
    rw [dfold]
    split
    · rename_i hc
      obtain ⟨h1, h2, h3⟩ := hc
      exact bn_comb ih (h k h2) (hw.wn ha (by omega) (of_decide_eq_true h3)).1
    · obtain ⟨h1, h2, h3, h4⟩ := ih
      exact ⟨h1, by have : (1 + k) * 13 ^ p ≤ (1 + (k + 1)) * 13 ^ p := Nat.mul_le_mul_right _ (by omega); omega, h3, h4⟩
theorem pcn_0 : pcn 0 = 0 := by decide
theorem dp_bnd {n : Nat} {w : Nat → Nat → Int32} (hw : wOk n w) (hn : n ≤ 12) : ∀ (p s : Nat), s < 2 ^ n → pcn s = p → bnd p (dp n w s) := by
  intro p
  induction p using Nat.strongRecOn with
  | ind p ih =>
    intro s hs hp
    have hs4 : s < 4096 := Nat.lt_of_lt_of_le hs (p12 hn)
    by_cases e : s = 0
    · subst e
      exact ⟨Nat.zero_le _, Nat.pow_pos (by omega), Nat.zero_le _, Nat.zero_le _⟩
    · rw [dp_eq hs4 e]
      rcases fstb_ok s hs4 with e0 | ⟨h1, h2, h3, h4⟩
      · exact absurd e0 e
      · have hf : fstb s < n := by
          rcases Nat.lt_or_ge (fstb s) n with h | h
          · exact h
          · rw [Nat.testBit_lt_two_pow (Nat.lt_of_lt_of_le hs (Nat.pow_le_pow_right (by omega) h))] at h1; cases h1
        have sub1 : ∀ i, (sd s (2 ^ fstb s)).testBit i = true → s.testBit i = true := fun i hi => by
          rw [sd_bit] at hi
          cases hx : s.testBit i
          · rw [hx] at hi; exact hi
          · rfl
        have ne1 : sd s (2 ^ fstb s) ≠ s := fun e9 => by
          have := sd_bit s (2 ^ fstb s) (fstb s)
          rw [e9, h1, Nat.testBit_two_pow_self] at this
          cases this
        have p1 := pcn_lt hs4 sub1 ne1
        have hle : sd s (2 ^ fstb s) < 2 ^ n := Nat.lt_of_le_of_lt (sd_le _ _) hs
        obtain ⟨q, rfl⟩ : ∃ q, p = q + 1 := ⟨p - 1, by omega⟩
        have up : ∀ {q' : Nat} {d : D4}, q' ≤ q → bnd q' d → bnd q d := fun {q' d} hq hb => ⟨by have := hb.1; omega, Nat.le_trans hb.2.1 (Nat.pow_le_pow_right (by omega) hq), by have := hb.2.2.1; omega, by have := hb.2.2.2; omega⟩
        have b0 : bnd q (dp n w (sd s (2 ^ fstb s))) := up (by omega) (ih _ (by omega) _ hle rfl)
        have b1 : ∀ k, (sd s (2 ^ fstb s)).testBit k = true → bnd q (dp n w (sd (sd s (2 ^ fstb s)) (2 ^ k))) := fun k hk => by
          have p2 : pcn (sd (sd s (2 ^ fstb s)) (2 ^ k)) ≤ pcn (sd s (2 ^ fstb s)) := cnt_mono (fun i hi => by
            rw [sd_bit] at hi
            cases hx : (sd s (2 ^ fstb s)).testBit i
            · rw [hx] at hi; exact hi
            · rfl) 12
          exact up (by omega) (ih _ (by omega) _ (Nat.lt_of_le_of_lt (sd_le _ _) hle) rfl)
        have hB := bn_fold hw hf b0 b1 n (Nat.le_refl _)
        obtain ⟨g1, g2, g3, g4⟩ := hB
        refine ⟨g1, Nat.le_trans g2 ?_, g3, g4⟩
        rw [Nat.pow_succ, Nat.mul_comm]
        exact Nat.mul_le_mul_left _ (by omega)
theorem dp_small {n : Nat} {w : Nat → Nat → Int32} (hw : wOk n w) (hn : n ≤ 12) {s : Nat} (hs : s < 2 ^ n) : (dp n w s).1 ≤ 12 ∧ (dp n w s).2.1 ≤ 13 ^ 12 ∧ (dp n w s).2.2.1 ≤ 999 * 12 ∧ (dp n w s).2.2.2 ≤ 999 * 12 := by
  obtain ⟨h1, h2, h3, h4⟩ := dp_bnd hw hn _ s hs rfl
  have h5 := pcn_le s
  exact ⟨by omega, Nat.le_trans h2 (Nat.pow_le_pow_right (by omega) h5), by omega, by omega⟩
/-- an entry of the tables -/
def EntIs (F : Nat → Nat → Int32) (L : Nat → Nat → Int64) (s : Nat) (d : D4) : Prop := F 15 s = nI d.1 ∧ L 18 s = lN d.2.1 ∧ F 16 s = nI d.2.2.1 ∧ F 17 s = nI d.2.2.2
def Oth (F F' : Nat → Nat → Int32) (L L' : Nat → Nat → Int64) (s : Nat) : Prop := (∀ t, t ≠ s → F' 15 t = F 15 t ∧ L' 18 t = L 18 t ∧ F' 16 t = F 16 t ∧ F' 17 t = F 17 t) ∧ ∀ j, j ≠ 15 → j ≠ 16 → j ≠ 17 → F' j = F j
theorem Oth.rf {F : Nat → Nat → Int32} {L : Nat → Nat → Int64} {s : Nat} : Oth F F L L s := ⟨fun _ _ => ⟨rfl, rfl, rfl, rfl⟩, fun _ _ _ _ => rfl⟩
theorem Oth.trans {F F' F'' : Nat → Nat → Int32} {L L' L'' : Nat → Nat → Int64} {s : Nat} (h : Oth F F' L L' s) (h' : Oth F' F'' L' L'' s) : Oth F F'' L L'' s := ⟨fun t ht => by
  obtain ⟨a, b, c, d⟩ := h.1 t ht
  obtain ⟨a', b', c', d'⟩ := h'.1 t ht
  exact ⟨a'.trans a, b'.trans b, c'.trans c, d'.trans d⟩, fun j h1 h2 h3 => (h'.2 j h1 h2 h3).trans (h.2 j h1 h2 h3)⟩
theorem Oth.ent {F F' : Nat → Nat → Int32} {L L' : Nat → Nat → Int64} {s t : Nat} {d : D4} (h : Oth F F' L L' s) (ht : t ≠ s) (he : EntIs F L t d) : EntIs F' L' t d := by
  obtain ⟨a, b, c, e⟩ := h.1 t ht
  obtain ⟨a', b', c', e'⟩ := he
  exact ⟨a.trans a', b.trans b', c.trans c', e.trans e'⟩
/-- the change of one entry -/
theorem Oth.put {F : Nat → Nat → Int32} {L : Nat → Nat → Int64} {s : Nat} {F' : Nat → Nat → Int32} {L' : Nat → Nat → Int64} (h15 : ∀ t, t ≠ s → F' 15 t = F 15 t) (h16 : ∀ t, t ≠ s → F' 16 t = F 16 t) (h17 : ∀ t, t ≠ s → F' 17 t = F 17 t) (h18 : ∀ t, t ≠ s → L' 18 t = L 18 t) (h : ∀ j, j ≠ 15 → j ≠ 16 → j ≠ 17 → F' j = F j) : Oth F F' L L' s := ⟨fun t ht => ⟨h15 t ht, h18 t ht, h16 t ht, h17 t ht⟩, h⟩
