/-! labels: all alternate rows -/
def msk : List Nat → Nat
  | [] => 0
  | a :: l => msk l ||| 2 ^ a
def altL (N : NetM) : List Nat → Prop
  | [] => False
  | a :: l => match l with
    | [] => a < N.1 ∧ N.2.2 a = -1
    | _ :: _ => altL N l ∧ a < N.1 ∧ altB N l a = true
theorem altL_1 {N : NetM} {a : Nat} : altL N [a] ↔ a < N.1 ∧ N.2.2 a = -1 := Iff.rfl
theorem altL_c {N : NetM} {a b : Nat} {l : List Nat} : altL N (b :: a :: l) ↔ altL N (a :: l) ∧ b < N.1 ∧ altB N (a :: l) b = true := Iff.rfl
theorem msk_bit {i : Nat} : ∀ l : List Nat, (msk l).testBit i = l.contains i
  | [] => by rw [msk, Nat.zero_testBit]; rfl
  | a :: l => by
    rw [msk, Nat.testBit_or, msk_bit l, Nat.testBit_two_pow, List.contains_cons]
    by_cases e : a = i
    · subst e; simp
    · have e' : ¬ i = a := fun h => e h.symm
      simp [e, e']
theorem altL_lt {N : NetM} : ∀ (l : List Nat) (a : Nat), altL N (a :: l) → ∀ i ∈ a :: l, i < N.1
  | [], a, h, i, hi => by
    rw [List.mem_singleton] at hi
    subst hi; exact h.1
  | c :: l, a, h, i, hi => by
    rcases List.mem_cons.mp hi with rfl | hi
    · exact h.2.1
    · exact altL_lt l c h.1 i hi
theorem altB_n {N : NetM} {a b : Nat} {l : List Nat} : altB N (a :: l) b = true ↔ (a :: l).contains b = false ∧ ln N a b = true ∧ (N.2.2 a = nI b ↔ (a :: l).length % 2 = 0) := by
  unfold altB
  rw [Bool.and_eq_true, Bool.and_eq_true, Bool.not_eq_true', beq_iff_eq, and_assoc, decide_eq_decide]
theorem cnt_or {p : Nat → Bool} {a : Nat} (ha : p a = false) : ∀ n, a < n → cnt (fun i => p i || decide (a = i)) n = cnt p n + 1
  | 0, h => absurd h (by omega)
  | n + 1, h => by
    rw [cnt, cnt]
    by_cases e : a = n
    · subst e
      have h1 : ∀ m, m ≤ a → cnt (fun i => p i || decide (a = i)) m = cnt p m := by
        intro m
        induction m with
        | zero => intro _; rfl
        | succ m ih =>
          intro hm
          rw [cnt, cnt, ih (by omega)]
          have : decide (a = m) = false := decide_eq_false (by omega)
          simp only [this, Bool.or_false]
      rw [h1 a (Nat.le_refl _), ha]
      simp
    · rw [cnt_or ha n (by omega)]
      have : decide (a = n) = false := decide_eq_false e
      simp only [this, Bool.or_false]
      omega
theorem pcn_or {s a : Nat} (ha : s.testBit a = false) (h : a < 12) : pcn (s ||| 2 ^ a) = pcn s + 1 := by
  unfold pcn
  rw [← cnt_or ha 12 h]
  congr 1
  funext i
  rw [Nat.testBit_or, Nat.testBit_two_pow]
theorem msk_pcn {N : NetM} (hn : N.1 ≤ 12) : ∀ (l : List Nat) (a : Nat), altL N (a :: l) → pcn (msk (a :: l)) = (a :: l).length
  | [], a, h => by
    rw [msk, pcn_or (by rw [msk, Nat.zero_testBit]) (by have := h.1; omega), msk, pcn_0]
    rfl
  | c :: l, a, h => by
    obtain ⟨h1, h2, h3⟩ := h
    rw [msk, pcn_or (by rw [msk_bit]; exact (altB_n.mp h3).1) (by omega), msk_pcn hn l c h1]
    rfl
theorem msk_lt {N : NetM} (hn : N.1 ≤ 12) {l : List Nat} {a : Nat} (h : altL N (a :: l)) : msk (a :: l) < 4096 := lt_4096 fun i hi => by
  rw [msk_bit]
  cases hc : (a :: l).contains i with
  | false => rfl
  | true => have := altL_lt l a h i (List.contains_iff_mem.mp hc); omega
/-- a set and where a row over it ends -/
def Good (N : NetM) (s v : Nat) : Prop := ∃ l, altL N (v :: l) ∧ msk (v :: l) = s
def stepOk (N : NetM) (s v b : Nat) : Prop := b < N.1 ∧ s.testBit b = false ∧ ln N v b = true ∧ (N.2.2 v = nI b ↔ pcn s % 2 = 0)
theorem Good.step {N : NetM} (hn : N.1 ≤ 12) {s v b : Nat} (h : Good N s v) (hs : stepOk N s v b) : Good N (s ||| 2 ^ b) b := by
  obtain ⟨l, h1, h2⟩ := h
  obtain ⟨s1, s2, s3, s4⟩ := hs
  subst h2
  refine ⟨v :: l, ⟨h1, s1, altB_n.mpr ⟨by rw [← msk_bit]; exact s2, s3, ?_⟩⟩, rfl⟩
  rw [s4, msk_pcn hn l v h1]
theorem Good.inv {N : NetM} (hn : N.1 ≤ 12) {s v : Nat} (h : Good N s v) : (v < N.1 ∧ N.2.2 v = -1 ∧ s = 2 ^ v) ∨ ∃ s' u, Good N s' u ∧ stepOk N s' u v ∧ s = s' ||| 2 ^ v ∧ pcn s = pcn s' + 1 := by
  obtain ⟨l, h1, h2⟩ := h
  cases l with
  | nil => exact Or.inl ⟨h1.1, h1.2, by rw [← h2, msk, msk, Nat.zero_or]⟩
  | cons u l =>
    obtain ⟨g1, g2, g3⟩ := h1
    obtain ⟨g4, g5, g6⟩ := altB_n.mp g3
    have h3 : (msk (u :: l)).testBit v = false := by rw [msk_bit]; exact g4
    refine Or.inr ⟨msk (u :: l), u, ⟨l, g1, rfl⟩, ⟨g2, h3, g5, by rw [msk_pcn hn l u g1]; exact g6⟩, h2.symm, ?_⟩
    rw [← h2, msk, pcn_or h3 (by omega)]
theorem Good.lt {N : NetM} (hn : N.1 ≤ 12) {s v : Nat} (h : Good N s v) : s < 4096 ∧ v < N.1 ∧ s.testBit v = true ∧ 1 ≤ pcn s := by
  obtain ⟨l, h1, h2⟩ := h
  subst h2
  refine ⟨msk_lt hn h1, altL_lt l v h1 v (List.mem_cons_self ..), by rw [msk_bit]; simp, ?_⟩
  rw [msk_pcn hn l v h1]
  exact Nat.succ_le_succ (Nat.zero_le _)
/-- what the search holds -/
def LabJ (N : NetM) (B : Nat → Nat → Prop) (E O : Nat) : Prop := (∀ w, E.testBit w = true ↔ ∃ s, B s w ∧ pcn s % 2 = 1) ∧ (∀ w, O.testBit w = true ↔ ∃ s, B s w ∧ pcn s % 2 = 0) ∧ (∀ s w, B s w → Good N s w) ∧ E < 4096 ∧ O < 4096
def LabC (N : NetM) (B : Nat → Nat → Prop) (s v : Nat) : Prop := ∀ b, stepOk N s v b → B (s ||| 2 ^ b) b
def addB (B : Nat → Nat → Prop) (s v : Nat) : Nat → Nat → Prop := fun s' v' => B s' v' ∨ (s' = s ∧ v' = v)
theorem LabJ.add {N : NetM} (hn : N.1 ≤ 12) {B : Nat → Nat → Prop} {E O s v : Nat} (h : LabJ N B E O) (hg : Good N s v) : LabJ N (addB B s v) (if pcn s % 2 = 1 then E ||| 2 ^ v else E) (if pcn s % 2 = 1 then O else O ||| 2 ^ v) := by
  obtain ⟨h1, h2, h3, h4, h5⟩ := h
  have hv : 2 ^ v < 4096 := Nat.pow_lt_pow_right (by omega) (show v < 12 from Nat.lt_of_lt_of_le (hg.lt hn).2.1 hn)
  refine ⟨fun w => ?_, fun w => ?_, fun s' w hb => ?_, ?_, ?_⟩
  · by_cases e : pcn s % 2 = 1
    · rw [if_pos e, Nat.testBit_or, Bool.or_eq_true, h1, Nat.testBit_two_pow, decide_eq_true_iff]
      constructor
      · rintro (⟨s', a, b⟩ | a)
        · exact ⟨s', Or.inl a, b⟩
        · exact ⟨s, Or.inr ⟨rfl, a.symm⟩, e⟩
      · rintro ⟨s', a | ⟨a, a'⟩, b⟩
        · exact Or.inl ⟨s', a, b⟩
        · exact Or.inr a'.symm
    · rw [if_neg e, h1]
      constructor
      · rintro ⟨s', a, b⟩
        exact ⟨s', Or.inl a, b⟩
      · rintro ⟨s', a | ⟨a, a'⟩, b⟩
        · exact ⟨s', a, b⟩
        · subst a; exact absurd b e
  · by_cases e : pcn s % 2 = 1
    · rw [if_pos e, h2]
      constructor
      · rintro ⟨s', a, b⟩
        exact ⟨s', Or.inl a, b⟩
      · rintro ⟨s', a | ⟨a, a'⟩, b⟩
        · exact ⟨s', a, b⟩
        · subst a; omega
    · rw [if_neg e, Nat.testBit_or, Bool.or_eq_true, h2, Nat.testBit_two_pow, decide_eq_true_iff]
      constructor
      · rintro (⟨s', a, b⟩ | a)
        · exact ⟨s', Or.inl a, b⟩
        · exact ⟨s, Or.inr ⟨rfl, a.symm⟩, by omega⟩
      · rintro ⟨s', a | ⟨a, a'⟩, b⟩
        · exact Or.inl ⟨s', a, b⟩
        · exact Or.inr a'.symm
  · rcases hb with hb | ⟨rfl, rfl⟩
    · exact h3 _ _ hb
    · exact hg
  · split
    · exact or_lt h4 hv
    · exact h4
  · split
    · exact h5
    · exact or_lt h5 hv
/-- a closed search holds them all -/
theorem lab_all {N : NetM} (hn : N.1 ≤ 12) {B : Nat → Nat → Prop} (h0 : ∀ a, a < N.1 → N.2.2 a = -1 → B (2 ^ a) a) (hc : ∀ s v, B s v → LabC N B s v) : ∀ (k s v : Nat), pcn s = k → Good N s v → B s v := by
  intro k
  induction k with
  | zero => intro s v hk hg; have := (hg.lt hn).2.2.2; omega
  | succ k ih =>
    intro s v hk hg
    rcases hg.inv hn with ⟨a, b, c⟩ | ⟨s', u, g1, g2, g3, g4⟩
    · subst c; exact h0 v a b
    · rw [g3]
      exact hc s' u (ih s' u (by omega) g1) v g2
/-- what labF gathers -/
theorem orF_bit {g : Nat → Nat × Nat} {w : Nat} : ∀ n, ((orF g n).1.testBit w = true ↔ ∃ b, b < n ∧ (g b).1.testBit w = true) ∧ ((orF g n).2.testBit w = true ↔ ∃ b, b < n ∧ (g b).2.testBit w = true)
  | 0 => by
    constructor
    · rw [orF, Nat.zero_testBit]
      exact ⟨(fun h => by cases h), fun ⟨b, h, _⟩ => absurd h (by omega)⟩
    · rw [orF, Nat.zero_testBit]
      exact ⟨(fun h => by cases h), fun ⟨b, h, _⟩ => absurd h (by omega)⟩
  | n + 1 => by
    obtain ⟨i1, i2⟩ := @orF_bit g w n
    rw [orF]
    constructor
    · rw [Nat.testBit_or, Bool.or_eq_true, i1]
      constructor
      · rintro (⟨b, h, h'⟩ | h)
        · exact ⟨b, by omega, h'⟩
        · exact ⟨n, by omega, h⟩
      · rintro ⟨b, h, h'⟩
        by_cases e : b = n
        · subst e; exact Or.inr h'
        · exact Or.inl ⟨b, by omega, h'⟩
    · rw [Nat.testBit_or, Bool.or_eq_true, i2]
      constructor
      · rintro (⟨b, h, h'⟩ | h)
        · exact ⟨b, by omega, h'⟩
        · exact ⟨n, by omega, h⟩
      · rintro ⟨b, h, h'⟩
        by_cases e : b = n
        · subst e; exact Or.inr h'
        · exact Or.inl ⟨b, by omega, h'⟩
theorem labF_ok {N : NetM} {w : Nat} : ∀ (f a : Nat) (l : List Nat), altL N (a :: l) → ((labF N f (a :: l)).1.testBit w = true → ∃ l', altL N (w :: l') ∧ l'.length % 2 = 0) ∧ ((labF N f (a :: l)).2.testBit w = true → ∃ l', altL N (w :: l') ∧ l'.length % 2 = 1)
  | 0, a, l, _ => by
    rw [labF, Nat.zero_testBit]
    exact ⟨(fun h => by cases h), (fun h => by cases h)⟩
  | f + 1, a, l, h => by
    have key1 : (orF (fun b => if altB N (a :: l) b then labF N f (b :: a :: l) else (0, 0)) N.1).1.testBit w = true → ∃ l', altL N (w :: l') ∧ l'.length % 2 = 0 := fun hb => by
      obtain ⟨b, h1, h2⟩ := (orF_bit N.1).1.mp hb
      by_cases e : altB N (a :: l) b = true
      · rw [if_pos e] at h2
        exact (labF_ok f b (a :: l) ⟨h, h1, e⟩).1 h2
      · rw [if_neg e, Nat.zero_testBit] at h2; cases h2
    have key2 : (orF (fun b => if altB N (a :: l) b then labF N f (b :: a :: l) else (0, 0)) N.1).2.testBit w = true → ∃ l', altL N (w :: l') ∧ l'.length % 2 = 1 := fun hb => by
      obtain ⟨b, h1, h2⟩ := (orF_bit N.1).2.mp hb
      by_cases e : altB N (a :: l) b = true
      · rw [if_pos e] at h2
        exact (labF_ok f b (a :: l) ⟨h, h1, e⟩).2 h2
      · rw [if_neg e, Nat.zero_testBit] at h2; cases h2
    rw [labF]
    by_cases e : l.length % 2 = 0
    · simp only [if_pos e]
      refine ⟨fun hb => ?_, key2⟩
      rw [Nat.testBit_or, Bool.or_eq_true, Nat.testBit_two_pow, decide_eq_true_iff] at hb
      rcases hb with hb | rfl
      · exact key1 hb
      · exact ⟨l, h, e⟩
    · simp only [if_neg e]
      refine ⟨key1, fun hb => ?_⟩
      rw [Nat.testBit_or, Bool.or_eq_true, Nat.testBit_two_pow, decide_eq_true_iff] at hb
      rcases hb with hb | rfl
      · exact key2 hb
      · exact ⟨l, h, by omega⟩
theorem altL_suf {N : NetM} {a : Nat} {l : List Nat} : ∀ e : List Nat, altL N (e ++ a :: l) → altL N (a :: l)
  | [], h => h
  | [_], h => h.1
  | _ :: y :: e, h => altL_suf (y :: e) h.1
theorem labF_in {N : NetM} (hn : N.1 ≤ 12) {w : Nat} {q : List Nat} (hp : altL N (w :: q)) : ∀ (f a : Nat) (l e : List Nat), 13 ≤ f + (a :: l).length → w :: q = e ++ a :: l → (q.length % 2 = 0 → (labF N f (a :: l)).1.testBit w = true) ∧ (q.length % 2 = 1 → (labF N f (a :: l)).2.testBit w = true) := by
  intro f
  induction f with
  | zero =>
    intro a l e h1 h2
    rw [h2] at hp
    have h3 := msk_pcn hn l a (altL_suf e hp)
    have h4 := pcn_le (msk (a :: l))
    omega
  | succ f ih =>
    intro a l e h1 h2
    rcases List.eq_nil_or_concat e with rfl | ⟨e', b, rfl⟩
    · rw [List.nil_append, List.cons.injEq] at h2
      obtain ⟨rfl, rfl⟩ := h2
      rw [labF]
      constructor
      · intro h3
        simp only [if_pos h3]
        rw [Nat.testBit_or, Nat.testBit_two_pow_self, Bool.or_true]
      · intro h3
        simp only [if_neg (show ¬ q.length % 2 = 0 by omega)]
        rw [Nat.testBit_or, Nat.testBit_two_pow_self, Bool.or_true]
    · have h3 : w :: q = e' ++ b :: a :: l := by rw [h2]; simp
      have h4 : altL N (b :: a :: l) := by rw [h3] at hp; exact altL_suf e' hp
      have h5 := ih b (a :: l) e' (by simp only [List.length_cons] at h1 ⊢; omega) h3
      have h6 : altB N (a :: l) b = true := h4.2.2
      rw [labF]
      constructor
      · intro h7
        have h8 : (orF (fun b => if altB N (a :: l) b then labF N f (b :: a :: l) else (0, 0)) N.1).1.testBit w = true := (orF_bit N.1).1.mpr ⟨b, h4.2.1, by rw [if_pos h6]; exact h5.1 h7⟩
        by_cases e0 : l.length % 2 = 0
        · simp only [if_pos e0]
          rw [Nat.testBit_or, h8, Bool.true_or]
        · simp only [if_neg e0]
          exact h8
      · intro h7
        have h8 : (orF (fun b => if altB N (a :: l) b then labF N f (b :: a :: l) else (0, 0)) N.1).2.testBit w = true := (orF_bit N.1).2.mpr ⟨b, h4.2.1, by rw [if_pos h6]; exact h5.2 h7⟩
        by_cases e0 : l.length % 2 = 0
        · simp only [if_pos e0]
          exact h8
        · simp only [if_neg e0]
          rw [Nat.testBit_or, h8, Bool.true_or]
theorem altL_first {N : NetM} : ∀ (l : List Nat) (w : Nat), altL N (w :: l) → ∃ (e : List Nat) (a : Nat), w :: l = e ++ [a] ∧ altL N [a]
  | [], w, h => ⟨[], w, rfl, h⟩
  | c :: l, w, h => by
    obtain ⟨e, a, h1, h2⟩ := altL_first l c h.1
    exact ⟨w :: e, a, by rw [h1]; rfl, h2⟩
theorem evS_iff {N : NetM} (hn : N.1 ≤ 12) {w : Nat} : (evS N).testBit w = true ↔ ∃ l, altL N (w :: l) ∧ l.length % 2 = 0 := by
  unfold evS labN
  rw [(orF_bit N.1).1]
  constructor
  · rintro ⟨a, h1, h2⟩
    by_cases e : N.2.2 a = -1
    · rw [if_pos e] at h2
      exact (labF_ok 13 a [] ⟨h1, e⟩).1 h2
    · rw [if_neg e, Nat.zero_testBit] at h2; cases h2
  · rintro ⟨l, h1, h2⟩
    obtain ⟨e, a, h3, h4⟩ := altL_first l w h1
    exact ⟨a, h4.1, by rw [if_pos h4.2]; exact (labF_in hn h1 13 a [] e (by simp) h3).1 h2⟩
theorem odS_iff {N : NetM} (hn : N.1 ≤ 12) {w : Nat} : (odS N).testBit w = true ↔ ∃ l, altL N (w :: l) ∧ l.length % 2 = 1 := by
  unfold odS labN
  rw [(orF_bit N.1).2]
  constructor
  · rintro ⟨a, h1, h2⟩
    by_cases e : N.2.2 a = -1
    · rw [if_pos e] at h2
      exact (labF_ok 13 a [] ⟨h1, e⟩).2 h2
    · rw [if_neg e, Nat.zero_testBit] at h2; cases h2
  · rintro ⟨l, h1, h2⟩
    obtain ⟨e, a, h3, h4⟩ := altL_first l w h1
    exact ⟨a, h4.1, by rw [if_pos h4.2]; exact (labF_in hn h1 13 a [] e (by simp) h3).2 h2⟩
/-- the search that is done -/
theorem lab_done {N : NetM} (hn : N.1 ≤ 12) {B : Nat → Nat → Prop} {E O : Nat} (hJ : LabJ N B E O) (h0 : ∀ a, a < N.1 → N.2.2 a = -1 → B (2 ^ a) a) (hc : ∀ s v, B s v → LabC N B s v) : E = evS N ∧ O = odS N := by
  obtain ⟨h1, h2, h3, -, -⟩ := hJ
  have all := fun s v hg => lab_all hn h0 hc (pcn s) s v rfl hg
  refine ⟨bits_ext fun w => Bool.eq_iff_iff.mpr ?_, bits_ext fun w => Bool.eq_iff_iff.mpr ?_⟩
  · rw [h1, evS_iff hn]
    constructor
    · rintro ⟨s, hb, hp⟩
      obtain ⟨l, g1, g2⟩ := h3 s w hb
      refine ⟨l, g1, ?_⟩
      rw [← g2, msk_pcn hn l w g1, List.length_cons] at hp
      omega
    · rintro ⟨l, g1, g2⟩
      refine ⟨msk (w :: l), all _ _ ⟨l, g1, rfl⟩, ?_⟩
      rw [msk_pcn hn l w g1, List.length_cons]
      omega
  · rw [h2, odS_iff hn]
    constructor
    · rintro ⟨s, hb, hp⟩
      obtain ⟨l, g1, g2⟩ := h3 s w hb
      refine ⟨l, g1, ?_⟩
      rw [← g2, msk_pcn hn l w g1, List.length_cons] at hp
      omega
    · rintro ⟨l, g1, g2⟩
      refine ⟨msk (w :: l), all _ _ ⟨l, g1, rfl⟩, ?_⟩
      rw [msk_pcn hn l w g1, List.length_cons]
      omega
