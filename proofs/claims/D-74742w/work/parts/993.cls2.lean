/-! OddPairs: steps -/
theorem DeqAt.ob {σ : vSt} {d : Nat} {l : List Nat} (h : DeqAt σ d l) : ∃ c, σ d = some (d, c) := by
  obtain ⟨es, hd, tl, f, h1, h2, h3⟩ := h
  exact ⟨_, h2⟩
theorem KepAt.ob {σ : vSt} {ks : List Nat} {Ns : List NetM} (h : KepAt σ ks Ns) {k : Nat} (hk : k ∈ ks) : ∃ c, σ k = some (k, c) := by
  obtain ⟨i, hi, e⟩ := List.mem_iff_getElem.mp hk
  have hi2 : i < Ns.length := h.1 ▸ hi
  have h2 := h.2 i Ns[i] (List.getElem?_eq_getElem hi2)
  rw [List.getD_eq_getElem?_getD, List.getElem?_eq_getElem hi, Option.getD_some, e] at h2
  obtain ⟨wa, ma, h3⟩ := h2.ob
  exact ⟨_, h3⟩
theorem ClsAt.st {σ : vSt} {x : Nat} {W : List Nat} {S : SysM} (h : ClsAt σ x W S) {q : Nat} (hq : q ∈ W) : ∃ c, σ q = some (q, c) := by
  obtain ⟨ad, I, F, L, ks, rfl, hR, hD, hN, hK, hW, hX⟩ := h
  simp only [List.mem_cons] at hq
  rcases hq with rfl | rfl | rfl | hq
  · exact ⟨_, hR.ob⟩
  · exact hD.ob
  · obtain ⟨wa, ma, h3⟩ := hN.ob
    exact ⟨_, h3⟩
  · exact hK.ob hq
theorem ClsAt.no {σ : vSt} {x : Nat} {W M : List Nat} {S : SysM} (h : ClsAt σ x W S) (hm : ∀ q ∈ M, ∀ c, σ q ≠ some (q, c)) : ∀ q ∈ W, q ∉ M := fun q hq hM => by
  obtain ⟨c, e⟩ := h.st hq
  exact hm q hM c e
theorem ClsAt.frN {σ σ' : vSt} {x : Nat} {W M : List Nat} {S : SysM} (h : ClsAt σ x W S) (hf : FrL M σ σ') (hm : ∀ q ∈ M, ∀ c, σ q ≠ some (q, c)) : ClsAt σ' x W S := by
  have hn := h.no hm
  obtain ⟨ad, I, F, L, ks, rfl, hR, hD, hN, hK, hW, hX⟩ := h
  exact ⟨ad, I, F, L, ks, rfl, hR.fr hf (hn _ (by simp)), hD.fr hf (hn _ (by simp)), hN.fr hf (hn _ (by simp)), hK.fr hf (fun k hk => hn _ (by simp [hk])), hW, hX⟩
theorem FrX.new {σ σ' : vSt} {W M : List Nat} (hf : FrL M σ σ') (hm : ∀ q ∈ M, ∀ c, σ q ≠ some (q, c)) : FrX W σ σ' := FrX.of hf fun q hq => .inr (hm q hq)
theorem XPost.new {σ σ' : vSt} {x : Nat} {W M : List Nat} {S : SysM} (h : ClsAt σ x W S) (hf : FrL M σ σ') (hm : ∀ q ∈ M, ∀ c, σ q ≠ some (q, c)) : XPost σ σ' x W S := ⟨W, h.frN hf hm, FrX.new hf hm, Fresh.rf⟩
theorem fr_fresh {σ0 σi : vSt} {M : List Nat} {q : Nat} (hb : FrL M σ0 σi) (hm : ∀ q ∈ M, ∀ c, σ0 q ≠ some (q, c)) (hq : σi q = none) : ∀ c, σ0 q ≠ some (q, c) := fun c e => by
  by_cases h : q ∈ M
  · exact hm q h c e
  · have := hb _ _ e h
    rw [hq] at this; cases this
theorem fr_cons {σ0 : vSt} {M : List Nat} {q : Nat} (hm : ∀ q ∈ M, ∀ c, σ0 q ≠ some (q, c)) (hq : ∀ c, σ0 q ≠ some (q, c)) : ∀ r ∈ q :: M, ∀ c, σ0 r ≠ some (r, c) := fun r hr => (List.mem_cons.mp hr).elim (fun e => e ▸ hq) (hm r)
theorem RecAt.frx {K : Lay} {σ σ' : vSt} {o : Nat} {W : List Nat} {ad : Nat → Nat} {I : Nat → Int32} {F : Nat → Nat → Int32} {L : Nat → Nat → Int64} (h : RecAt K σ o ad I F L) (hf : FrX W σ σ') (hn : o ∉ W) : RecAt K σ' o ad I F L :=
  ⟨h.nz, hf _ _ h.ob hn ⟨_, h.ob⟩, fun k t N e => hf _ _ (h.ar k e) hn ⟨_, h.ob⟩, fun k N g e => hf _ _ (h.og k e) hn ⟨_, h.ob⟩, fun k N e => hf _ _ (h.lg k e) hn ⟨_, h.ob⟩, h.2.2.2.2.2⟩
theorem ne_q {σ : vSt} {a q : Nat} {e : vCel} (h : σ a = some e) (hq : σ q = none) : a ≠ q := fun h2 => by rw [h2, hq] at h; cases h
/-- the network is written -/
theorem XPost.net {σ σ' : vSt} {x : Nat} {S : SysM} {N' : NetM} {ad : Nat → Nat} {I : Nat → Int32} {F : Nat → Nat → Int32} {L : Nat → Nat → Int64} {ks : List Nat} (hR : RecAt layX σ x ad I F L) (hD : DeqAt σ (ad 2) ks) (hN : NetAt σ' (ad 3) N') (hK : KepAt σ ks (sKs S)) (hW : (x :: ad 2 :: ad 3 :: ks).Pairwise (fun a b => a ≠ b)) (hf : FrL [ad 3] σ σ') (hX : XIs I F S) : XPost σ σ' x (x :: ad 2 :: ad 3 :: ks) (setN S N') :=
  ⟨_, ClsAt.netw hR hD hN hK hW hf hX, FrX.of hf (Fresh.sub fun q hq => by simp at hq; simp [hq]), Fresh.rf⟩
theorem KepAt.add {σ : vSt} {ks : List Nat} {Ns : List NetM} {h : Nat} {N : NetM} (hK : KepAt σ ks Ns) (hN : NetAt σ h N) : KepAt σ (ks ++ [h]) (Ns ++ [N]) := ⟨by simp [hK.1], fun i N' e => by
  rw [List.getElem?_append] at e
  rw [List.getD_eq_getElem?_getD, List.getElem?_append]
  by_cases hi : i < Ns.length
  · rw [if_pos hi] at e
    rw [if_pos (by rw [hK.1]; exact hi), ← List.getD_eq_getElem?_getD]
    exact hK.2 i N' e
  · rw [if_neg hi] at e
    rw [if_neg (by rw [hK.1]; exact hi)]
    have h0 : i - Ns.length = 0 := by
      rcases Nat.eq_zero_or_pos (i - Ns.length) with h | h
      · exact h
      · rw [List.getElem?_eq_none (by simp; omega)] at e; cases e
    rw [h0] at e
    rw [hK.1, h0]
    simp at e
    rw [← e]
    exact hN⟩
theorem KepAt.tail {σ : vSt} {k : Nat} {ks : List Nat} {N : NetM} {Ns : List NetM} (hK : KepAt σ (k :: ks) (N :: Ns)) : KepAt σ ks Ns := ⟨by have := hK.1; simp at this; exact this, fun i N' e => hK.2 (i + 1) N' e⟩
theorem KepAt.tails {σ : vSt} {k : Nat} {ks : List Nat} {Ns : List NetM} (hK : KepAt σ (k :: ks) Ns) : KepAt σ ks Ns.tail := by
  cases Ns with
  | nil => have := hK.1; simp at this
  | cons N Ns => exact hK.tail
theorem KepAt.init {σ : vSt} {k : Nat} {ks : List Nat} {Ns : List NetM} {N : NetM} (hK : KepAt σ (ks ++ [k]) (Ns ++ [N])) : KepAt σ ks Ns ∧ NetAt σ k N := by
  have hl : ks.length = Ns.length := by have := hK.1; simp at this; exact this
  refine ⟨⟨hl, fun i N' e => ?_⟩, ?_⟩
  · have hi := (List.getElem?_eq_some_iff.mp e).1
    have := hK.2 i N' (by rw [List.getElem?_append_left hi]; exact e)
    rw [List.getD_eq_getElem?_getD, List.getElem?_append_left (by omega), ← List.getD_eq_getElem?_getD] at this
    exact this
  · have := hK.2 Ns.length N (by simp)
    rw [List.getD_eq_getElem?_getD, ← hl] at this
    simpa using this
/-- the network is kept, another one stands for it -/
theorem XPost.keep {σ σ9 : vSt} {x q : Nat} {S : SysM} {N' : NetM} {ad : Nat → Nat} {I : Nat → Int32} {F : Nat → Nat → Int32} {L : Nat → Nat → Int64} {ks ks' : List Nat} (hR : RecAt layX σ x ad I F L) (hD : DeqAt σ (ad 2) ks) (hN : NetAt σ (ad 3) (sN S)) (hK : KepAt σ ks (sKs S)) (hW : (x :: ad 2 :: ad 3 :: ks).Pairwise (fun a b => a ≠ b)) (hX : XIs I F S)
    (hR' : RecAt layX σ9 x (va_up ad 3 q) I F L) (hD' : DeqAt σ9 (ad 2) (ks' ++ [ad 3])) (hq : NetAt σ9 q N') (hks : ks' = if (sKs S).length = 8 then ks.tail else ks) (hq0 : ∀ c, σ q ≠ some (q, c)) (hf : FrL [x, ad 2, q] σ σ9) : XPost σ σ9 x (x :: ad 2 :: ad 3 :: ks) (keepS S N') := by
  obtain ⟨w1, w2, w3, w4, w5, w6⟩ := Wd hW
  have hcl : ClsAt σ x (x :: ad 2 :: ad 3 :: ks) S := ⟨ad, I, F, L, ks, rfl, hR, hD, hN, hK, hW, hX⟩
  have hne : ∀ k ∈ x :: ad 2 :: ad 3 :: ks, k ≠ q := fun k hk e => by
    obtain ⟨c, hc⟩ := hcl.st hk
    rw [e] at hc
    exact hq0 c hc
  have hsub : ∀ k ∈ ks', k ∈ ks := fun k hk => by
    rw [hks] at hk
    split at hk
    · exact List.mem_of_mem_tail hk
    · exact hk
  have hK' : KepAt σ ks' (if (sKs S).length = 8 then (sKs S).tail else sKs S) := by
    rw [hks]
    split
    · cases ks with
      | nil => rename_i h; have := hK.1; simp at this; omega
      | cons k ks => exact hK.tails
    · exact hK
  have hN9 : NetAt σ9 (ad 3) (sN S) := hN.fr hf (by simp [Ne.symm w2, Ne.symm w3, hne (ad 3) (by simp)])
  have hK9 := (hK'.fr hf (fun k hk => by
    have h1 := hsub k hk
    simp only [List.mem_cons, List.not_mem_nil, or_false, not_or]
    exact ⟨fun e => w4 (e ▸ h1), fun e => w5 (e ▸ h1), hne k (by simp [h1])⟩)).add hN9
  refine ⟨x :: ad 2 :: q :: (ks' ++ [ad 3]), ⟨va_up ad 3 q, I, F, L, _, rfl, hR', hD', hq, hK9, ?_, hX⟩, FrX.of hf (fun r hr => ?_), fun r hr => ?_⟩
  · show (x :: ad 2 :: q :: (ks' ++ [ad 3])).Pairwise (fun a b => a ≠ b)
    have hpk : ks.Pairwise (fun a b => a ≠ b) := (List.pairwise_cons.mp (List.pairwise_cons.mp (List.pairwise_cons.mp hW).2).2).2
    have hpk' : ks'.Pairwise (fun a b => a ≠ b) := by
      rw [hks]
      split
      · exact hpk.sublist (List.tail_sublist _)
      · exact hpk
    simp only [List.pairwise_cons, List.pairwise_append, List.mem_cons, List.mem_append, List.not_mem_nil, or_false]
    refine ⟨fun r hr => ?_, fun r hr => ?_, fun r hr => ?_, hpk', by simp, fun r hr b hb => ?_⟩
    · rcases hr with rfl | rfl | hr | rfl
      · exact w1
      · exact hne x (by simp)
      · exact fun e => w4 (e ▸ hsub r hr)
      · exact w2
    · rcases hr with rfl | hr | rfl
      · exact hne _ (by simp)
      · exact fun e => w5 (e ▸ hsub r hr)
      · exact w3
    · rcases hr with hr | rfl
      · exact (hne r (by simp [hsub r hr])).symm
      · exact (hne _ (by simp)).symm
    · rw [hb]
      exact fun e => w6 (e ▸ hsub r hr)
  · simp only [List.mem_cons, List.not_mem_nil, or_false] at hr
    rcases hr with rfl | rfl | rfl
    · exact .inl (by simp)
    · exact .inl (by simp)
    · exact .inr hq0
  · simp only [List.mem_cons, List.mem_append, List.not_mem_nil, or_false] at hr
    rcases hr with rfl | rfl | rfl | hr | rfl
    · exact .inl (by simp)
    · exact .inl (by simp)
    · exact .inr hq0
    · exact .inl (by simp [hsub r hr])
    · exact .inl (by simp)
/-- an answer that is thrown: which of the exceptions -/
def XThr (l : List String) (E : String) (r : Ans) : Prop := r.1 ≠ 0 ∧ l[r.1 - 1]? = some E
theorem isIn_c {x A B : Int32} {v lo hi : Int64} (hv : v = x.toInt64) (ha : lo.toInt = A.toInt) (hb : hi.toInt = B.toInt) : (lo ≤ v ↔ A ≤ x) ∧ (v ≤ hi ↔ x ≤ B) := by
  subst hv
  rw [Int64.le_iff_toInt_le, Int64.le_iff_toInt_le, Int32.toInt_toInt64, ha, hb, Int32.le_iff_toInt_le, Int32.le_iff_toInt_le]
  exact ⟨Iff.rfl, Iff.rfl⟩
