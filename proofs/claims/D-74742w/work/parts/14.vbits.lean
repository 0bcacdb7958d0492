/-! rows of BITS.to-paste, and what follows from them -/
def bt (x : Int32) (i : Nat) : Bool := x.toBitVec.getLsbD i
theorem b_ext {x y : Int32} (h : ∀ i, i < 32 → bt x i = bt y i) : x = y := Int32.toBitVec_inj.mp (BitVec.eq_of_getLsbD_eq (fun i hi => h i hi))
theorem b_or (x y : Int32) (i : Nat) : bt (x ||| y) i = (bt x i || bt y i) := by unfold bt; rw [Int32.toBitVec_or, BitVec.getLsbD_or]
theorem b_and (x y : Int32) (i : Nat) : bt (x &&& y) i = (bt x i && bt y i) := by unfold bt; rw [Int32.toBitVec_and, BitVec.getLsbD_and]
theorem b_xor (x y : Int32) (i : Nat) : bt (x ^^^ y) i = (bt x i ^^ bt y i) := by unfold bt; rw [Int32.toBitVec_xor, BitVec.getLsbD_xor]
theorem b_m1 : ∀ i, i < 32 → bt (-1) i = true := by decide +kernel
theorem s_l : ∀ n, n < 32 → ((nI n &&& 31).toBitVec.smod 32).toNat = n := by decide +kernel
theorem bt_nI (n i : Nat) (h : i < 32) : bt (nI n) i = n.testBit i := by
  show (BitVec.ofNat 32 n).getLsbD i = _
  rw [BitVec.getLsbD_ofNat]
  simp [h]
theorem bx_and (a b : Nat) : nI a &&& nI b = nI (a &&& b) := b_ext fun i h => by rw [b_and, bt_nI _ _ h, bt_nI _ _ h, bt_nI _ _ h, Nat.testBit_and]
theorem bx_or (a b : Nat) : nI a ||| nI b = nI (a ||| b) := b_ext fun i h => by rw [b_or, bt_nI _ _ h, bt_nI _ _ h, bt_nI _ _ h, Nat.testBit_or]
theorem bx_xor (a b : Nat) : nI a ^^^ nI b = nI (a ^^^ b) := b_ext fun i h => by rw [b_xor, bt_nI _ _ h, bt_nI _ _ h, bt_nI _ _ h, Nat.testBit_xor]
/-- a without b, as sets of bits -/
def sd (a b : Nat) : Nat := a ^^^ (a &&& b)
theorem sd_bit (a b i : Nat) : (sd a b).testBit i = (a.testBit i && !b.testBit i) := by
  unfold sd
  rw [Nat.testBit_xor, Nat.testBit_and]
  cases a.testBit i <;> cases b.testBit i <;> rfl
theorem bx_sd {a b : Nat} (_ha : a < 2 ^ 31) (_hb : b < 2 ^ 31) : nI a &&& (nI b ^^^ -1) = nI (sd a b) := b_ext fun i h => by
  rw [b_and, b_xor, bt_nI _ _ h, bt_nI _ _ h, bt_nI _ _ h, b_m1 i h, sd_bit]
  cases a.testBit i <;> cases b.testBit i <;> rfl
theorem bx_shl1 {k : Nat} (h : k < 31) : nI 1 <<< (nI k &&& 31) = nI (2 ^ k) := by
  rw [pk_shlN (n := 1) (nI k &&& 31) k (s_l k (by omega)) (by rw [Nat.one_mul]; exact Nat.pow_lt_pow_right (by omega) (by omega)), Nat.one_mul]
theorem bx_shr {a k : Nat} (ha : a < 2 ^ 31) (h : k < 31) : nI a >>> (nI k &&& 31) = nI (a >>> k) := by
  rw [pk_shrN ha (nI k &&& 31) k (s_l k (by omega)), Nat.shiftRight_eq_div_pow]
theorem bx_bit (a k : Nat) : (a >>> k) &&& 1 = if a.testBit k then 1 else 0 := by
  rw [Nat.testBit, Nat.and_comm]
  have h : 1 &&& a >>> k = (a >>> k) % 2 := by rw [Nat.and_comm, Nat.and_one_is_mod]
  rw [h]
  have h2 : (a >>> k) % 2 < 2 := Nat.mod_lt _ (by omega)
  rcases (by omega : (a >>> k) % 2 = 0 ∨ (a >>> k) % 2 = 1) with e | e <;> rw [e] <;> rfl
theorem nI_inc (a k : Nat) : nI a + Int32.ofInt (k : Int) = nI (a + k) := by
  have h : Int32.ofInt (k : Int) = nI k := by
    apply Int32.toBitVec_inj.1
    rfl
  rw [h, nI_add]
theorem nI_dec {a : Nat} (k : Nat) (h : k ≤ a) : nI a + Int32.ofInt (-(k : Int)) = nI (a - k) := by
  have h2 : Int32.ofInt (-(k : Int)) = - nI k := by
    rw [Int32.ofInt_neg]
    congr 1
  rw [h2, ← pk_sub h, Int32.sub_eq_add_neg]
def bI (b : Bool) : Int32 := if b then 1 else 0
theorem nar_bI (b : Bool) : narrow .boolean (.int (bI b)) = .int (bI b) := by cases b <;> rfl
theorem vnar_bI (b : Bool) : vp_nar .boolean (bI b) = bI b := by cases b <;> rfl
theorem bI_0 {b : Bool} : bI b = 0 ↔ b = false := by cases b <;> decide
section VN
variable {G : vGC} {X : vCX} {Q : State → Prop} {own : String} {cc : ByteArray} {ret : Option FieldType} {fr mc ms c n : Nat} {σ : vSt} {pc : Nat} {lv : List (Nat × Value)} {st : List Value}
variable {a b : Nat} {off : Int} {tgt : Nat} {p : Bool}
theorem v_top {x y : Int32} (h : x = y) (kk : V G X Q c n σ pc lv (.int y :: st)) : V G X Q c n σ pc lv (.int x :: st) := h ▸ kk
theorem v_topl {x y : Int64} (h : x = y) (kk : V G X Q c n σ pc lv (.long y :: st)) : V G X Q c n σ pc lv (.long x :: st) := h ▸ kk
theorem v_icmp_eqN (O : vOk G X own cc ret fr mc ms) (hd : decode cc pc = .ok (.if_icmp .eq off, 3)) (ht : (pc : Int) + off = (tgt : Int)) (ha : a < 2 ^ 31) (hb : b < 2 ^ 31) (kt : a = b → V G X Q c n σ tgt lv st) (kf : a ≠ b → V G X Q c n σ (pc + 3) lv st) : V G X Q c n σ pc lv (.int (nI b) :: .int (nI a) :: st) := v_icmp_eq O hd ht (fun h => kt ((nI_eq ha hb).mp h)) (fun h => kf (fun e => h ((nI_eq ha hb).mpr e)))
theorem v_icmp_neN (O : vOk G X own cc ret fr mc ms) (hd : decode cc pc = .ok (.if_icmp .ne off, 3)) (ht : (pc : Int) + off = (tgt : Int)) (ha : a < 2 ^ 31) (hb : b < 2 ^ 31) (kt : a ≠ b → V G X Q c n σ tgt lv st) (kf : a = b → V G X Q c n σ (pc + 3) lv st) : V G X Q c n σ pc lv (.int (nI b) :: .int (nI a) :: st) := v_icmp_ne O hd ht (fun h => kt (fun e => h ((nI_eq ha hb).mpr e))) (fun h => kf ((nI_eq ha hb).mp h))
theorem v_icmp_ltN (O : vOk G X own cc ret fr mc ms) (hd : decode cc pc = .ok (.if_icmp .lt off, 3)) (ht : (pc : Int) + off = (tgt : Int)) (ha : a < 2 ^ 31) (hb : b < 2 ^ 31) (kt : a < b → V G X Q c n σ tgt lv st) (kf : b ≤ a → V G X Q c n σ (pc + 3) lv st) : V G X Q c n σ pc lv (.int (nI b) :: .int (nI a) :: st) := v_icmp_lt O hd ht (fun h => kt ((nI_ltI ha hb).mp h)) (fun h => kf (Nat.not_lt.mp fun e => h ((nI_ltI ha hb).mpr e)))
theorem v_icmp_geN (O : vOk G X own cc ret fr mc ms) (hd : decode cc pc = .ok (.if_icmp .ge off, 3)) (ht : (pc : Int) + off = (tgt : Int)) (ha : a < 2 ^ 31) (hb : b < 2 ^ 31) (kt : b ≤ a → V G X Q c n σ tgt lv st) (kf : a < b → V G X Q c n σ (pc + 3) lv st) : V G X Q c n σ pc lv (.int (nI b) :: .int (nI a) :: st) := v_icmp_ge O hd ht (fun h => kt ((nI_leI hb ha).mp h)) (fun h => kf (Nat.not_le.mp fun e => h ((nI_leI hb ha).mpr e)))
theorem v_icmp_gtN (O : vOk G X own cc ret fr mc ms) (hd : decode cc pc = .ok (.if_icmp .gt off, 3)) (ht : (pc : Int) + off = (tgt : Int)) (ha : a < 2 ^ 31) (hb : b < 2 ^ 31) (kt : b < a → V G X Q c n σ tgt lv st) (kf : a ≤ b → V G X Q c n σ (pc + 3) lv st) : V G X Q c n σ pc lv (.int (nI b) :: .int (nI a) :: st) := v_icmp_gt O hd ht (fun h => kt ((nI_ltI hb ha).mp h)) (fun h => kf (Nat.not_lt.mp fun e => h ((nI_ltI hb ha).mpr e)))
theorem v_icmp_leN (O : vOk G X own cc ret fr mc ms) (hd : decode cc pc = .ok (.if_icmp .le off, 3)) (ht : (pc : Int) + off = (tgt : Int)) (ha : a < 2 ^ 31) (hb : b < 2 ^ 31) (kt : a ≤ b → V G X Q c n σ tgt lv st) (kf : b < a → V G X Q c n σ (pc + 3) lv st) : V G X Q c n σ pc lv (.int (nI b) :: .int (nI a) :: st) := v_icmp_le O hd ht (fun h => kt ((nI_leI ha hb).mp h)) (fun h => kf (Nat.not_le.mp fun e => h ((nI_leI ha hb).mpr e)))
theorem v_if_eqN (O : vOk G X own cc ret fr mc ms) (hd : decode cc pc = .ok (.ifCond .eq off, 3)) (ht : (pc : Int) + off = (tgt : Int)) (ha : a < 2 ^ 31) (kt : a = 0 → V G X Q c n σ tgt lv st) (kf : a ≠ 0 → V G X Q c n σ (pc + 3) lv st) : V G X Q c n σ pc lv (.int (nI a) :: st) := v_if_eq O hd ht (fun h => kt ((nI_eq ha (by omega)).mp (h.trans nI_0.symm))) (fun h => kf (fun e => h (by rw [e]; exact nI_0)))
theorem v_if_neN (O : vOk G X own cc ret fr mc ms) (hd : decode cc pc = .ok (.ifCond .ne off, 3)) (ht : (pc : Int) + off = (tgt : Int)) (ha : a < 2 ^ 31) (kt : a ≠ 0 → V G X Q c n σ tgt lv st) (kf : a = 0 → V G X Q c n σ (pc + 3) lv st) : V G X Q c n σ pc lv (.int (nI a) :: st) := v_if_ne O hd ht (fun h => kt (fun e => h (by rw [e]; exact nI_0))) (fun h => kf ((nI_eq ha (by omega)).mp (h.trans nI_0.symm)))
theorem v_if_ltN (O : vOk G X own cc ret fr mc ms) (hd : decode cc pc = .ok (.ifCond .lt off, 3)) (ht : (pc : Int) + off = (tgt : Int)) (ha : a < 2 ^ 31) (kt : False → V G X Q c n σ tgt lv st) (kf : True → V G X Q c n σ (pc + 3) lv st) : V G X Q c n σ pc lv (.int (nI a) :: st) := v_if_lt O hd ht (fun h => absurd h (nI_pos ha)) (fun _ => kf trivial)
theorem v_if_geN (O : vOk G X own cc ret fr mc ms) (hd : decode cc pc = .ok (.ifCond .ge off, 3)) (ht : (pc : Int) + off = (tgt : Int)) (ha : a < 2 ^ 31) (kt : True → V G X Q c n σ tgt lv st) (kf : False → V G X Q c n σ (pc + 3) lv st) : V G X Q c n σ pc lv (.int (nI a) :: st) := v_if_ge O hd ht (fun _ => kt trivial) (fun h => absurd (nI_pos' ha) h)
theorem v_if_gtN (O : vOk G X own cc ret fr mc ms) (hd : decode cc pc = .ok (.ifCond .gt off, 3)) (ht : (pc : Int) + off = (tgt : Int)) (ha : a < 2 ^ 31) (kt : 0 < a → V G X Q c n σ tgt lv st) (kf : a = 0 → V G X Q c n σ (pc + 3) lv st) : V G X Q c n σ pc lv (.int (nI a) :: st) := v_if_gt O hd ht (fun h => kt (Nat.pos_of_ne_zero fun e => absurd h (by rw [e]; decide))) (fun h => kf (by
  rcases Nat.eq_zero_or_pos a with e | e
  · exact e
  · exact absurd (show (0 : Int32) < nI a from by rw [← nI_0]; exact nI_lt e ha) h))
theorem v_if_leN (O : vOk G X own cc ret fr mc ms) (hd : decode cc pc = .ok (.ifCond .le off, 3)) (ht : (pc : Int) + off = (tgt : Int)) (ha : a < 2 ^ 31) (kt : a = 0 → V G X Q c n σ tgt lv st) (kf : 0 < a → V G X Q c n σ (pc + 3) lv st) : V G X Q c n σ pc lv (.int (nI a) :: st) := v_if_le O hd ht (fun h => kt (by
  rcases Nat.eq_zero_or_pos a with e | e
  · exact e
  · exact absurd h (nI_nle e ha))) (fun h => kf (Nat.pos_of_ne_zero fun e => h (by rw [e]; decide)))
theorem v_if_eqB (O : vOk G X own cc ret fr mc ms) (hd : decode cc pc = .ok (.ifCond .eq off, 3)) (ht : (pc : Int) + off = (tgt : Int)) (kt : p = false → V G X Q c n σ tgt lv st) (kf : p = true → V G X Q c n σ (pc + 3) lv st) : V G X Q c n σ pc lv (.int (bI p) :: st) := v_if_eq O hd ht (fun h => kt (bI_0.mp h)) (fun h => kf (by cases p with | true => rfl | false => exact absurd rfl h))
theorem v_if_neB (O : vOk G X own cc ret fr mc ms) (hd : decode cc pc = .ok (.ifCond .ne off, 3)) (ht : (pc : Int) + off = (tgt : Int)) (kt : p = true → V G X Q c n σ tgt lv st) (kf : p = false → V G X Q c n σ (pc + 3) lv st) : V G X Q c n σ pc lv (.int (bI p) :: st) := v_if_ne O hd ht (fun h => kt (by cases p with | true => rfl | false => exact absurd rfl h)) (fun h => kf (bI_0.mp h))
end VN
/-! what isn't labelled o stays -/
def FrL (L : List Nat) (σ σ' : vSt) : Prop := ∀ (a : Nat) (e : vCel), σ a = some e → e.1 ∉ L → σ' a = some e
theorem FrL.rf {L : List Nat} {σ : vSt} : FrL L σ σ := fun _ _ h _ => h
theorem FrL.trans {L : List Nat} {σ σ' σ'' : vSt} (h : FrL L σ σ') (h' : FrL L σ' σ'') : FrL L σ σ'' := fun a e h1 h2 => h' a e (h a e h1 h2) h2
theorem FrL.mono {L L' : List Nat} {σ σ' : vSt} (h : FrL L σ σ') (hs : ∀ x ∈ L, x ∈ L') : FrL L' σ σ' := fun a e h1 h2 => h a e h1 (fun h3 => h2 (hs _ h3))
theorem FrL.up {L : List Nat} {σ : vSt} {a : Nat} {e e' : vCel} (he : σ a = some e) (hl : e.1 ∈ L) : FrL L σ (vUp σ a e') := by
  intro b d hb hd
  rw [vUp_n]
  · exact hb
  · intro q
    rw [q, he] at hb
    cases hb
    exact hd hl
theorem FrL.new {L : List Nat} {σ : vSt} {a : Nat} {e' : vCel} (he : σ a = none) : FrL L σ (vUp σ a e') := by
  intro b d hb _
  rw [vUp_n]
  · exact hb
  · intro q
    rw [q, he] at hb
    cases hb
/-- an object with its arrays: class, fields by numbers and addresses, int arrays (kind, length), arrays of its own arrays, arrays of longs -/
abbrev Lay : Type := Nat × ((Nat → Int32) → (Nat → Nat) → List Value) × (Nat → Option (Nat × Nat)) × (Nat → Option (Nat × (Nat → Nat))) × (Nat → Option Nat)
def layIx (K : Lay) (k : Nat) : Bool := (K.2.2.1 k).isSome || (K.2.2.2.1 k).isSome || (K.2.2.2.2 k).isSome
def RecAt (K : Lay) (σ : vSt) (o : Nat) (ad : Nat → Nat) (I : Nat → Int32) (F : Nat → Nat → Int32) (L : Nat → Nat → Int64) : Prop :=
  o ≠ 0 ∧ σ o = some (o, .inr (K.1, K.2.1 I ad)) ∧ (∀ k t N, K.2.2.1 k = some (t, N) → σ (ad k) = some (o, .inl (t, N, .inl (F k)))) ∧ (∀ k N g, K.2.2.2.1 k = some (N, g) → σ (ad k) = some (o, .inl (4, N, .inr (.inr (.inr (.inr (fun i => some (ad (g i))))))))) ∧ (∀ k N, K.2.2.2.2 k = some N → σ (ad k) = some (o, .inl (3, N, .inr (.inl (L k))))) ∧ ∀ j k, layIx K j = true → layIx K k = true → ad j = ad k → j = k
section REC
variable {K : Lay} {σ σ' : vSt} {o : Nat} {ad : Nat → Nat} {I : Nat → Int32} {F : Nat → Nat → Int32} {L : Nat → Nat → Int64}
theorem RecAt.nz (h : RecAt K σ o ad I F L) : o ≠ 0 := h.1
theorem RecAt.ob (h : RecAt K σ o ad I F L) : σ o = some (o, .inr (K.1, K.2.1 I ad)) := h.2.1
theorem RecAt.ar (h : RecAt K σ o ad I F L) {t N : Nat} (k : Nat) (hk : K.2.2.1 k = some (t, N)) : σ (ad k) = some (o, .inl (t, N, .inl (F k))) := h.2.2.1 k t N hk
theorem RecAt.og (h : RecAt K σ o ad I F L) {N : Nat} {g : Nat → Nat} (k : Nat) (hk : K.2.2.2.1 k = some (N, g)) : σ (ad k) = some (o, .inl (4, N, .inr (.inr (.inr (.inr (fun i => some (ad (g i)))))))) := h.2.2.2.1 k N g hk
theorem RecAt.lg (h : RecAt K σ o ad I F L) {N : Nat} (k : Nat) (hk : K.2.2.2.2 k = some N) : σ (ad k) = some (o, .inl (3, N, .inr (.inl (L k)))) := h.2.2.2.2.1 k N hk
theorem RecAt.fr {M : List Nat} (h : RecAt K σ o ad I F L) (hf : FrL M σ σ') (hm : o ∉ M) : RecAt K σ' o ad I F L :=
  ⟨h.1, hf _ _ h.2.1 hm, fun k t N hk => hf _ _ (h.2.2.1 k t N hk) hm, fun k N g hk => hf _ _ (h.2.2.2.1 k N g hk) hm, fun k N hk => hf _ _ (h.2.2.2.2.1 k N hk) hm, h.2.2.2.2.2⟩
theorem layIx_a {k t N : Nat} (h : K.2.2.1 k = some (t, N)) : layIx K k = true := by simp [layIx, h]
theorem layIx_g {k N : Nat} {g : Nat → Nat} (h : K.2.2.2.1 k = some (N, g)) : layIx K k = true := by simp [layIx, h]
theorem layIx_l {k N : Nat} (h : K.2.2.2.2 k = some N) : layIx K k = true := by simp [layIx, h]
/-- a place of an int array is written -/
theorem RecAt.sa (h : RecAt K σ o ad I F L) {t N : Nat} (k : Nat) (hk : K.2.2.1 k = some (t, N)) (f : Nat → Int32) : RecAt K (vUp σ (ad k) (o, .inl (t, N, .inl f))) o ad I (va_up F k f) L := by
  have e0 := h.ar k hk
  refine ⟨h.1, ?_, fun j t' N' hj => ?_, fun j N' g hj => ?_, fun j N' hj => ?_, h.2.2.2.2.2⟩
  · rw [vUp_n]
    · exact h.2.1
    · intro e
      have := h.2.1
      rw [e, e0] at this
      cases this
  · by_cases hjk : j = k
    · subst hjk
      cases hk.symm.trans hj
      rw [vUp_s]
      simp [va_up]
    · rw [vUp_n (fun e => hjk (h.2.2.2.2.2 j k (layIx_a hj) (layIx_a hk) e))]
      simp only [va_up, hjk, if_false]
      exact h.ar j hj
  · rw [vUp_n]
    · exact h.og j hj
    · intro e
      have := h.og j hj
      rw [e, e0] at this
      cases this
  · rw [vUp_n]
    · exact h.lg j hj
    · intro e
      have := h.lg j hj
      rw [e, e0] at this
      cases this
theorem RecAt.sl (h : RecAt K σ o ad I F L) {N : Nat} (k : Nat) (hk : K.2.2.2.2 k = some N) (f : Nat → Int64) : RecAt K (vUp σ (ad k) (o, .inl (3, N, .inr (.inl f)))) o ad I F (va_up L k f) := by
  have e0 := h.lg k hk
  refine ⟨h.1, ?_, fun j t' N' hj => ?_, fun j N' g hj => ?_, fun j N' hj => ?_, h.2.2.2.2.2⟩
  · rw [vUp_n]
    · exact h.2.1
    · intro e
      have := h.2.1
      rw [e, e0] at this
      cases this
  · rw [vUp_n]
    · exact h.ar j hj
    · intro e
      have := h.ar j hj
      rw [e, e0] at this
      cases this
  · rw [vUp_n]
    · exact h.og j hj
    · intro e
      have := h.og j hj
      rw [e, e0] at this
      cases this
  · by_cases hjk : j = k
    · subst hjk
      cases hk.symm.trans hj
      rw [vUp_s]
      simp [va_up]
    · rw [vUp_n (fun e => hjk (h.2.2.2.2.2 j k (layIx_l hj) (layIx_l hk) e))]
      simp only [va_up, hjk, if_false]
      exact h.lg j hj
/-- a field is written -/
theorem RecAt.sf (h : RecAt K σ o ad I F L) {I' : Nat → Int32} {fs : List Value} (hfs : fs = K.2.1 I' ad) : RecAt K (vUp σ o (o, .inr (K.1, fs))) o ad I' F L := by
  have ne : ∀ {a : Nat} {e}, σ a = some (o, .inl e) → a ≠ o := fun h1 h2 => by
    rw [h2, h.2.1] at h1
    cases h1
  refine ⟨h.1, by rw [vUp_s, hfs], fun j t' N' hj => ?_, fun j N' g hj => ?_, fun j N' hj => ?_, h.2.2.2.2.2⟩
  · rw [vUp_n (ne (h.ar j hj))]; exact h.ar j hj
  · rw [vUp_n (ne (h.og j hj))]; exact h.og j hj
  · rw [vUp_n (ne (h.lg j hj))]; exact h.lg j hj
/-- a field that isn't one of its arrays gets another address -/
theorem RecAt.sr (h : RecAt K σ o ad I F L) {fs : List Value} (k q : Nat) (hk : layIx K k = false) (hg : ∀ j N g, K.2.2.2.1 j = some (N, g) → ∀ i, g i ≠ k) (hfs : fs = K.2.1 I (va_up ad k q)) : RecAt K (vUp σ o (o, .inr (K.1, fs))) o (va_up ad k q) I F L := by
  have ne : ∀ {a : Nat} {e}, σ a = some (o, .inl e) → a ≠ o := fun h1 h2 => by
    rw [h2, h.2.1] at h1
    cases h1
  have hu : ∀ {j : Nat}, layIx K j = true → va_up ad k q j = ad j := by
    intro j hj
    have hjk : j ≠ k := fun e => by rw [e, hk] at hj; cases hj
    simp [va_up, hjk]
  refine ⟨h.1, by rw [vUp_s, hfs], fun j t' N' hj => ?_, fun j N' g hj => ?_, fun j N' hj => ?_, fun i j hi hj e => ?_⟩
  · rw [hu (layIx_a hj), vUp_n (ne (h.ar j hj))]; exact h.ar j hj
  · rw [hu (layIx_g hj), vUp_n (ne (h.og j hj)), h.og j hj]
    have hq : (fun i => some (ad (g i))) = (fun i => some (va_up ad k q (g i))) := by
      funext i
      simp [va_up, hg j N' g hj i]
    rw [hq]
  · rw [hu (layIx_l hj), vUp_n (ne (h.lg j hj))]; exact h.lg j hj
  · rw [hu hi, hu hj] at e
    exact h.2.2.2.2.2 i j hi hj e
end REC
section RR
variable {G : vGC} {X : vCX} {Q : State → Prop} {own : String} {cc : ByteArray} {ret : Option FieldType} {fr mc ms c n : Nat} {σ : vSt} {pc : Nat} {lv : List (Nat × Value)} {st : List Value}
variable {K : Lay} {o : Nat} {ad : Nat → Nat} {I : Nat → Int32} {F : Nat → Nat → Int32} {L : Nat → Nat → Int64}
/-! rows over RecAt: stores -/
theorem r_iast (O : vOk G X own cc ret fr mc ms) (h : RecAt K σ o ad I F L) {N i : Nat} {x : Int32} (k : Nat) (hk : K.2.2.1 k = some (0, N)) (hi : i < N) (hN : N < 2 ^ 31) (hd : decode cc pc = .ok (.iastore, 1)) (kk : ∀ σ' : vSt, RecAt K σ' o ad I (va_up F k (va_up (F k) i x)) L → FrL [o] σ σ' → V G X Q c n σ' (pc + 1) lv st) : V G X Q c n σ pc lv (.int x :: .int (nI i) :: .ref (ad k) :: st) := v_iast O h.nz (h.ar k hk) hi hN hd (kk _ (h.sa k hk _) (FrL.up (h.ar k hk) (by simp)))
theorem r_bast (O : vOk G X own cc ret fr mc ms) (h : RecAt K σ o ad I F L) {N i : Nat} {x : Int32} (k : Nat) (hk : K.2.2.1 k = some (1, N)) (hi : i < N) (hN : N < 2 ^ 31) (hd : decode cc pc = .ok (.bastore, 1)) (kk : ∀ σ' : vSt, RecAt K σ' o ad I (va_up F k (va_up (F k) i (vp_nar .byte x))) L → FrL [o] σ σ' → V G X Q c n σ' (pc + 1) lv st) : V G X Q c n σ pc lv (.int x :: .int (nI i) :: .ref (ad k) :: st) := v_bast O h.nz (h.ar k hk) hi hN hd (kk _ (h.sa k hk _) (FrL.up (h.ar k hk) (by simp)))
theorem r_zast (O : vOk G X own cc ret fr mc ms) (h : RecAt K σ o ad I F L) {N i : Nat} {x : Int32} (k : Nat) (hk : K.2.2.1 k = some (2, N)) (hi : i < N) (hN : N < 2 ^ 31) (hx : vp_nar .boolean x = x) (hd : decode cc pc = .ok (.bastore, 1)) (kk : ∀ σ' : vSt, RecAt K σ' o ad I (va_up F k (va_up (F k) i x)) L → FrL [o] σ σ' → V G X Q c n σ' (pc + 1) lv st) : V G X Q c n σ pc lv (.int x :: .int (nI i) :: .ref (ad k) :: st) := v_zast O h.nz (h.ar k hk) hi hN hx hd (kk _ (h.sa k hk _) (FrL.up (h.ar k hk) (by simp)))
theorem r_last (O : vOk G X own cc ret fr mc ms) (h : RecAt K σ o ad I F L) {N i : Nat} {x : Int64} (k : Nat) (hk : K.2.2.2.2 k = some N) (hi : i < N) (hN : N < 2 ^ 31) (hd : decode cc pc = .ok (.lastore, 1)) (kk : ∀ σ' : vSt, RecAt K σ' o ad I F (va_up L k (va_up (L k) i x)) → FrL [o] σ σ' → V G X Q c n σ' (pc + 1) lv st) : V G X Q c n σ pc lv (.long x :: .int (nI i) :: .ref (ad k) :: st) := v_last O h.nz (h.lg k hk) hi hN hd (kk _ (h.sl k hk _) (FrL.up (h.lg k hk) (by simp)))
theorem r_puti (O : vOk G X own cc ret fr mc ms) (h : RecAt K σ o ad I F L) {ref C : String} {T : u_T} {N ix : Nat} {x : Int32} {I' : Nat → Int32} {ty0 : Nat → FieldType} {ty : FieldType} (hin : ∀ w ∈ u_ws C T N, w ∈ lw_all) (hty : ∀ k, k < N → parseFieldDescriptor (T k).2.2.1 = some (ty0 k)) (hnm : ∀ a, a < N → ∀ b, b < N → a ≠ b → (T a).2.1 ≠ (T b).2.1) (hc : vcl[K.1]? = some (C, T, N)) (k : Nat) (hk : k < N) (href : (T k).1 = ref) (hlink : Cond.fieldLink own ix ref (T k).2.1 (T k).2.2.1 ∈ lw_all) (hfin : (T k).2.2.2 = false) (hdd : parseFieldDescriptor (T k).2.2.1 = some ty) (hn : narrow ty (.int x) = .int x) (hfit : fits ty (.int x) = true) (hfl : k < (K.2.1 I ad).length) (hfs : (K.2.1 I ad).set k (.int x) = K.2.1 I' ad) (hd : decode cc pc = .ok (.putfield ix, 3))
    (kk : ∀ σ' : vSt, RecAt K σ' o ad I' F L → FrL [o] σ σ' → V G X Q c n σ' (pc + 3) lv st) : V G X Q c n σ pc lv (.int x :: .ref o :: st) := v_putf O hin hty hnm h.nz h.ob hc k hk href hlink hfin hdd hn hfit hfl hd (kk _ (h.sf hfs) (FrL.up h.ob (by simp)))
theorem r_puta (O : vOk G X own cc ret fr mc ms) (h : RecAt K σ o ad I F L) {ref C : String} {T : u_T} {N ix q : Nat} {ty0 : Nat → FieldType} {ty : FieldType} (hin : ∀ w ∈ u_ws C T N, w ∈ lw_all) (hty : ∀ k, k < N → parseFieldDescriptor (T k).2.2.1 = some (ty0 k)) (hnm : ∀ a, a < N → ∀ b, b < N → a ≠ b → (T a).2.1 ≠ (T b).2.1) (hc : vcl[K.1]? = some (C, T, N)) (k : Nat) (hk : k < N) (href : (T k).1 = ref) (hlink : Cond.fieldLink own ix ref (T k).2.1 (T k).2.2.1 ∈ lw_all) (hfin : (T k).2.2.2 = false) (hdd : parseFieldDescriptor (T k).2.2.1 = some ty) (hn : narrow ty (.ref q) = .ref q) (hfit : fits ty (.ref q) = true) (hfl : k < (K.2.1 I ad).length) (hfs : (K.2.1 I ad).set k (.ref q) = K.2.1 I (va_up ad k q)) (hkx : layIx K k = false) (hg : ∀ j N g, K.2.2.2.1 j = some (N, g) → ∀ i, g i ≠ k) (hd : decode cc pc = .ok (.putfield ix, 3))
    (kk : ∀ σ' : vSt, RecAt K σ' o (va_up ad k q) I F L → FrL [o] σ σ' → V G X Q c n σ' (pc + 3) lv st) : V G X Q c n σ pc lv (.ref q :: .ref o :: st) := v_putf O hin hty hnm h.nz h.ob hc k hk href hlink hfin hdd hn hfit hfl hd (kk _ (h.sr k q hkx hg hfs) (FrL.up h.ob (by simp)))
end RR
