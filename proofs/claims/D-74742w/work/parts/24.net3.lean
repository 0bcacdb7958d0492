theorem vUp_eq {σ σ' : vSt} {a : Nat} {c : vCel} (h1 : ∀ b, b ≠ a → σ' b = σ b) (h2 : σ' a = some c) : σ' = vUp σ a c := by
  funext x
  by_cases e : x = a
  · rw [e, h2, vUp_s]
  · rw [h1 x e, vUp_n e]
theorem RecAt.put {K : Lay} {σ σ' : vSt} {o : Nat} {ad : Nat → Nat} {I : Nat → Int32} {F : Nat → Nat → Int32} {L : Nat → Nat → Int64} (h : RecAt K σ o ad I F L) {t N : Nat} (k : Nat) (hk : K.2.2.1 k = some (t, N)) {f : Nat → Int32} (h1 : ∀ b, b ≠ ad k → σ' b = σ b) (h2 : σ' (ad k) = some (o, .inl (t, N, .inl f))) : RecAt K σ' o ad I (va_up F k f) L := by
  rw [vUp_eq h1 h2]
  exact h.sa k hk f
theorem vGrid_lo {σ : vSt} {q l n k x : Nat} (h : x < q) : vGrid σ q l n k x = σ x := by
  simp only [vGrid, show ¬ x = q by omega, show ¬ (q < x ∧ x ≤ q + n) by omega, if_false]
theorem vGrid_q {σ : vSt} {q l n k : Nat} : vGrid σ q l n k q = some (l, .inl (4, n, .inr (.inr (.inr (.inr (fun i => some (q + 1 + i))))))) := by simp only [vGrid, if_true]
theorem vGrid_row {σ : vSt} {q l n k i : Nat} (h : i < n) : vGrid σ q l n k (q + 1 + i) = some (l, .inl (0, k, .inl (fun _ => 0))) := by
  simp only [vGrid, show ¬ (q + 1 + i = q) by omega, show q < q + 1 + i ∧ q + 1 + i ≤ q + n by omega, if_true, if_false, and_self]
/-- the addresses of a new network -/
def adN (q m : Nat) : Nat → Nat := fun k => if k = 1 then q else if k = 2 then m else q + 1 + (k - 100)
theorem netNew {σ : vSt} {h q m n : Nat} (hz : h ≠ 0) (hq : ∀ x, q ≤ x → σ x = none) (hh : σ h = some (h, .inr (1, [.int (nI n), .null, .null]))) {σ3 σ5 : vSt} (h3 : σ3 = vUp (vGrid σ q h n n) h (h, .inr (1, [.int (nI n), .ref q, .null]))) (hm : σ3 m = none) (h5 : σ5 = vUp (vUp σ3 m (h, .inl (0, n, .inl (fun _ => 0)))) h (h, .inr (1, [.int (nI n), .ref q, .ref m]))) :
    RecAt (layN n) σ5 h (adN q m) (fun _ => nI n) (fun _ _ => 0) (fun _ _ => 0) := by
  have hhq : h < q := Nat.not_le.mp fun e => by rw [hq h e] at hh; cases hh
  have hmh : m ≠ h := fun e => by rw [h3, e, vUp_s] at hm; cases hm
  have hmr : ¬ (q ≤ m ∧ m ≤ q + n) := by
    intro e
    rw [h3, vUp_n hmh] at hm
    rcases Nat.eq_or_lt_of_le e.1 with e1 | e1
    · rw [← e1, vGrid_q] at hm; cases hm
    · have := @vGrid_row σ q h n n (m - (q + 1)) (by omega)
      rw [show q + 1 + (m - (q + 1)) = m by omega, hm] at this
      cases this
  have row : ∀ i, i < n → σ5 (q + 1 + i) = some (h, .inl (0, n, .inl (fun _ => 0))) := fun i hi => by
    rw [h5, vUp_n (by omega), vUp_n (by omega), h3, vUp_n (by omega), vGrid_row hi]
  refine ⟨hz, by rw [h5, vUp_s]; rfl, fun k t N hk => ?_, fun k N g hk => ?_, (fun k N hk => by cases hk), fun i j hi hj e => ?_⟩
  · have hk' : (if k = 2 then some (0, n) else if 100 ≤ k ∧ k < 100 + n then some (0, n) else none) = some (t, N) := hk
    split at hk'
    · rename_i e
      subst e
      cases hk'
      show σ5 m = _
      rw [h5, vUp_n hmh, vUp_s]
    · split at hk'
      · rename_i e1 e
        cases hk'
        have ea : adN q m k = q + 1 + (k - 100) := by simp only [adN, show ¬ k = 1 by omega, e1, if_false]
        rw [ea]
        exact row _ (by omega)
      · cases hk'
  · have hk' : (if k = 1 then some (n, fun i => 100 + i) else none) = some (N, g) := hk
    split at hk'
    · rename_i e
      subst e
      cases hk'
      show σ5 q = _
      rw [h5, vUp_n (by omega), vUp_n (fun e => hmr ⟨by omega, by omega⟩), h3, vUp_n (by omega), vGrid_q]
      have hf : (fun i => some (q + 1 + i)) = (fun i => some (adN q m (100 + i))) := by
        funext i
        simp only [adN, show ¬ (100 + i = 1) by omega, show ¬ (100 + i = 2) by omega, if_false]
        congr 1
        omega
      rw [hf]
    · cases hk'
  · have key : ∀ k, layIx (layN n) k = true → k = 1 ∨ k = 2 ∨ (100 ≤ k ∧ k < 100 + n) := by
      intro k hk
      have hk' : ((if k = 2 then some (0, n) else if 100 ≤ k ∧ k < 100 + n then some (0, n) else none).isSome || (if k = 1 then some (n, fun i => 100 + i) else none).isSome || (none : Option Nat).isSome) = true := hk
      by_cases e1 : k = 1
      · exact Or.inl e1
      · by_cases e2 : k = 2
        · exact Or.inr (Or.inl e2)
        · by_cases e3 : 100 ≤ k ∧ k < 100 + n
          · exact Or.inr (Or.inr e3)
          · simp [e1, e2, e3] at hk'
    have hmlt : m < q ∨ q + n < m := by omega
    rcases key i hi with a | a | a <;> rcases key j hj with b | b | b
    · omega
    · subst a; subst b; have e' : q = m := e; omega
    · subst a; have e' : q = adN q m j := e; simp only [adN, show ¬ j = 1 by omega, show ¬ j = 2 by omega, if_false] at e'; omega
    · subst a; subst b; have e' : m = q := e; omega
    · omega
    · subst a; have e' : m = adN q m j := e; simp only [adN, show ¬ j = 1 by omega, show ¬ j = 2 by omega, if_false] at e'; omega
    · subst b; have e' : adN q m i = q := e; simp only [adN, show ¬ i = 1 by omega, show ¬ i = 2 by omega, if_false] at e'; omega
    · subst b; have e' : adN q m i = m := e; simp only [adN, show ¬ i = 1 by omega, show ¬ i = 2 by omega, if_false] at e'; omega
    · simp only [adN, show ¬ i = 1 by omega, show ¬ i = 2 by omega, show ¬ j = 1 by omega, show ¬ j = 2 by omega, if_false] at e; omega
theorem l_X2_init {G : vGC} (hG : vGok G) {X : vCX} {Q : State → Prop} {c0 n0 : Nat} (O : vOk G X yX2_init.cls cX2_init none 2 14 168) (hN : xn X = 6) (hcm0 : c0 ≤ 14) (hsm0 : n0 ≤ 168) {σ0 : vSt} {h n : Nat} {ad : Nat → Nat} {I : Nat → Int32} {L : Nat → Nat → Int64} (hn : n ≤ 12) (kx : ∀ (σ : vSt) (F : Nat → Nat → Int32) (z : List (Nat × Value)), RecAt (layN n) σ h ad I F L → FrL [h] σ0 σ → (∀ i j, i < n → j < n → F (100 + i) j = -1) → V G X Q c0 n0 σ 61 [(0, .ref h)] []) : ∀ (k : Nat) (a : Nat) (σ : vSt) (F : Nat → Nat → Int32), (n < a + k) → (a ≤ n) → (RecAt (layN n) σ h ad I F L) → (FrL [h] σ0 σ) → (∀ i j, i < a → j < n → F (100 + i) j = -1) → V G X Q c0 n0 σ 37 [(0, .ref h), (2, .ref (ad 1)), (3, .int (nI n)), (4, .int (nI a))] [] := by
  intro k
  induction k with
  | zero => intro a σ F h0 h1 hR hf h2; exact absurd h0 (by omega)
  | succ k ih =>
    intro a σ F h0 h1 hR hf h2
    refine v_iload O dX2_init_37 3 rfl ?_
    refine v_iload_n O dX2_init_39 rfl 2 rfl ?_
    refine v_icmp_geN (tgt := 61) O dX2_init_40 (by decide) (by omega) (by omega) (fun h_40 => ?_) (fun h_40 => ?_)
    · obtain rfl : a = n := by omega
      exact v_lv [0] rfl (kx σ F [] hR hf h2)
    · refine v_aload_n O dX2_init_43 rfl 1 rfl ?_
      refine v_iload O dX2_init_44 3 rfl ?_
      refine v_aald (r := .ref (ad (100 + a))) O (hR.og 1 rfl) rfl rfl (by omega) (by omega) rfl dX2_init_46 ?_
      refine v_astore (lv' := [(5, .ref (ad (100 + a))), (0, .ref h), (2, .ref (ad 1)), (3, .int (nI n)), (4, .int (nI a))]) O hN dX2_init_47 (by decide) rfl ?_
      refine v_aload O dX2_init_49 0 rfl ?_
      refine v_iconst (v := (-1)) O dX2_init_51 (by decide) ?_
      refine v_callS (as := [.ref (ad (100 + a)), .int (-1)]) (rest := []) O (c_J2_fill hG (f := F (100 + a)) (v := (-1)) hR.nz (by omega) (hR.ar (100 + a) (layN_row (by omega)))) q146 q147 q76 q148 mdJ2_fill rfl (by decide) (by omega) (by omega) (by omega) (Nat.le_of_ble_eq_true rfl) rfl dX2_init_52 (fun v9 σ1 hp9 => ?_) (fun _ _ _ h => False.elim h)
      obtain ⟨rfl, hff, hfb, f9, hfa, hfv⟩ := hp9
      refine v_iinc (v := nI (a + 1)) (lv' := [(4, .int (nI (a + 1))), (5, .ref (ad (100 + a))), (0, .ref h), (2, .ref (ad 1)), (3, .int (nI n))]) O hN dX2_init_55 4 rfl (nI_add a 1) (by decide) rfl ?_
      refine v_goto (tgt := 37) O dX2_init_58 (by decide) ?_
      refine v_lv [2, 3, 4, 0] rfl ?_
      exact ih (a + 1) _ _ (by omega) (by omega) (hR.put (100 + a) (layN_row (by omega)) hfb hfa) (hf.trans hff) (fun i j hi hj => by
        rw [vu]
        by_cases e : i = a
        · rw [if_pos (by omega)]; exact hfv j hj
        · rw [if_neg (by omega)]; exact h2 i j (by omega) hj)
theorem c_X2_init {G : vGC} (hG : vGok G) {σ : vSt} {h n : Nat} (hz : h ≠ 0) (hn : n ≤ 12) (hh : σ h = some (h, .inr (1, [.int 0, .null, .null]))) : Ct G yX2_init (ws_ yX2_init cX2_init 6 none) 2 14 168 σ [.ref h, .int (nI n)] (fun v σ9 => v = none ∧ NetAt σ9 h (emptyN n) ∧ FrL [h] σ σ9) vNo := by
  refine ct_of hG (by decide) (Nat.le_of_ble_eq_true rfl) fun X hN O hnm htb => ?_
  show V G X _ 0 0 σ 0 [(0, .ref h), (1, .int (nI n))] []
  have hnn : n * n ≤ 144 := Nat.mul_le_mul hn hn
  refine v_aload_n O dX2_init_0 rfl 0 rfl ?_
  refine v_objInit O q143 q113 q114 dX2_init_1 (by decide) (Nat.le_of_ble_eq_true rfl) ?_
  refine v_aload_n O dX2_init_4 rfl 0 rfl ?_
  refine v_iload_n O dX2_init_5 rfl 1 rfl ?_
  refine v_putF (ty0 := tyX2) O hnm in_X2 tyX2_ok nmX2 hz hh (show vcl[1]? = some (RX2, TX2, 3) from rfl) 0 (by decide) rfl q149 rfl rfl (tyX2_ok 0 (by decide)) rfl rfl (Nat.le_of_ble_eq_true rfl) dX2_init_6 ?_
  show V G X _ _ _ (vUp σ h (h, .inr (1, [.int (nI n), .null, .null]))) 9 [(0, .ref h), (1, .int (nI n))] []
  refine v_aload_n O dX2_init_9 rfl 0 rfl ?_
  refine v_iload_n O dX2_init_10 rfl 1 rfl ?_
  refine v_iload_n O dX2_init_11 rfl 1 rfl ?_
  refine v_mnew O h q144 q145 q137 (by omega) (by omega) (by omega) (by omega) (vAO O) dX2_init_12 (fun q hq hqz => ?_)
  have hhq : h < q := Nat.not_le.mp fun e => by have := hq h e; rw [vUp_s] at this; cases this
  refine v_putF (ty0 := tyX2) O hnm in_X2 tyX2_ok nmX2 hz ((vGrid_lo hhq).trans vUp_s) (show vcl[1]? = some (RX2, TX2, 3) from rfl) 1 (by decide) rfl q155 rfl rfl (tyX2_ok 1 (by decide)) rfl rfl (Nat.le_of_ble_eq_true rfl) dX2_init_16 ?_
  show V G X _ _ _ (vUp (vGrid (vUp σ h (h, .inr (1, [.int (nI n), .null, .null]))) q h n n) h (h, .inr (1, [.int (nI n), .ref q, .null]))) 19 [(0, .ref h), (1, .int (nI n))] []
  generalize h3 : vUp (vGrid (vUp σ h (h, .inr (1, [.int (nI n), .null, .null]))) q h n n) h (h, .inr (1, [.int (nI n), .ref q, .null])) = σ3
  have hh3 : σ3 h = some (h, .inr (1, [.int (nI n), .ref q, .null])) := by rw [← h3, vUp_s]
  refine v_aload_n O dX2_init_19 rfl 0 rfl ?_
  refine v_iload_n O dX2_init_20 rfl 1 rfl ?_
  refine v_newa (N := n) (t := 0) (ty := .int) (a0 := (n, .inl (fun _ => 0))) O (fun _ => h) q137 rfl rfl (fun _ h => by cases h) (fun cA => rfl) (by omega) (by omega) (by omega) dX2_init_21 (fun m hm hmz => ?_)
  refine v_putF (ty0 := tyX2) O hnm in_X2 tyX2_ok nmX2 hz ((vUp_n (fun e => by rw [← e, hh3] at hm; cases hm)).trans hh3) (show vcl[1]? = some (RX2, TX2, 3) from rfl) 2 (by decide) rfl q159 rfl rfl (tyX2_ok 2 (by decide)) rfl rfl (Nat.le_of_ble_eq_true rfl) dX2_init_23 ?_
  show V G X _ _ _ (vUp (vUp σ3 m (h, .inl (0, n, .inl (fun _ => 0)))) h (h, .inr (1, [.int (nI n), .ref q, .ref m]))) 26 [(0, .ref h), (1, .int (nI n))] []
  generalize h5 : vUp (vUp σ3 m (h, .inl (0, n, .inl (fun _ => 0)))) h (h, .inr (1, [.int (nI n), .ref q, .ref m])) = σ5
  have hR := netNew (n := n) hz hq vUp_s h3.symm hm h5.symm
  have hf5 : FrL [h] σ σ5 := by
    intro b e hb he
    have hbh : b ≠ h := fun q1 => by rw [q1, hh] at hb; cases hb; exact he (by simp)
    have hbq : b < q := Nat.not_le.mp fun q1 => by have := hq b q1; rw [vUp_n hbh, hb] at this; cases this
    have hb3 : σ3 b = some e := by rw [← h3, vUp_n hbh, vGrid_lo hbq, vUp_n hbh, hb]
    have hbm : b ≠ m := fun q1 => by rw [q1, hm] at hb3; cases hb3
    rw [← h5, vUp_n hbh, vUp_n hbm, hb3]
  refine v_aload_n O dX2_init_26 rfl 0 rfl ?_
  refine v_getf (C := RX2) (T := TX2) (N := 3) (v := .ref (adN q m 1)) O in_X2 hR.ob rfl 1 (by decide) rfl q155 rfl dX2_init_27 ?_
  refine v_astore_n (lv' := [(2, .ref (adN q m 1)), (0, .ref h), (1, .int (nI n))]) O hN dX2_init_30 rfl (by decide) rfl ?_
  refine v_aload_n O dX2_init_31 rfl 0 rfl ?_
  refine v_alen (v := nI n) O (hR.og 1 rfl) rfl rfl dX2_init_32 ?_
  refine v_istore_n (lv' := [(3, .int (nI n)), (2, .ref (adN q m 1)), (0, .ref h), (1, .int (nI n))]) O hN dX2_init_33 rfl (by decide) rfl ?_
  refine v_iconst (v := nI 0) O dX2_init_34 (by decide) ?_
  refine v_istore (lv' := [(4, .int (nI 0)), (3, .int (nI n)), (2, .ref (adN q m 1)), (0, .ref h), (1, .int (nI n))]) O hN dX2_init_35 (by decide) rfl ?_
  refine v_lv [3, 2, 1, 0] rfl ?_
  refine l_X2_init hG O hN (by omega) (by omega) hn (fun σ6 F z hR6 hf6 h6 => ?_) (n + 1) 0 σ5 _ (by omega) (by omega) hR hf5 (fun i j hi => absurd hi (by omega))
  refine v_aload_n O dX2_init_61 rfl 0 rfl ?_
  refine v_getf (C := RX2) (T := TX2) (N := 3) (v := .ref (adN q m 2)) O in_X2 hR6.ob rfl 2 (by decide) rfl q159 rfl dX2_init_62 ?_
  refine v_iconst (v := (-1)) O dX2_init_65 (by decide) ?_
  refine v_callS (as := [.ref (adN q m 2), .int (-1)]) (rest := []) O (c_J2_fill hG (f := F 2) (v := (-1)) hz (by omega) (hR6.ar 2 rfl)) q146 q147 q76 q148 mdJ2_fill rfl (by decide) (by omega) (by omega) (by omega) (Nat.le_of_ble_eq_true rfl) rfl dX2_init_66 (fun v9 σ1 hp9 => ?_) (fun _ _ _ h => False.elim h)
  obtain ⟨rfl, hff, hfb, f9, hfa, hfv⟩ := hp9
  exact v_vret O rfl dX2_init_69 (by omega) (by omega) (⟨rfl, ⟨adN q m, _, _, _, hR6.put 2 rfl hfb hfa, rfl, fun i j hi hj => by rw [vu, if_neg (by omega)]; exact h6 i j hi hj, fun i hi => by rw [vu, if_pos rfl]; exact hfv i hi⟩, hf6.trans hff⟩)
theorem l_X2_like {G : vGC} (hG : vGok G) {X : vCX} {Q : State → Prop} {c0 n0 : Nat} (O : vOk G X yX2_like.cls cX2_like (some (.object "OddPairs$Net")) 3 15 171) (hN : xn X = 3) (hcm0 : c0 ≤ 15) (hsm0 : n0 ≤ 171) {σ0 : vSt} {h q : Nat} {N : NetM} {ad ad2 : Nat → Nat} {I I2 : Nat → Int32} {F : Nat → Nat → Int32} {L L2 : Nat → Nat → Int64} (hn : N.1 ≤ 12) (hqh : h ≠ q) (hRs : RecAt (layN N.1) σ0 h ad I F L) (hn0 : I 0 = nI N.1) (hw : ∀ i j, i < N.1 → j < N.1 → F (100 + i) j = N.2.1 i j) (kx : ∀ (σ : vSt) (F2 : Nat → Nat → Int32), RecAt (layN N.1) σ q ad2 I2 F2 L2 → FrL [q] σ0 σ → (∀ i j, i < N.1 → j < N.1 → F2 (100 + i) j = N.2.1 i j) → V G X Q c0 n0 σ 49 [(0, .ref h), (1, .ref q)] []) : ∀ (k : Nat) (a : Nat) (σ : vSt) (F2 : Nat → Nat → Int32), (N.1 < a + k) → (a ≤ N.1) → (RecAt (layN N.1) σ q ad2 I2 F2 L2) → (FrL [q] σ0 σ) → (∀ i j, i < a → j < N.1 → F2 (100 + i) j = N.2.1 i j) → V G X Q c0 n0 σ 14 [(0, .ref h), (1, .ref q), (2, .int (nI a))] [] := by
  intro k
  induction k with
  | zero => intro a σ F2 h0 h1 hR2 hf h2; exact absurd h0 (by omega)
  | succ k ih =>
    intro a σ F2 h0 h1 hR2 hf h2
    have hR := hRs.fr hf (by simpa using hqh)
    refine v_iload_n O dX2_like_14 rfl 2 rfl ?_
    refine v_aload_n O dX2_like_15 rfl 0 rfl ?_
    refine v_getf (C := RX2) (T := TX2) (N := 3) (v := .int (nI N.1)) O in_X2 hR.ob rfl 0 (by decide) rfl q149 (congrArg (fun z => some (Value.int z)) hn0) dX2_like_16 ?_
    refine v_icmp_geN (tgt := 49) O dX2_like_19 (by decide) (by omega) (by omega) (fun h_19 => ?_) (fun h_19 => ?_)
    · obtain rfl : a = N.1 := by omega
      exact v_lv [0, 1] rfl (kx σ F2 hR2 hf h2)
    · refine v_aload_n O dX2_like_22 rfl 0 rfl ?_
      refine v_getf (C := RX2) (T := TX2) (N := 3) (v := .ref (ad 1)) O in_X2 hR.ob rfl 1 (by decide) rfl q155 rfl dX2_like_23 ?_
      refine v_iload_n O dX2_like_26 rfl 2 rfl ?_
      refine v_aald (r := .ref (ad (100 + a))) O (hR.og 1 rfl) rfl rfl (by omega) (by omega) rfl dX2_like_27 ?_
      refine v_iconst (v := nI 0) O dX2_like_28 (by decide) ?_
      refine v_aload_n O dX2_like_29 rfl 1 rfl ?_
      refine v_getf (C := RX2) (T := TX2) (N := 3) (v := .ref (ad2 1)) O in_X2 hR2.ob rfl 1 (by decide) rfl q155 rfl dX2_like_30 ?_
      refine v_iload_n O dX2_like_33 rfl 2 rfl ?_
      refine v_aald (r := .ref (ad2 (100 + a))) O (hR2.og 1 rfl) rfl rfl (by omega) (by omega) rfl dX2_like_34 ?_
      refine v_iconst (v := nI 0) O dX2_like_35 (by decide) ?_
      refine v_aload_n O dX2_like_36 rfl 0 rfl ?_
      refine v_getf (C := RX2) (T := TX2) (N := 3) (v := .int (nI N.1)) O in_X2 hR.ob rfl 0 (by decide) rfl q149 (congrArg (fun z => some (Value.int z)) hn0) dX2_like_37 ?_
      refine v_copy (t := 0) (ty := .int) (sp := 0) (dp := 0) (k := N.1) O q490 q482 q481 q91 (hR.ar (100 + a) (layN_row (by omega))) hR2.nz (hR2.ar (100 + a) (layN_row (by omega))) rfl rfl (by omega) (by omega) ⟨by omega, by omega⟩ (fun _ _ => rfl) (by omega) (Nat.le_of_ble_eq_true rfl) dX2_like_40 ?_
      refine v_iinc (v := nI (a + 1)) (lv' := [(2, .int (nI (a + 1))), (0, .ref h), (1, .ref q)]) O hN dX2_like_43 2 rfl (nI_add a 1) (by decide) rfl ?_
      refine v_goto (tgt := 14) O dX2_like_46 (by decide) ?_
      refine v_lv [1, 2, 0] rfl ?_
      exact ih (a + 1) _ _ (by omega) (by omega) (hR2.sa (100 + a) (layN_row (by omega)) _) (hf.trans (FrL.up (hR2.ar (100 + a) (layN_row (by omega))) (by simp))) (fun i j hi hj => by
        rw [vu]
        by_cases e : i = a
        · rw [if_pos (by omega), va_cpy, if_pos (by omega), e, Nat.zero_add, Nat.sub_zero]; exact hw a j (by omega) hj
        · rw [if_neg (by omega)]; exact h2 i j (by omega) hj)
theorem mdX2_init : vMd yX2_init 1 := ⟨by decide +kernel, by decide +kernel, by decide +kernel⟩
theorem c_X2_like {G : vGC} (hG : vGok G) {σ : vSt} {h : Nat} {N : NetM} (hN0 : NetAt σ h N) (hn : N.1 ≤ 12) : Ct G yX2_like (ws_ yX2_like cX2_like 3 (some (.object "OddPairs$Net"))) 3 15 171 σ [.ref h] (fun v σ9 => ∃ q, v = some (.ref q) ∧ σ q = none ∧ NetAt σ9 q N ∧ FrL [q] σ σ9) vNo := by
  refine ct_of hG (by decide) (Nat.le_of_ble_eq_true rfl) fun X hN O hnm htb => ?_
  show V G X _ 0 0 σ 0 [(0, .ref h)] []
  obtain ⟨ad, I, F, L, hR, hn0, hw, hm⟩ := id hN0
  refine v_new (fs := [.int 0, .null, .null]) (ty := tyX2) O id in_X2 tyX2_ok q488 q139 q75 (show vcl[1]? = some (RX2, TX2, 3) from rfl) (fun j hj => by match j, hj with | 0, _ => rfl | 1, _ => rfl | 2, _ => rfl) (by omega) (by omega) dX2_like_0 (fun q hq hqz => ?_)
  have hqh : h ≠ q := fun e => by have := hR.ob; rw [e, hq] at this; cases this
  have hf0 : FrL [q] σ (vUp σ q (q, .inr (1, [.int 0, .null, .null]))) := FrL.new hq
  have hq1 : vUp σ q (q, .inr (1, [.int 0, .null, .null])) q = some (q, .inr (1, [.int 0, .null, .null])) := vUp_s
  show V G X _ _ _ (vUp σ q (q, .inr (1, [.int 0, .null, .null]))) 3 [(0, .ref h)] [.ref q]
  generalize vUp σ q (q, .inr (1, [.int 0, .null, .null])) = σ0 at hf0 hq1 ⊢
  have hR := hR.fr hf0 (by simpa using hqh)
  refine v_dup O dX2_like_3 rfl ?_
  refine v_aload_n O dX2_like_4 rfl 0 rfl ?_
  refine v_getf (C := RX2) (T := TX2) (N := 3) (v := .int (nI N.1)) O in_X2 hR.ob rfl 0 (by decide) rfl q149 (congrArg (fun z => some (Value.int z)) hn0) dX2_like_5 ?_
  refine v_callI (as := [.int (nI N.1)]) (rest := [.ref q]) O (c_X2_init hG (h := q) (n := N.1) hqz (by omega) hq1) q489 q141 q75 q142 rfl mdX2_init rfl (by decide) (by omega) (by omega) (by omega) (Nat.le_of_ble_eq_true rfl) rfl dX2_like_8 (fun v9 σ1 hp9 => ?_) (fun _ _ _ h => False.elim h)
  obtain ⟨rfl, hNq, hfq⟩ := hp9
  refine v_astore_n (lv' := [(1, .ref q), (0, .ref h)]) O hN dX2_like_11 rfl (by decide) rfl ?_
  refine v_iconst (v := nI 0) O dX2_like_12 (by decide) ?_
  refine v_istore_n (lv' := [(2, .int (nI 0)), (1, .ref q), (0, .ref h)]) O hN dX2_like_13 rfl (by decide) rfl ?_
  refine v_lv [2, 1, 0] rfl ?_
  obtain ⟨ad2, I2, F2, L2, hR2, hn2, -, -⟩ := hNq
  have hfq0 : FrL [q] σ σ1 := hf0.trans hfq
  refine l_X2_like hG O hN (by omega) (by omega) hn hqh (hR.fr hfq (by simpa using hqh)) hn0 hw (fun σ6 F6 hR6 hf6 h6 => ?_) (N.1 + 1) 0 σ1 F2 (by omega) (by omega) hR2 FrL.rf (fun i j hi => absurd hi (by omega))
  have hRs6 := (hR.fr hfq (by simpa using hqh)).fr hf6 (by simpa using hqh)
  refine v_aload_n O dX2_like_49 rfl 0 rfl ?_
  refine v_getf (C := RX2) (T := TX2) (N := 3) (v := .ref (ad 2)) O in_X2 hRs6.ob rfl 2 (by decide) rfl q159 rfl dX2_like_50 ?_
  refine v_iconst (v := nI 0) O dX2_like_53 (by decide) ?_
  refine v_aload_n O dX2_like_54 rfl 1 rfl ?_
  refine v_getf (C := RX2) (T := TX2) (N := 3) (v := .ref (ad2 2)) O in_X2 hR6.ob rfl 2 (by decide) rfl q159 rfl dX2_like_55 ?_
  refine v_iconst (v := nI 0) O dX2_like_58 (by decide) ?_
  refine v_aload_n O dX2_like_59 rfl 0 rfl ?_
  refine v_getf (C := RX2) (T := TX2) (N := 3) (v := .int (nI N.1)) O in_X2 hRs6.ob rfl 0 (by decide) rfl q149 (congrArg (fun z => some (Value.int z)) hn0) dX2_like_60 ?_
  refine v_copy (t := 0) (ty := .int) (sp := 0) (dp := 0) (k := N.1) O q490 q482 q481 q91 (hRs6.ar 2 rfl) hR6.nz (hR6.ar 2 rfl) rfl rfl (by omega) (by omega) ⟨by omega, by omega⟩ (fun _ _ => rfl) (by omega) (Nat.le_of_ble_eq_true rfl) dX2_like_63 ?_
  refine v_aload_n O dX2_like_66 rfl 1 rfl ?_
  exact v_aret O rfl (Or.inl ⟨_, rfl⟩) (Or.inr ⟨_, rfl⟩) dX2_like_67 (by omega) (by omega) (⟨q, rfl, hq, ⟨ad2, I2, _, L2, hR6.sa 2 rfl _, hn2, fun i j hi hj => by rw [vu, if_neg (by omega)]; exact h6 i j hi hj, fun i hi => by rw [vu, if_pos rfl, va_cpy, if_pos (by omega), Nat.zero_add, Nat.sub_zero]; exact hm i hi⟩, (hfq0.trans hf6).trans (FrL.up (hR6.ar 2 rfl) (by simp))⟩)
