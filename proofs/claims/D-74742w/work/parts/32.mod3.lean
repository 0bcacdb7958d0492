def ModAt (σ : vSt) (m : Nat) (S : SysM) (t : Nat) : Prop := ∃ (ad : Nat → Nat) (I : Nat → Int32) (F : Nat → Nat → Int32) (L : Nat → Nat → Int64), RecAt layM σ m ad I F L ∧ ModIs I F L S t Enc
theorem ModAt.fr {M : List Nat} {σ σ' : vSt} {m : Nat} {S : SysM} {t : Nat} (h : ModAt σ m S t) (hf : FrL M σ σ') (hm : m ∉ M) : ModAt σ' m S t := by
  obtain ⟨ad, I, F, L, hR, r⟩ := h
  exact ⟨ad, I, F, L, hR.fr hf hm, r⟩
theorem ModAt.ob {σ : vSt} {m : Nat} {S : SysM} {t : Nat} (h : ModAt σ m S t) : ∃ fs, σ m = some (m, .inr (2, fs)) := by
  obtain ⟨ad, I, F, L, hR, r⟩ := h
  exact ⟨_, hR.ob⟩
theorem ModAt.nz {σ : vSt} {m : Nat} {S : SysM} {t : Nat} (h : ModAt σ m S t) : m ≠ 0 := by
  obtain ⟨ad, I, F, L, hR, r⟩ := h
  exact hR.nz
theorem RecAt.ne {K : Lay} {σ : vSt} {o : Nat} {ad : Nat → Nat} {I : Nat → Int32} {F : Nat → Nat → Int32} {L : Nat → Nat → Int64} (h : RecAt K σ o ad I F L) {j k : Nat} {x y : Nat × Nat} (hj : K.2.2.1 j = some x) (hk : K.2.2.1 k = some y) (hne : j ≠ k) : ad j ≠ ad k := fun e => hne (h.2.2.2.2.2 j k (layIx_a (t := x.1) (N := x.2) hj) (layIx_a (t := y.1) (N := y.2) hk) e)
theorem mdX3_copies : vMd yX3_copies 2 := ⟨by decide +kernel, by decide +kernel, by decide +kernel⟩
theorem l_X3_remembers {G : vGC} (hG : vGok G) {X : vCX} {Q : State → Prop} {c0 n0 : Nat} (O : vOk G X yX3_remembers.cls cX3_remembers none 2 0 0) (hN : xn X = 2) (hcm0 : c0 ≤ 0) (hsm0 : n0 ≤ 0) {σ0 : vSt} {m : Nat} {ad : Nat → Nat} {I : Nat → Int32} {F : Nat → Nat → Int32} {L : Nat → Nat → Int64} (hR0 : RecAt layM σ0 m ad I F L) (kx : ∀ (σ : vSt) (F' : Nat → Nat → Int32), RecAt layM σ m ad I F' L → FrL [m] σ0 σ → (∀ j, j < 100 → F' j = F j) → (∀ j t, j < 7 → t < 157 → F' (100 + j) t = F (100 + (j + 1)) t) → V G X Q c0 n0 σ 40 [(0, .ref m)] []) : ∀ (k : Nat) (i : Nat) (σ : vSt) (F' : Nat → Nat → Int32), (8 < i + k) → (1 ≤ i ∧ i ≤ 8) → (RecAt layM σ m ad I F' L) → (FrL [m] σ0 σ) → (∀ j, j < 100 → F' j = F j) → (∀ j t, j + 1 < i → t < 157 → F' (100 + j) t = F (100 + (j + 1)) t) → (∀ j, i ≤ j + 1 → j < 8 → F' (100 + j) = F (100 + j)) → V G X Q c0 n0 σ 11 [(0, .ref m), (1, .int (nI i))] [] := by
  intro k
  induction k with
  | zero => intro i σ F' h0 h1 hR hf h2 h3 h4; exact absurd h0 (by omega)
  | succ k ih =>
    intro i σ F' h0 h1 hR hf h2 h3 h4
    refine v_iload_n O dX3_remembers_11 rfl 1 rfl ?_
    refine v_bipush (v := nI 8) O dX3_remembers_12 (by decide) ?_
    refine v_icmp_geN (tgt := 40) O dX3_remembers_14 (by decide) (by omega) (by omega) (fun h_14 => ?_) (fun h_14 => ?_)
    · obtain rfl : i = 8 := by omega
      exact v_lv [0] rfl (kx σ F' hR hf h2 (fun j t hj ht => h3 j t (by omega) ht))
    · refine v_aload_n O dX3_remembers_17 rfl 0 rfl ?_
      refine v_getf (C := RX3) (T := TX3) (N := 27) (v := .ref (ad 11)) O in_X3 hR.ob rfl 11 (by decide) rfl q1503 rfl dX3_remembers_18 ?_
      refine v_iload_n O dX3_remembers_21 rfl 1 rfl ?_
      refine v_aald (r := .ref (ad (100 + i))) O (hR.og 11 rfl) rfl rfl (by omega) (by omega) rfl dX3_remembers_22 ?_
      refine v_aload_n O dX3_remembers_23 rfl 0 rfl ?_
      refine v_getf (C := RX3) (T := TX3) (N := 27) (v := .ref (ad 11)) O in_X3 hR.ob rfl 11 (by decide) rfl q1503 rfl dX3_remembers_24 ?_
      refine v_iload_n O dX3_remembers_27 rfl 1 rfl ?_
      refine v_iconst (v := nI 1) O dX3_remembers_28 (by decide) ?_
      refine v_isub (z := nI (i - 1)) O dX3_remembers_29 (pk_sub (by omega)) ?_
      refine v_aald (r := .ref (ad (100 + (i - 1)))) O (hR.og 11 rfl) rfl rfl (by omega) (by omega) rfl dX3_remembers_30 ?_
      refine v_callS (as := [.ref (ad (100 + i)), .ref (ad (100 + (i - 1)))]) (rest := []) O (c_X3_copies hG hR.nz (hR.ne (layM_row (by omega)) (layM_row (by omega)) (by omega)) (hR.ar (100 + i) (layM_row (by omega))) (hR.ar (100 + (i - 1)) (layM_row (by omega)))) q1670 q1671 q77 q1672 mdX3_copies rfl (by decide) (by omega) (by omega) (by omega) (Nat.le_of_ble_eq_true rfl) rfl dX3_remembers_31 (fun v9 σ9 hp9 => ?_) (fun _ _ _ h => False.elim h)
      obtain ⟨rfl, g1, rfl, hg1⟩ := hp9
      have hR2 := hR.sa (100 + (i - 1)) (layM_row (by omega)) g1
      have hf2 := FrL.up (L := [m]) (e' := (m, .inl (0, 157, .inl g1))) (hR.ar (100 + (i - 1)) (layM_row (by omega))) (by simp)
      generalize vUp σ (ad (100 + (i - 1))) (m, .inl (0, 157, .inl g1)) = σ2 at hR2 hf2 ⊢
      refine v_iinc (v := nI (i + 1)) (lv' := [(1, .int (nI (i + 1))), (0, .ref m)]) O hN dX3_remembers_34 1 rfl (nI_add i 1) (by decide) rfl ?_
      refine v_goto (tgt := 11) O dX3_remembers_37 (by decide) ?_
      refine v_lv [1, 0] rfl ?_
      exact ih (i + 1) _ _ (by omega) ⟨by omega, by omega⟩ hR2 (hf.trans hf2) (fun j hj => by funext t; rw [vu, if_neg (by omega)]; exact congrFun (h2 j hj) t) (fun j t hj ht => by
        rw [vu]
        by_cases e : j = i - 1
        · rw [if_pos (by omega), hg1 t ht, h4 i (by omega) (by omega), e, show i - 1 + 1 = i by omega]
        · rw [if_neg (by omega)]; exact h3 j t (by omega) ht) (fun j hj hj8 => by rw [vu, if_neg (by omega)]; exact h4 j (by omega) hj8)
theorem kp_get {ks : List NetM} {N M : NetM} {i : Nat} (h : (kp ks N)[i]? = some M) (hk : ks.length ≤ 8) : (i < (kp ks N).length) ∧ ((i + 1 = (kp ks N).length ∧ M = N) ∨ (i + 1 < (kp ks N).length ∧ ks[if ks.length = 8 then i + 1 else i]? = some M)) := by
  have hi : i < (kp ks N).length := (List.getElem?_eq_some_iff.mp h).1
  refine ⟨hi, ?_⟩
  unfold kp at h hi ⊢
  by_cases e : ks.length = 8
  · rw [if_pos e] at h hi ⊢
    rw [if_pos e]
    simp only [List.length_append, List.length_tail, List.length_singleton] at hi ⊢
    by_cases e2 : i < ks.tail.length
    · rw [List.getElem?_append_left e2, List.getElem?_tail] at h
      rw [List.length_tail] at e2
      exact Or.inr ⟨by omega, h⟩
    · rw [List.getElem?_append_right (by omega)] at h
      rw [List.length_tail] at e2 h
      have : i - (ks.length - 1) = 0 := by omega
      rw [this] at h
      cases h
      exact Or.inl ⟨by omega, rfl⟩
  · rw [if_neg e] at h hi ⊢
    rw [if_neg e]
    simp only [List.length_append, List.length_singleton] at hi ⊢
    by_cases e2 : i < ks.length
    · rw [List.getElem?_append_left e2] at h
      exact Or.inr ⟨by omega, h⟩
    · rw [List.getElem?_append_right (by omega)] at h
      have : i - ks.length = 0 := by omega
      rw [this] at h
      cases h
      exact Or.inl ⟨by omega, rfl⟩
theorem c_X3_remembers {G : vGC} (hG : vGok G) {σ : vSt} {m : Nat} {ad : Nat → Nat} {I : Nat → Int32} {F : Nat → Nat → Int32} {L : Nat → Nat → Int64} (hR : RecAt layM σ m ad I F L) {S : SysM} {t : Nat} (hM : ModIs I F L S t Enc) (hk : (sKs S).length ≤ 8) (hok1 : (sN S).1 ≤ 12) (hok2 : ∀ M ∈ sKs S, M.1 ≤ 12) : Ct G yX3_remembers (ws_ yX3_remembers cX3_remembers 2 none) 2 0 0 σ [.ref m] (fun v σ9 => v = none ∧ ∃ (I' : Nat → Int32) (F' : Nat → Nat → Int32), RecAt layM σ9 m ad I' F' L ∧ ModIs I' F' L (keepS S (sN S)) t Enc ∧ (∀ j, j < 100 → F' j = F j) ∧ FrL [m] σ σ9 ∧ ∀ j, j ≠ 12 → I' j = I j) vNo := by
  refine ct_of hG (by decide) (Nat.le_of_ble_eq_true rfl) fun X hN O hnm htb => ?_
  show V G X _ 0 0 σ 0 [(0, .ref m)] []
  obtain ⟨hM0, hM2, hM5, hM12, hM8, hM1, hM9, hMk, hML⟩ := id hM
  have hM12 : I 12 = nI (sKs S).length := hM12
  have hE9 : (sN S).1 = (sN S).1 := rfl
  refine v_aload_n O dX3_remembers_0 rfl 0 rfl ?_
  refine v_getf (C := RX3) (T := TX3) (N := 27) (v := .int (nI ((sKs S).length))) O in_X3 hR.ob rfl 12 (by decide) rfl q1504 (congrArg (fun z => some (Value.int z)) hM12) dX3_remembers_1 ?_
  refine v_bipush (v := nI 8) O dX3_remembers_4 (by decide) ?_
  refine v_icmp_neN (tgt := 50) O dX3_remembers_6 (by decide) (by omega) (by omega) (fun h_6 => ?_) (fun h_6 => ?_)
  have hb8 : (sKs S).length < 8 := by omega
  refine v_aload_n O dX3_remembers_50 rfl 0 rfl ?_
  refine v_getf (C := RX3) (T := TX3) (N := 27) (v := .ref (ad 9)) O in_X3 hR.ob rfl 9 (by decide) rfl q1501 rfl dX3_remembers_51 ?_
  refine v_aload_n O dX3_remembers_54 rfl 0 rfl ?_
  refine v_getf (C := RX3) (T := TX3) (N := 27) (v := .ref (ad 11)) O in_X3 hR.ob rfl 11 (by decide) rfl q1503 rfl dX3_remembers_55 ?_
  refine v_aload_n O dX3_remembers_58 rfl 0 rfl ?_
  refine v_getf (C := RX3) (T := TX3) (N := 27) (v := .int (nI ((sKs S).length))) O in_X3 hR.ob rfl 12 (by decide) rfl q1504 (congrArg (fun z => some (Value.int z)) hM12) dX3_remembers_59 ?_
  refine v_aald (r := .ref (ad (100 + ((sKs S).length)))) O (hR.og 11 rfl) rfl rfl (by omega) (by omega) rfl dX3_remembers_62 ?_
  refine v_callS (as := [.ref (ad 9), .ref (ad (100 + ((sKs S).length)))]) (rest := []) O (c_X3_copies hG hR.nz (hR.ne rfl (layM_row (by omega)) (by omega)) (hR.ar 9 rfl) (hR.ar (100 + ((sKs S).length)) (layM_row (by omega)))) q1670 q1671 q77 q1672 mdX3_copies rfl (by decide) (by omega) (by omega) (by omega) (Nat.le_of_ble_eq_true rfl) rfl dX3_remembers_63 (fun v9 σ9 hp9 => ?_) (fun _ _ _ h => False.elim h)
  obtain ⟨rfl, g21, rfl, hg21⟩ := hp9
  have hR22 := hR.sa (100 + ((sKs S).length)) (layM_row (by omega)) g21
  have hf22 := FrL.up (L := [m]) (e' := (m, .inl (0, 157, .inl g21))) (hR.ar (100 + ((sKs S).length)) (layM_row (by omega))) (by simp)
  generalize vUp σ (ad (100 + ((sKs S).length))) (m, .inl (0, 157, .inl g21)) = σ22 at hR22 hf22 ⊢
  refine v_aload_n O dX3_remembers_66 rfl 0 rfl ?_
  refine v_dup O dX3_remembers_67 rfl ?_
  refine v_getf (C := RX3) (T := TX3) (N := 27) (v := .int (nI ((sKs S).length))) O in_X3 hR22.ob rfl 12 (by decide) rfl q1504 (congrArg (fun z => some (Value.int z)) hM12) dX3_remembers_68 ?_
  refine v_iconst (v := nI 1) O dX3_remembers_71 (by decide) ?_
  refine v_iadd (z := nI (((sKs S).length) + 1)) O dX3_remembers_72 (nI_add ((sKs S).length) 1) ?_
  refine r_puti (K := layM) (I' := (va_up I 12 (nI (((sKs S).length) + 1)))) (ty0 := tyX3) O hR22 in_X3 tyX3_ok nmX3 (show vcl[2]? = some (RX3, TX3, 27) from rfl) 12 (by decide) rfl q1504 rfl (tyX3_ok 12 (by decide)) rfl rfl (Nat.le_of_ble_eq_true rfl) rfl dX3_remembers_73 (fun σ23 hR23 hf23 => ?_)
  exact v_vret O rfl dX3_remembers_76 (by omega) (by omega) (⟨rfl, _, _, hR23, ⟨hM0, hM2, hM5, by show nI ((sKs S).length + 1) = nI (kp (sKs S) (sN S)).length; rw [(kp_len _ _ hk).1, if_neg h_6], fun j hj => by rw [vu, if_neg (by omega)]; exact hM8 j hj, fun r hr => by rw [vu, if_neg (by omega)]; exact hM1 r hr, by rw [vu, if_neg (by omega)]; exact hM9, fun i M hi => by
        obtain ⟨h1, h2⟩ := kp_get hi hk
        have hl := (kp_len (sKs S) (sN S) hk).1
        rw [if_neg h_6] at hl h2
        rcases h2 with ⟨h3, rfl⟩ | ⟨h3, h4⟩
        · have : i = (sKs S).length := by omega
          subst this
          have e9 : va_up F (100 + (sKs S).length) g21 (100 + (sKs S).length) = g21 := by funext z; rw [vu, if_pos rfl]
          rw [e9]
          exact hM9.of hok1 hg21
        · have e9 : va_up F (100 + (sKs S).length) g21 (100 + i) = F (100 + i) := by funext z; rw [vu, if_neg (by omega)]
          rw [e9]
          exact hMk i M h4, by
        rcases hML with h | ⟨h, h5⟩
        · exact Or.inl h
        · refine Or.inr ⟨h, fun s hs => ?_⟩
          have h6 := h5 s hs
          simp only [vu] at h6 ⊢
          rw [if_neg (by omega), if_neg (by omega), if_neg (by omega)]
          exact h6⟩, fun j hj => by funext z; rw [vu, if_neg (by omega)], (hf22.trans hf23), fun j hj => by simp [va_up, hj]⟩)
  · refine v_iconst (v := nI 1) O dX3_remembers_9 (by decide) ?_
    refine v_istore_n (lv' := [(1, .int (nI 1)), (0, .ref m)]) O hN dX3_remembers_10 rfl (by decide) rfl ?_
    refine v_lv [1, 0] rfl ?_
    refine l_X3_remembers hG O hN (by omega) (by omega) hR (fun σ6 F6 hR6 hf6 h6 h7 => ?_) 8 1 σ F (by omega) ⟨by omega, by omega⟩ hR FrL.rf (fun _ _ => rfl) (fun j t h _ => absurd h (by omega)) (fun _ _ _ => rfl)
    refine v_aload_n O dX3_remembers_40 rfl 0 rfl ?_
    refine v_dup O dX3_remembers_41 rfl ?_
    refine v_getf (C := RX3) (T := TX3) (N := 27) (v := .int (nI 8)) O in_X3 hR6.ob rfl 12 (by decide) rfl q1504 (congrArg (fun z => some (Value.int z)) (hM12.trans (congrArg nI h_6))) dX3_remembers_42 ?_
    refine v_iconst (v := nI 1) O dX3_remembers_45 (by decide) ?_
    refine v_isub (z := nI (8 - 1)) O dX3_remembers_46 (pk_sub (by omega)) ?_
    refine r_puti (K := layM) (I' := (va_up I 12 (nI (8 - 1)))) (ty0 := tyX3) O hR6 in_X3 tyX3_ok nmX3 (show vcl[2]? = some (RX3, TX3, 27) from rfl) 12 (by decide) rfl q1504 rfl (tyX3_ok 12 (by decide)) rfl rfl (Nat.le_of_ble_eq_true rfl) rfl dX3_remembers_47 (fun σ41 hR41 hf41 => ?_)
    refine v_aload_n O dX3_remembers_50 rfl 0 rfl ?_
    refine v_getf (C := RX3) (T := TX3) (N := 27) (v := .ref (ad 9)) O in_X3 hR41.ob rfl 9 (by decide) rfl q1501 rfl dX3_remembers_51 ?_
    refine v_aload_n O dX3_remembers_54 rfl 0 rfl ?_
    refine v_getf (C := RX3) (T := TX3) (N := 27) (v := .ref (ad 11)) O in_X3 hR41.ob rfl 11 (by decide) rfl q1503 rfl dX3_remembers_55 ?_
    refine v_aload_n O dX3_remembers_58 rfl 0 rfl ?_
    refine v_getf (C := RX3) (T := TX3) (N := 27) (v := .int (nI (8 - 1))) O in_X3 hR41.ob rfl 12 (by decide) rfl q1504 rfl dX3_remembers_59 ?_
    refine v_aald (r := .ref (ad (100 + (8 - 1)))) O (hR41.og 11 rfl) rfl rfl (by omega) (by omega) rfl dX3_remembers_62 ?_
    refine v_callS (as := [.ref (ad 9), .ref (ad (100 + (8 - 1)))]) (rest := []) O (c_X3_copies hG hR41.nz (hR41.ne rfl (layM_row (by omega)) (by omega)) (hR41.ar 9 rfl) (hR41.ar (100 + (8 - 1)) (layM_row (by omega)))) q1670 q1671 q77 q1672 mdX3_copies rfl (by decide) (by omega) (by omega) (by omega) (Nat.le_of_ble_eq_true rfl) rfl dX3_remembers_63 (fun v9 σ9 hp9 => ?_) (fun _ _ _ h => False.elim h)
    obtain ⟨rfl, g42, rfl, hg42⟩ := hp9
    have hR43 := hR41.sa (100 + (8 - 1)) (layM_row (by omega)) g42
    have hf43 := FrL.up (L := [m]) (e' := (m, .inl (0, 157, .inl g42))) (hR41.ar (100 + (8 - 1)) (layM_row (by omega))) (by simp)
    generalize vUp σ41 (ad (100 + (8 - 1))) (m, .inl (0, 157, .inl g42)) = σ43 at hR43 hf43 ⊢
    refine v_aload_n O dX3_remembers_66 rfl 0 rfl ?_
    refine v_dup O dX3_remembers_67 rfl ?_
    refine v_getf (C := RX3) (T := TX3) (N := 27) (v := .int (nI (8 - 1))) O in_X3 hR43.ob rfl 12 (by decide) rfl q1504 rfl dX3_remembers_68 ?_
    refine v_iconst (v := nI 1) O dX3_remembers_71 (by decide) ?_
    refine v_iadd (z := nI ((8 - 1) + 1)) O dX3_remembers_72 (nI_add (8 - 1) 1) ?_
    refine r_puti (K := layM) (I' := (va_up (va_up I 12 (nI (8 - 1))) 12 (nI ((8 - 1) + 1)))) (ty0 := tyX3) O hR43 in_X3 tyX3_ok nmX3 (show vcl[2]? = some (RX3, TX3, 27) from rfl) 12 (by decide) rfl q1504 rfl (tyX3_ok 12 (by decide)) rfl rfl (Nat.le_of_ble_eq_true rfl) rfl dX3_remembers_73 (fun σ44 hR44 hf44 => ?_)
    exact v_vret O rfl dX3_remembers_76 (by omega) (by omega) (⟨rfl, _, _, hR44, ⟨hM0, hM2, hM5, by show nI (8 - 1 + 1) = nI (kp (sKs S) (sN S)).length; rw [(kp_len _ _ hk).1, if_pos h_6], fun j hj => by
          have := hM8 j hj
          rw [← h6 8 (by omega)] at this
          exact this, fun r hr => by
          have := hM1 r hr
          rw [← h6 1 (by omega)] at this
          exact this, by
          have := hM9
          rw [← h6 9 (by omega)] at this
          exact this, fun i M hi => by
          obtain ⟨h1, h2⟩ := kp_get hi hk
          have hl := (kp_len (sKs S) (sN S) hk).1
          rw [if_pos h_6] at hl h2
          rcases h2 with ⟨h3, rfl⟩ | ⟨h3, h4⟩
          · have : i = 7 := by omega
            subst this
            have e9 : va_up F6 (100 + (8 - 1)) g42 (100 + 7) = g42 := by funext z; rw [vu, if_pos rfl]
            rw [e9]
            exact hM9.of hok1 (fun j hj => (hg42 j hj).trans (congrFun (h6 9 (by omega)) j))
          · have e9 : va_up F6 (100 + (8 - 1)) g42 (100 + i) = F6 (100 + i) := by funext z; rw [vu, if_neg (by omega)]
            rw [e9]
            exact (hMk (i + 1) M h4).of (hok2 M (List.mem_of_getElem? h4)) (fun j hj => h7 i j (by omega) hj), by
          rcases hML with h | ⟨h, h5⟩
          · exact Or.inl h
          · refine Or.inr ⟨h, fun s hs => ?_⟩
            have h8 := h5 s hs
            rw [← h6 15 (by omega), ← h6 16 (by omega), ← h6 17 (by omega)] at h8
            exact h8⟩, fun j hj => by
          funext z
          rw [vu, if_neg (by omega)]
          exact congrFun (h6 j hj) z, (((hf6.trans hf41).trans hf43).trans hf44), fun j hj => by simp [va_up, hj]⟩)
