theorem ModIs.lab {I I' : Nat → Int32} {F F' : Nat → Nat → Int32} {L : Nat → Nat → Int64} {S : SysM} {t : Nat} (h : ModIs I F L S t Enc) (hi : ∀ j, j ≠ 22 → j ≠ 23 → I' j = I j) (ho : ∀ j, j ≠ 21 → F' j = F j) : ModIs I' F' L S t Enc := by
  obtain ⟨h0, h2, h5, h12, h8, h1, h9, hk, hL⟩ := h
  refine ⟨by rw [hi 0 (by omega) (by omega)]; exact h0, by rw [hi 2 (by omega) (by omega)]; exact h2, by rw [hi 5 (by omega) (by omega)]; exact h5, by rw [hi 12 (by omega) (by omega)]; exact h12, fun j hj => by rw [ho 8 (by omega)]; exact h8 j hj, fun j hj => by rw [ho 1 (by omega)]; exact h1 j hj, by rw [ho 9 (by omega)]; exact h9, fun i M hi => by rw [ho (100 + i) (by omega)]; exact hk i M hi, ?_⟩
  rw [hi 19 (by omega) (by omega)]
  rcases hL with h | ⟨h, h'⟩
  · exact Or.inl h
  · refine Or.inr ⟨h, fun s hs => ?_⟩
    have h6 := h' s hs
    rw [ho 15 (by omega), ho 16 (by omega), ho 17 (by omega)]
    exact h6
theorem LabS.closed {N : NetM} {B B' : Nat → Nat → Prop} {s v : Nat} (h : LabS N B B' s v) (hc : ∀ s1 w, B s1 w → LabC N B s1 w) : ∀ s1 w, B' s1 w → LabC N B' s1 w := fun s1 w hw => by
  by_cases e : B s1 w
  · exact fun b hb => h.1 _ _ (hc s1 w e b hb)
  · exact h.2.2 s1 w hw e
theorem Good.one {N : NetM} {a : Nat} (h : a < N.1) (hm : N.2.2 a = -1) : Good N (2 ^ a) a := ⟨[], ⟨h, hm⟩, by rw [msk, msk, Nat.zero_or]⟩
set_option maxRecDepth 100000 in
theorem pcn_pow : ∀ a, a < 12 → pcn (2 ^ a) = 1 := by decide +kernel
theorem been0 {f : Nat → Int32} (h : ∀ j, j < 49152 → f j = nI 0) : BeenIs f (fun _ _ => False) := fun s v h1 h2 => Or.inr ⟨h _ (by omega), id⟩
theorem LabJ.nil {N : NetM} : LabJ N (fun _ _ => False) 0 0 := ⟨fun w => by rw [Nat.zero_testBit]; exact ⟨(fun h => by cases h), fun ⟨_, h, _⟩ => h.elim⟩, fun w => by rw [Nat.zero_testBit]; exact ⟨(fun h => by cases h), fun ⟨_, h, _⟩ => h.elim⟩, fun _ _ h => h.elim, by decide, by decide⟩
theorem l_X3_labels_c {G : vGC} (hG : vGok G) {X : vCX} {Q : State → Prop} {c0 n0 : Nat} (O : vOk G X yX3_labels.cls cX3_labels none 15 0 0) (hN : xn X = 2) (hcm0 : c0 ≤ 0) (hsm0 : n0 ≤ 0) {σ0 : vSt} {m : Nat} {ad : Nat → Nat} {I : Nat → Int32} {F : Nat → Nat → Int32} {L : Nat → Nat → Int64} (kx : ∀ (σ : vSt) (F' : Nat → Nat → Int32), RecAt layM σ m ad I F' L → FrL [m] σ0 σ → (∀ j, j ≠ 21 → F' j = F j) → (∀ j, j < 49152 → F' 21 j = nI 0) → V G X Q c0 n0 σ 24 [(0, .ref m)] []) : ∀ (k : Nat) (i : Nat) (σ : vSt) (F' : Nat → Nat → Int32), (49152 < i + k) → (i ≤ 49152) → (RecAt layM σ m ad I F' L) → (FrL [m] σ0 σ) → (∀ j, j ≠ 21 → F' j = F j) → (∀ j, j < i → F' 21 j = nI 0) → V G X Q c0 n0 σ 2 [(0, .ref m), (1, .int (nI i))] [] := by
  intro k
  induction k with
  | zero => intro i σ F' h0 h1 hR hf ho h2; exact absurd h0 (by omega)
  | succ k ih =>
    intro i σ F' h0 h1 hR hf ho h2
    refine v_iload_n O dX3_labels_2 rfl 1 rfl ?_
    refine v_aload_n O dX3_labels_3 rfl 0 rfl ?_
    refine v_getf (C := RX3) (T := TX3) (N := 27) (v := .ref (ad 21)) O in_X3 hR.ob rfl 21 (by decide) rfl q1513 rfl dX3_labels_4 ?_
    refine v_alen (v := nI 49152) O (hR.ar 21 rfl) rfl rfl dX3_labels_7 ?_
    refine v_icmp_geN (tgt := 24) O dX3_labels_8 (by decide) (by omega) (by omega) (fun h_8 => ?_) (fun h_8 => ?_)
    · obtain rfl : i = 49152 := by omega
      exact v_lv [0] rfl (kx σ F' hR hf ho h2)
    · refine v_aload_n O dX3_labels_11 rfl 0 rfl ?_
      refine v_getf (C := RX3) (T := TX3) (N := 27) (v := .ref (ad 21)) O in_X3 hR.ob rfl 21 (by decide) rfl q1513 rfl dX3_labels_12 ?_
      refine v_iload_n O dX3_labels_15 rfl 1 rfl ?_
      refine v_iconst (v := nI 0) O dX3_labels_16 (by decide) ?_
      refine r_zast (K := layM) O hR 21 rfl (by omega) (by omega) rfl dX3_labels_17 (fun σ1 hR1 hf1 => ?_)
      refine v_iinc (v := nI (i + 1)) (lv' := [(1, .int (nI (i + 1))), (0, .ref m)]) O hN dX3_labels_18 1 rfl (nI_add i 1) (by decide) rfl ?_
      refine v_goto (tgt := 2) O dX3_labels_21 (by decide) ?_
      refine v_lv [1, 0] rfl ?_
      exact ih (i + 1) _ _ (by omega) (by omega) hR1 (hf.trans hf1) (fun j hj => by rw [← ho j hj]; funext z; simp [va_up, hj]) (fun j hj => by
        simp only [va_up, if_true]
        by_cases e : j = i
        · rw [if_pos e]
        · rw [if_neg e]; exact h2 j (by omega))
theorem l_X3_labels {G : vGC} (hG : vGok G) {X : vCX} {Q : State → Prop} {c0 n0 : Nat} (O : vOk G X yX3_labels.cls cX3_labels none 15 0 0) (hN : xn X = 2) (hcm0 : c0 ≤ 0) (hsm0 : n0 ≤ 0) {σ0 : vSt} {m : Nat} {ad : Nat → Nat} {I : Nat → Int32} {F : Nat → Nat → Int32} {L : Nat → Nat → Int64} {N : NetM} (hE0 : Enc (F 9) N) (hn : N.1 ≤ 12) (kx : ∀ (σ : vSt) (I' : Nat → Int32) (F' : Nat → Nat → Int32), RecAt layM σ m ad I' F' L → FrL [m] σ0 σ → (∀ j, j ≠ 22 → j ≠ 23 → I' j = I j) → (∀ j, j ≠ 21 → F' j = F j) → I' 22 = nI (evS N) → I' 23 = nI (odS N) → V G X Q c0 n0 σ 67 [(0, .ref m)] []) : ∀ (k : Nat) (a : Nat) (σ : vSt) (I' : Nat → Int32) (F' : Nat → Nat → Int32) (B' : Nat → Nat → Prop) (E' : Nat) (U' : Nat), (N.1 < a + k) → (a ≤ N.1) → (RecAt layM σ m ad I' F' L) → (FrL [m] σ0 σ) → (∀ j, j ≠ 22 → j ≠ 23 → I' j = I j) → (∀ j, j ≠ 21 → F' j = F j) → (BeenIs (F' 21) B') → (I' 22 = nI E') → (I' 23 = nI U') → (LabJ N B' E' U') → (∀ s v, B' s v → LabC N B' s v) → (∀ a', a' < a → N.2.2 a' = -1 → B' (2 ^ a') a') → V G X Q c0 n0 σ 36 [(0, .ref m), (1, .int (nI a))] [] := by
  intro k
  induction k with
  | zero => intro a σ I' F' B' E' U' h0 h1 hR hf hI hF hB hI22 hI23 hJ hcl hst; exact absurd h0 (by omega)
  | succ k ih =>
    intro a σ I' F' B' E' U' h0 h1 hR hf hI hF hB hI22 hI23 hJ hcl hst
    have hE : Enc (F' 9) N := by rw [hF 9 (by omega)]; exact hE0
    refine v_iload_n O dX3_labels_36 rfl 1 rfl ?_
    refine v_aload_n O dX3_labels_37 rfl 0 rfl ?_
    refine v_callV (as := []) (rest := [.int (nI a)]) O (c_X3_nodes hG hR hE (by first | omega | exact hn)) q1677 q1679 qs47 q77 q1680 hR.ob (show vcl[2]? = some (RX3, TX3, 27) from rfl) rfl mdX3_nodes rfl (by decide) (by omega) (by omega) (by omega) (Nat.le_of_ble_eq_true rfl) rfl dX3_labels_38 (fun v9 σ9 hp9 => ?_) (fun _ _ _ h => False.elim h)
    obtain ⟨rfl, hs9⟩ := hp9
    obtain rfl := hs9.symm
    refine v_icmp_geN (tgt := 67) O dX3_labels_41 (by decide) (by omega) (by omega) (fun h_41 => ?_) (fun h_41 => ?_)
    · obtain rfl : a = N.1 := by omega
      obtain ⟨e1, e2⟩ := lab_done hn hJ hst hcl
      exact v_lv [0] rfl (kx σ I' F' hR hf hI hF (by rw [hI22, e1]) (by rw [hI23, e2]))
    · refine v_aload_n O dX3_labels_44 rfl 0 rfl ?_
      refine v_iload_n O dX3_labels_45 rfl 1 rfl ?_
      refine v_callV (as := [.int (nI a)]) (rest := []) O (c_X3_mate hG hR hE (by first | omega | exact hn) (a := a) (by omega)) q1705 q1707 qs50 q77 q1708 hR.ob (show vcl[2]? = some (RX3, TX3, 27) from rfl) rfl mdX3_mate rfl (by decide) (by omega) (by omega) (by omega) (Nat.le_of_ble_eq_true rfl) rfl dX3_labels_46 (fun v9 σ9 hp9 => ?_) (fun _ _ _ h => False.elim h)
      obtain ⟨rfl, hs9⟩ := hp9
      obtain rfl := hs9.symm
      refine v_iconst (v := (-1)) O dX3_labels_49 (by decide) ?_
      refine v_icmp_ne (tgt := 61) O dX3_labels_50 (by decide) (fun h_50 => ?_) (fun h_50 => ?_)
      · refine v_iinc (v := nI (a + 1)) (lv' := [(1, .int (nI (a + 1))), (0, .ref m)]) O hN dX3_labels_61 1 rfl (nI_add a 1) (by decide) rfl ?_
        refine v_goto (tgt := 36) O dX3_labels_64 (by decide) ?_
        refine v_lv [1, 0] rfl ?_
        exact ih (a + 1) σ I' F' B' E' U' (by omega) (by omega) hR hf hI hF hB hI22 hI23 hJ hcl (fun a' ha' hm => by
          by_cases e : a' = a
          · subst e; exact absurd hm h_50
          · exact hst a' (by omega) hm)
      · have hgd := Good.one (N := N) (a := a) (by omega) h_50
        have hpp := pcn_pow a (by omega)
        refine v_aload_n O dX3_labels_53 rfl 0 rfl ?_
        refine v_iconst (v := nI 1) O dX3_labels_54 (by decide) ?_
        refine v_iload_n O dX3_labels_55 rfl 1 rfl ?_
        refine v_ishl (z := nI (2 ^ a)) O dX3_labels_56 (bx_shl1 (by omega)) ?_
        refine v_iload_n O dX3_labels_57 rfl 1 rfl ?_
        refine v_callV (as := [.int (nI (2 ^ a)), .int (nI a)]) (rest := []) O (c_X3_goes hG 12 hR hE hn hJ hB hI22 hI23 hgd (by omega)) q1800 q1802 qs64 q77 q1803 hR.ob (show vcl[2]? = some (RX3, TX3, 27) from rfl) rfl mdX3_goes rfl (by decide) (by omega) (by omega) (by omega) (Nat.le_of_ble_eq_true rfl) rfl dX3_labels_58 (fun v9 σ2 hp9 => ?_) (fun _ _ _ h => False.elim h)
        obtain ⟨rfl, I1, F1, B1, E1, U1, hR1, hf1, hI1, hF1, hB1, h221, h231, hJ1, hS1⟩ := hp9
        refine v_iinc (v := nI (a + 1)) (lv' := [(1, .int (nI (a + 1))), (0, .ref m)]) O hN dX3_labels_61 1 rfl (nI_add a 1) (by decide) rfl ?_
        refine v_goto (tgt := 36) O dX3_labels_64 (by decide) ?_
        refine v_lv [1, 0] rfl ?_
        exact ih (a + 1) _ _ _ _ _ _ (by omega) (by omega) hR1 (hf.trans hf1) (fun j h1 h2 => (hI1 j h1 h2).trans (hI j h1 h2)) (fun j h1 => (hF1 j h1).trans (hF j h1)) hB1 h221 h231 hJ1 (hS1.closed hcl) (fun a' ha' hm => by
          by_cases e : a' = a
          · subst e; exact hS1.2.1
          · exact hS1.1 _ _ (hst a' (by omega) hm))
theorem labs_lt {N : NetM} (hn : N.1 ≤ 12) : evS N < 4096 ∧ odS N < 4096 := by
  refine ⟨lt_4096 fun i hi => ?_, lt_4096 fun i hi => ?_⟩
  · cases h : (evS N).testBit i with
    | false => rfl
    | true =>
      obtain ⟨l, h1, -⟩ := (evS_iff hn).mp h
      have := altL_lt l i h1 i (List.mem_cons_self ..)
      omega
  · cases h : (odS N).testBit i with
    | false => rfl
    | true =>
      obtain ⟨l, h1, -⟩ := (odS_iff hn).mp h
      have := altL_lt l i h1 i (List.mem_cons_self ..)
      omega
theorem c_X3_labels {G : vGC} (hG : vGok G) {σ : vSt} {m : Nat} {ad : Nat → Nat} {I : Nat → Int32} {F : Nat → Nat → Int32} {L : Nat → Nat → Int64} (hR : RecAt layM σ m ad I F L) {S : SysM} {t : Nat} (hM : ModIs I F L S t Enc) (hS : okS S) : Ct G yX3_labels (ws_ yX3_labels cX3_labels 2 none) 15 0 0 σ [.ref m] (fun v σ9 => v = none ∧ ∃ (I' : Nat → Int32) (F' : Nat → Nat → Int32) (L' : Nat → Nat → Int64), RecAt layM σ9 m ad I' F' L' ∧ ModIs I' F' L' S t Enc ∧ I' 22 = nI (evS (sN S)) ∧ I' 23 = nI (sd (odS (sN S)) (evS (sN S))) ∧ FrL [m] σ σ9) vNo := by
  refine ct_of hG (by decide) (Nat.le_of_ble_eq_true rfl) fun X hN O hnm htb => ?_
  show V G X _ 0 0 σ 0 [(0, .ref m)] []
  have hd := okS.d S hS
  have hn1 : 1 ≤ (sN S).1 := hd.1
  have hn : (sN S).1 ≤ 12 := hd.2.1
  have hE : Enc (F 9) (sN S) := hM.e9
  have hp12 := p12 hn
  have hal := all_lt (N := sN S)
  obtain ⟨hev, hod⟩ := labs_lt hn
  refine v_iconst (v := nI 0) O dX3_labels_0 (by decide) ?_
  refine v_istore_n (lv' := [(1, .int (nI 0)), (0, .ref m)]) O hN dX3_labels_1 rfl (by decide) rfl ?_
  refine v_lv [1, 0] rfl ?_
  refine l_X3_labels_c hG O hN (by omega) (by omega) (I := I) (F := F) (fun σ6 F6 hR6 hf6 h6 h621 => ?_) 49153 0 σ F (by omega) (by omega) hR FrL.rf (fun _ _ => rfl) (fun j hj => absurd hj (by omega))
  refine v_aload_n O dX3_labels_24 rfl 0 rfl ?_
  refine v_iconst (v := nI 0) O dX3_labels_25 (by decide) ?_
  refine r_puti (K := layM) (I' := (va_up I 22 (nI 0))) (ty0 := tyX3) O hR6 in_X3 tyX3_ok nmX3 (show vcl[2]? = some (RX3, TX3, 27) from rfl) 22 (by decide) rfl q1514 rfl (tyX3_ok 22 (by decide)) rfl rfl (Nat.le_of_ble_eq_true rfl) rfl dX3_labels_26 (fun σ71 hR71 hf71 => ?_)
  refine v_aload_n O dX3_labels_29 rfl 0 rfl ?_
  refine v_iconst (v := nI 0) O dX3_labels_30 (by decide) ?_
  refine r_puti (K := layM) (I' := (va_up (va_up I 22 (nI 0)) 23 (nI 0))) (ty0 := tyX3) O hR71 in_X3 tyX3_ok nmX3 (show vcl[2]? = some (RX3, TX3, 27) from rfl) 23 (by decide) rfl q1515 rfl (tyX3_ok 23 (by decide)) rfl rfl (Nat.le_of_ble_eq_true rfl) rfl dX3_labels_31 (fun σ72 hR72 hf72 => ?_)
  refine v_iconst (v := nI 0) O dX3_labels_34 (by decide) ?_
  refine v_istore_n (lv' := [(1, .int (nI 0)), (0, .ref m)]) O hN dX3_labels_35 rfl (by decide) rfl ?_
  refine v_lv [1, 0] rfl ?_
  refine l_X3_labels hG O hN (by omega) (by omega) (I := I) (F := F) hE hn (fun σ7 I7 F7 hR7 hf7 hI7 hF7 h722 h723 => ?_) ((sN S).1 + 1) 0 _ _ F6 (fun _ _ => False) 0 0 (by omega) (by omega) hR72 ((hf6.trans hf71).trans hf72) (fun j h1 h2 => by simp [va_up, h1, h2]) h6 (been0 h621) (by simp [va_up]) (by simp [va_up]) LabJ.nil (fun _ _ h => h.elim) (fun a ha => absurd ha (by omega))
  refine v_aload_n O dX3_labels_67 rfl 0 rfl ?_
  refine v_dup O dX3_labels_68 rfl ?_
  refine v_getf (C := RX3) (T := TX3) (N := 27) (v := .int (nI (odS (sN S)))) O in_X3 hR7.ob rfl 23 (by decide) rfl q1515 (congrArg (fun z => some (Value.int z)) h723) dX3_labels_69 ?_
  refine v_aload_n O dX3_labels_72 rfl 0 rfl ?_
  refine v_getf (C := RX3) (T := TX3) (N := 27) (v := .int (nI (evS (sN S)))) O in_X3 hR7.ob rfl 22 (by decide) rfl q1514 (congrArg (fun z => some (Value.int z)) h722) dX3_labels_73 ?_
  refine v_iconst (v := (-1)) O dX3_labels_76 (by decide) ?_
  refine v_ixor (z := nI (evS (sN S)) ^^^ -1) O dX3_labels_77 rfl ?_
  refine v_iand (z := nI (sd (odS (sN S)) (evS (sN S)))) O dX3_labels_78 (bx_sd (by omega) (by first | omega | exact Nat.pow_lt_pow_right (by omega) (by omega))) ?_
  refine r_puti (K := layM) (I' := (va_up I7 23 (nI (sd (odS (sN S)) (evS (sN S)))))) (ty0 := tyX3) O hR7 in_X3 tyX3_ok nmX3 (show vcl[2]? = some (RX3, TX3, 27) from rfl) 23 (by decide) rfl q1515 rfl (tyX3_ok 23 (by decide)) rfl rfl (Nat.le_of_ble_eq_true rfl) rfl dX3_labels_79 (fun σ91 hR91 hf91 => ?_)
  exact v_vret O rfl dX3_labels_82 (by omega) (by omega) (⟨rfl, _, _, _, hR91, hM.lab (fun j h1 h2 => by rw [← hI7 j h1 h2]; simp [va_up, h2]) hF7, by simp [va_up]; exact h722, by simp [va_up], (hf7.trans hf91)⟩)
theorem lt_of_nI {j : Nat} (h : j < 3) : nI j < nI 3 := by
  rw [Int32.lt_iff_toInt_lt, nI_toInt (by omega), nI_toInt (by omega)]
  omega
theorem nlt_of_nI {j : Nat} (h : 3 ≤ j) (h2 : j < 2 ^ 31) : ¬ nI j < nI 3 := by
  rw [Int32.lt_iff_toInt_lt, nI_toInt (by omega), nI_toInt (by omega)]
  omega
theorem mdX3_labels : vMd yX3_labels 0 := ⟨by decide +kernel, by decide +kernel, by decide +kernel⟩
theorem mdX3_setOf : vMd yX3_setOf 1 := ⟨by decide +kernel, by decide +kernel, by decide +kernel⟩
theorem c_X3_sets {G : vGC} (hG : vGok G) {σ : vSt} {m : Nat} {S : SysM} {t0 : Nat} (hA : ModAt σ m S t0) (hS : okS S) {x : Int32} : Ct G yX3_sets (ws_ yX3_sets cX3_sets 2 (some .int)) 16 0 0 σ [.ref m, .int x] (fun v σ9 => v = some (.int (opSets S x).2.1) ∧ ModAt σ9 m (opSets S x).2.2 (opSets S x).1 ∧ FrL [m] σ σ9) vNo := by
  refine ct_of hG (by decide) (Nat.le_of_ble_eq_true rfl) fun X hN O hnm htb => ?_
  show V G X _ 0 0 σ 0 [(0, .ref m), (1, .int x)] []
  obtain ⟨ad, I, F, L, hR, hM⟩ := id hA
  have hd := okS.d S hS
  have hn1 : 1 ≤ (sN S).1 := hd.1
  have hn : (sN S).1 ≤ 12 := hd.2.1
  have hp12 := p12 hn
  have hal := all_lt (N := sN S)
  refine v_aload_n O dX3_sets_0 rfl 0 rfl ?_
  refine v_iconst (v := nI 0) O dX3_sets_1 (by decide) ?_
  refine r_puti (K := layM) (I' := (va_up I 0 (nI 0))) (ty0 := tyX3) O hR in_X3 tyX3_ok nmX3 (show vcl[2]? = some (RX3, TX3, 27) from rfl) 0 (by decide) rfl q1492 rfl (tyX3_ok 0 (by decide)) rfl rfl (Nat.le_of_ble_eq_true rfl) rfl dX3_sets_2 (fun σ1 hR1 hf1 => ?_)
  refine v_aload_n O dX3_sets_5 rfl 0 rfl ?_
  refine v_iload_n O dX3_sets_6 rfl 1 rfl ?_
  refine v_iconst (v := nI 0) O dX3_sets_7 (by decide) ?_
  refine v_iconst (v := nI 5) O dX3_sets_8 (by decide) ?_
  refine v_callS (as := [.int x, .int (nI 0), .int (nI 5)]) (rest := [.ref m]) O (c_X3_in hG (x := x) (lo := nI 0) (hi := nI 5)) q1587 q1588 q77 q1589 mdX3_in rfl (by decide) (by omega) (by omega) (by omega) (Nat.le_of_ble_eq_true rfl) rfl dX3_sets_9 (fun v9 σ9 hp9 => ?_) (fun _ _ _ h => False.elim h)
  obtain ⟨rfl, hs9⟩ := hp9
  obtain rfl := hs9.symm
  refine v_if_neB (tgt := 19) O dX3_sets_12 (by decide) (fun h_12 => ?_) (fun h_12 => ?_)
  · have h12 := of_decide_eq_true h_12
    obtain ⟨j, hj, rfl⟩ := nI_of2 (n := 5) (M := nI 5) rfl (Int32.not_lt.mpr h12.1) h12.2
    refine v_iconst (v := nI 0) O dX3_sets_19 (by decide) ?_
    refine v_iconst (v := nI 1) O dX3_sets_20 (by decide) ?_
    refine v_iconst (v := nI 1) O dX3_sets_21 (by decide) ?_
    refine v_callV (as := [.int (nI 0), .int (nI 1), .int (nI 1)]) (rest := []) O (c_X3_bad hG (p := false) (w := 1) (r := 1) hR1 (by omega) (by omega) rfl) q1590 q1592 qs32 q77 q1593 hR1.ob (show vcl[2]? = some (RX3, TX3, 27) from rfl) rfl mdX3_bad rfl (by decide) (by omega) (by omega) (by omega) (Nat.le_of_ble_eq_true rfl) rfl dX3_sets_22 (fun v9 σ3 hp9 => ?_) (fun _ _ _ h => False.elim h)
    obtain ⟨rfl, hR2, hf2⟩ := hp9
    replace hR2 : RecAt layM σ3 m ad (va_up I 0 (nI 0)) F L := hR2
    refine v_if_eqB (tgt := 30) O dX3_sets_25 (by decide) (fun h_25 => ?_) (fun h_25 => ?_)
    · refine v_iload_n O dX3_sets_30 rfl 1 rfl ?_
      refine v_iconst (v := nI 3) O dX3_sets_31 (by decide) ?_
      refine v_icmp_geN (tgt := 41) O dX3_sets_32 (by decide) (by omega) (by omega) (fun h_32 => ?_) (fun h_32 => ?_)
      · have hsl1 := allN_lt hn
        obtain ⟨hev, hod⟩ := labs_lt hn
        have hsl2 := sd_lt (b := evS (sN S)) hsl1
        have hsl3 := sd_lt (b := evS (sN S)) hod
        have hsl4 := misN_lt hn
        have hsl5 := bsdN_lt (N := sN S) hn
        refine v_aload_n O dX3_sets_41 rfl 0 rfl ?_
        refine v_callV (as := []) (rest := []) O (c_X3_labels hG hR2 (hM.thr 0) hS) q1796 q1798 qs63 q77 q1799 hR2.ob (show vcl[2]? = some (RX3, TX3, 27) from rfl) rfl mdX3_labels rfl (by decide) (by omega) (by omega) (by omega) (Nat.le_of_ble_eq_true rfl) rfl dX3_sets_42 (fun v9 σ5 hp9 => ?_) (fun _ _ _ h => False.elim h)
        obtain ⟨rfl, I4, F4, L4, hR4, hM4, h224, h234, hf4⟩ := hp9
        have hE4 : Enc (F4 9) (sN S) := hM4.e9
        refine v_iload_n O dX3_sets_45 rfl 1 rfl ?_
        refine v_iconst (v := nI 3) O dX3_sets_46 (by decide) ?_
        refine v_icmp_neN (tgt := 57) O dX3_sets_47 (by decide) (by omega) (by omega) (fun h_47 => ?_) (fun h_47 => ?_)
        · refine v_iload_n O dX3_sets_57 rfl 1 rfl ?_
          refine v_iconst (v := nI 4) O dX3_sets_58 (by decide) ?_
          refine v_icmp_neN (tgt := 69) O dX3_sets_59 (by decide) (by omega) (by omega) (fun h_59 => ?_) (fun h_59 => ?_)
          · 
            refine v_aload_n O dX3_sets_69 rfl 0 rfl ?_
            refine v_callV (as := []) (rest := []) O (c_X3_all hG hR4 hE4 (by first | omega | exact hn)) q1756 q1758 qs58 q77 q1759 hR4.ob (show vcl[2]? = some (RX3, TX3, 27) from rfl) rfl mdX3_all rfl (by decide) (by omega) (by omega) (by omega) (Nat.le_of_ble_eq_true rfl) rfl dX3_sets_70 (fun v9 σ9 hp9 => ?_) (fun _ _ _ h => False.elim h)
            obtain ⟨rfl, hs9⟩ := hp9
            obtain rfl := hs9.symm
            refine v_aload_n O dX3_sets_73 rfl 0 rfl ?_
            refine v_getf (C := RX3) (T := TX3) (N := 27) (v := .int (nI (evS (sN S)))) O in_X3 hR4.ob rfl 22 (by decide) rfl q1514 (congrArg (fun z => some (Value.int z)) h224) dX3_sets_74 ?_
            refine v_iconst (v := (-1)) O dX3_sets_77 (by decide) ?_
            refine v_ixor (z := nI (evS (sN S)) ^^^ -1) O dX3_sets_78 rfl ?_
            refine v_iand (z := nI (sd (allN (sN S)) (evS (sN S)))) O dX3_sets_79 (bx_sd (by omega) (by first | omega | exact Nat.pow_lt_pow_right (by omega) (by omega))) ?_
            refine v_aload_n O dX3_sets_80 rfl 0 rfl ?_
            refine v_getf (C := RX3) (T := TX3) (N := 27) (v := .int (nI (sd (odS (sN S)) (evS (sN S))))) O in_X3 hR4.ob rfl 23 (by decide) rfl q1515 (congrArg (fun z => some (Value.int z)) h234) dX3_sets_81 ?_
            refine v_iconst (v := (-1)) O dX3_sets_84 (by decide) ?_
            refine v_ixor (z := nI (sd (odS (sN S)) (evS (sN S))) ^^^ -1) O dX3_sets_85 rfl ?_
            refine v_iand (z := nI (sd (sd (allN (sN S)) (evS (sN S))) (sd (odS (sN S)) (evS (sN S))))) O dX3_sets_86 (bx_sd (by omega) (by first | omega | exact Nat.pow_lt_pow_right (by omega) (by omega))) ?_
            exact v_iret O rfl dX3_sets_87 (by omega) (by omega) (by rw [show opSets S (nI j) = (0, nI (sd (sd (allN (sN S)) (evS (sN S))) (sd (odS (sN S)) (evS (sN S)))), S) from by rw [opSets, if_pos h12]; rw [if_neg (nlt_of_nI (by omega) (by omega)), labV, if_neg (fun e => h_47 (nI_inj (by omega) (by omega) e)), if_neg (fun e => h_59 (nI_inj (by omega) (by omega) e))]]; exact ⟨rfl, ⟨ad, _, _, _, hR4, hM4⟩, ((hf1.trans hf2).trans hf4)⟩)
          · 
            refine v_aload_n O dX3_sets_62 rfl 0 rfl ?_
            refine v_getf (C := RX3) (T := TX3) (N := 27) (v := .int (nI (sd (odS (sN S)) (evS (sN S))))) O in_X3 hR4.ob rfl 23 (by decide) rfl q1515 (congrArg (fun z => some (Value.int z)) h234) dX3_sets_63 ?_
            refine v_goto (tgt := 87) O dX3_sets_66 (by decide) ?_
            exact v_iret O rfl dX3_sets_87 (by omega) (by omega) (by rw [show opSets S (nI j) = (0, nI (sd (odS (sN S)) (evS (sN S))), S) from by rw [opSets, if_pos h12]; rw [if_neg (nlt_of_nI (by omega) (by omega)), labV, if_neg (fun e => h_47 (nI_inj (by omega) (by omega) e)), if_pos (congrArg nI h_59)]]; exact ⟨rfl, ⟨ad, _, _, _, hR4, hM4⟩, ((hf1.trans hf2).trans hf4)⟩)
        · 
          refine v_aload_n O dX3_sets_50 rfl 0 rfl ?_
          refine v_getf (C := RX3) (T := TX3) (N := 27) (v := .int (nI (evS (sN S)))) O in_X3 hR4.ob rfl 22 (by decide) rfl q1514 (congrArg (fun z => some (Value.int z)) h224) dX3_sets_51 ?_
          refine v_goto (tgt := 87) O dX3_sets_54 (by decide) ?_
          exact v_iret O rfl dX3_sets_87 (by omega) (by omega) (by rw [show opSets S (nI j) = (0, nI (evS (sN S)), S) from by rw [opSets, if_pos h12]; rw [if_neg (nlt_of_nI (by omega) (by omega)), labV, if_pos (congrArg nI h_47)]]; exact ⟨rfl, ⟨ad, _, _, _, hR4, hM4⟩, ((hf1.trans hf2).trans hf4)⟩)
      · refine v_aload_n O dX3_sets_35 rfl 0 rfl ?_
        refine v_iload_n O dX3_sets_36 rfl 1 rfl ?_
        refine v_callV (as := [.int (nI j)]) (rest := []) O (c_X3_setOf hG hR2 (hM.thr 0) hS (j := j) (by omega)) q1807 q1809 qs65 q77 q1810 hR2.ob (show vcl[2]? = some (RX3, TX3, 27) from rfl) rfl mdX3_setOf rfl (by decide) (by omega) (by omega) (by omega) (Nat.le_of_ble_eq_true rfl) rfl dX3_sets_37 (fun v9 σ7 hp9 => ?_) (fun _ _ _ h => False.elim h)
        obtain ⟨rfl, I6, F6, L6, hR6, hM6, hf6⟩ := hp9
        have hE6 : Enc (F6 9) (sN S) := hM6.e9
        exact v_iret O rfl dX3_sets_40 (by omega) (by omega) (by rw [show opSets S (nI j) = (0, nI (setV (sN S) (nI j)), S) from by rw [opSets, if_pos h12]; rw [if_pos (lt_of_nI (by omega))]]; exact ⟨rfl, ⟨ad, _, _, _, hR6, hM6⟩, ((hf1.trans hf2).trans hf6)⟩)
    · exact absurd h_25 (by decide)
  · have h12 := of_decide_eq_false h_12
    refine v_iconst (v := nI 1) O dX3_sets_15 (by decide) ?_
    refine v_goto (tgt := 20) O dX3_sets_16 (by decide) ?_
    refine v_iconst (v := nI 1) O dX3_sets_20 (by decide) ?_
    refine v_iconst (v := nI 1) O dX3_sets_21 (by decide) ?_
    refine v_callV (as := [.int (nI 1), .int (nI 1), .int (nI 1)]) (rest := []) O (c_X3_bad hG (p := true) (w := 1) (r := 1) hR1 (by omega) (by omega) rfl) q1590 q1592 qs32 q77 q1593 hR1.ob (show vcl[2]? = some (RX3, TX3, 27) from rfl) rfl mdX3_bad rfl (by decide) (by omega) (by omega) (by omega) (Nat.le_of_ble_eq_true rfl) rfl dX3_sets_22 (fun v9 σ9 hp9 => ?_) (fun _ _ _ h => False.elim h)
    obtain ⟨rfl, hR8, hf8⟩ := hp9
    replace hR8 : RecAt layM σ9 m ad (va_up (va_up I 0 (nI 0)) 0 (nI 1)) (va_up F 1 (va_up (F 1) 1 ((F 1) 1 + nI 1))) L := hR8
    refine v_if_eqB (tgt := 30) O dX3_sets_25 (by decide) (fun h_25 => ?_) (fun h_25 => ?_)
    · exact absurd h_25 (by decide)
    · refine v_iconst (v := nI 0) O dX3_sets_28 (by decide) ?_
      exact v_iret O rfl dX3_sets_29 (by omega) (by omega) (by rw [show opSets S x = (1, nI 0, refS S 1) from by rw [opSets, if_neg h12]]; exact ⟨rfl, ⟨ad, _, _, _, hR8, (((hM.thr 0).rf (r := 1) (by omega)).thr 1)⟩, (hf1.trans hf8)⟩)
