theorem mdJ1_sub : vMd yJ1_sub 3 := ⟨by decide +kernel, by decide +kernel, by decide +kernel⟩
theorem c_J1_size {G : vGC} (hG : vGok G) {σ : vSt} {d : Nat} {l : List Nat} (hD : DeqAt σ d l) : Ct G yJ1_size (ws_ yJ1_size cJ1_size 1 (some .int)) 2 0 0 σ [.ref d] (fun v σ9 => v = some (.int (nI l.length)) ∧ σ9 = σ) vNo := by
  refine ct_of hG (by decide) (Nat.le_of_ble_eq_true rfl) fun X hN O hnm htb => ?_
  show V G X _ 0 0 σ 0 [(0, .ref d)] []
  obtain ⟨es, hd, tl, f, hz, hd1, he1, h17, hlen, htl, hfl⟩ := id hD
  have hde : d ≠ es := fun e => by rw [e, he1] at hd1; cases hd1
  have htl17 : tl < 17 := by rw [htl]; exact Nat.mod_lt _ (by omega)
  have hsz : (if hd ≤ tl then tl - hd else tl + 17 - hd) = l.length := by
    by_cases h1 : hd + l.length < 17
    · rw [Nat.mod_eq_of_lt h1] at htl
      rw [if_pos (by omega)]; omega
    · rw [show hd + l.length = hd + l.length - 17 + 17 by omega, Nat.add_mod_right, Nat.mod_eq_of_lt (by omega)] at htl
      rw [if_neg (by omega)]; omega
  refine v_aload_n O dJ1_size_0 rfl 0 rfl ?_
  refine v_getf (C := RJ1) (T := TJ1) (N := 3) (v := .int (nI tl)) O in_J1 hd1 rfl 2 (by decide) rfl q128 rfl dJ1_size_1 ?_
  refine v_aload_n O dJ1_size_4 rfl 0 rfl ?_
  refine v_getf (C := RJ1) (T := TJ1) (N := 3) (v := .int (nI hd)) O in_J1 hd1 rfl 1 (by decide) rfl q127 rfl dJ1_size_5 ?_
  refine v_aload_n O dJ1_size_8 rfl 0 rfl ?_
  refine v_getf (C := RJ1) (T := TJ1) (N := 3) (v := .ref es) O in_J1 hd1 rfl 0 (by decide) rfl q126 rfl dJ1_size_9 ?_
  refine v_alen (v := nI 17) O he1 rfl rfl dJ1_size_12 ?_
  refine v_callS (as := [.int (nI tl), .int (nI hd), .int (nI 17)]) (rest := []) O (c_J1_sub hG (i := tl) (j := hd) (by omega) (by omega)) q326 q327 q74 q328 mdJ1_sub rfl (by decide) (by omega) (by omega) (by omega) (Nat.le_of_ble_eq_true rfl) rfl dJ1_size_13 (fun v9 σ9 hp9 => ?_) (fun _ _ _ h => False.elim h)
  obtain ⟨rfl, hs9⟩ := hp9
  obtain rfl := hs9.symm
  exact v_iret O rfl dJ1_size_16 (by omega) (by omega) (⟨by rw [hsz], rfl⟩)
theorem c_J1_isEmpty {G : vGC} (hG : vGok G) {σ : vSt} {d : Nat} {l : List Nat} (hD : DeqAt σ d l) : Ct G yJ1_isEmpty (ws_ yJ1_isEmpty cJ1_isEmpty 1 (some .boolean)) 1 0 0 σ [.ref d] (fun v σ9 => v = some (.int (bI (decide (l.length = 0)))) ∧ σ9 = σ) vNo := by
  refine ct_of hG (by decide) (Nat.le_of_ble_eq_true rfl) fun X hN O hnm htb => ?_
  show V G X _ 0 0 σ 0 [(0, .ref d)] []
  obtain ⟨es, hd, tl, f, hz, hd1, he1, h17, hlen, htl, hfl⟩ := id hD
  have hde : d ≠ es := fun e => by rw [e, he1] at hd1; cases hd1
  have htl17 : tl < 17 := by rw [htl]; exact Nat.mod_lt _ (by omega)
  have hem : hd = tl ↔ l.length = 0 := by
    by_cases h1 : hd + l.length < 17
    · rw [Nat.mod_eq_of_lt h1] at htl; omega
    · rw [show hd + l.length = hd + l.length - 17 + 17 by omega, Nat.add_mod_right, Nat.mod_eq_of_lt (by omega)] at htl; omega
  refine v_aload_n O dJ1_isEmpty_0 rfl 0 rfl ?_
  refine v_getf (C := RJ1) (T := TJ1) (N := 3) (v := .int (nI hd)) O in_J1 hd1 rfl 1 (by decide) rfl q127 rfl dJ1_isEmpty_1 ?_
  refine v_aload_n O dJ1_isEmpty_4 rfl 0 rfl ?_
  refine v_getf (C := RJ1) (T := TJ1) (N := 3) (v := .int (nI tl)) O in_J1 hd1 rfl 2 (by decide) rfl q128 rfl dJ1_isEmpty_5 ?_
  refine v_icmp_neN (tgt := 15) O dJ1_isEmpty_8 (by decide) (by omega) (by omega) (fun h_8 => ?_) (fun h_8 => ?_)
  · refine v_iconst (v := nI 0) O dJ1_isEmpty_15 (by decide) ?_
    exact v_zret (ty := .boolean) O rfl rfl dJ1_isEmpty_16 (by omega) (by omega) (⟨bIF (decide_eq_false (fun e => absurd (hem.mpr e) (by omega))), rfl⟩)
  · refine v_iconst (v := nI 1) O dJ1_isEmpty_11 (by decide) ?_
    refine v_goto (tgt := 16) O dJ1_isEmpty_12 (by decide) ?_
    exact v_zret (ty := .boolean) O rfl rfl dJ1_isEmpty_16 (by omega) (by omega) (⟨bIT (decide_eq_true (hem.mp (by omega))), rfl⟩)
theorem mdJ1_elementAt : vMd yJ1_elementAt 2 := ⟨by decide +kernel, by decide +kernel, by decide +kernel⟩
theorem mdJ1_inc : vMd yJ1_inc 2 := ⟨by decide +kernel, by decide +kernel, by decide +kernel⟩
theorem c_J1_pollFirst {G : vGC} (hG : vGok G) {σ : vSt} {d a : Nat} {l : List Nat} (hD : DeqAt σ d (a :: l)) : Ct G yJ1_pollFirst (ws_ yJ1_pollFirst cJ1_pollFirst 4 (some (.object "java/lang/Object"))) 2 0 0 σ [.ref d] (fun v σ9 => v = some (.ref a) ∧ DeqAt σ9 d l ∧ FrL [d] σ σ9) vNo := by
  refine ct_of hG (by decide) (Nat.le_of_ble_eq_true rfl) fun X hN O hnm htb => ?_
  show V G X _ 0 0 σ 0 [(0, .ref d)] []
  obtain ⟨es, hd, tl, f, hz, hd1, he1, h17, hlen, htl, hfl⟩ := id hD
  have hde : d ≠ es := fun e => by rw [e, he1] at hd1; cases hd1
  have htl17 : tl < 17 := by rw [htl]; exact Nat.mod_lt _ (by omega)
  have hla : f hd = some a := by
    have h9 := hfl 0 (by simp)
    rw [Nat.add_zero, Nat.mod_eq_of_lt h17] at h9
    exact h9
  refine v_aload_n O dJ1_pollFirst_0 rfl 0 rfl ?_
  refine v_getf (C := RJ1) (T := TJ1) (N := 3) (v := .ref es) O in_J1 hd1 rfl 0 (by decide) rfl q126 rfl dJ1_pollFirst_1 ?_
  refine v_dup O dJ1_pollFirst_4 rfl ?_
  refine v_astore_n (lv' := [(1, .ref es), (0, .ref d)]) O hN dJ1_pollFirst_5 rfl (by decide) rfl ?_
  refine v_aload_n O dJ1_pollFirst_6 rfl 1 rfl ?_
  refine v_getf (C := RJ1) (T := TJ1) (N := 3) (v := .int (nI hd)) O in_J1 hd1 rfl 1 (by decide) rfl q127 rfl dJ1_pollFirst_7 ?_
  refine v_dup O dJ1_pollFirst_10 rfl ?_
  refine v_istore_n (lv' := [(2, .int (nI hd)), (1, .ref es), (0, .ref d)]) O hN dJ1_pollFirst_11 rfl (by decide) rfl ?_
  refine v_callS (as := [.ref es, .int (nI hd)]) (rest := []) O (c_J1_elementAt hG (f := f) he1 (by omega) hla) q337 q338 q74 q339 mdJ1_elementAt rfl (by decide) (by omega) (by omega) (by omega) (Nat.le_of_ble_eq_true rfl) rfl dJ1_pollFirst_12 (fun v9 σ9 hp9 => ?_) (fun _ _ _ h => False.elim h)
  obtain ⟨rfl, hs9⟩ := hp9
  obtain rfl := hs9.symm
  refine v_astore_n (lv' := [(3, .ref a), (2, .int (nI hd)), (1, .ref es), (0, .ref d)]) O hN dJ1_pollFirst_15 rfl (by decide) rfl ?_
  refine v_aload_n O dJ1_pollFirst_16 rfl 0 rfl ?_
  refine v_ifnull O dJ1_pollFirst_17 ?_
  refine v_aload_n O dJ1_pollFirst_20 rfl 2 rfl ?_
  refine v_iload_n O dJ1_pollFirst_21 rfl 1 rfl ?_
  refine v_null O dJ1_pollFirst_22 ?_
  refine v_aastN O hz he1 (by omega) (by omega) dJ1_pollFirst_23 ?_
  have hf1 : FrL [d] σ (vUp σ es (d, .inl (5, 17, .inr (.inr (.inr (.inr (va_up f hd none))))))) := FrL.up he1 (by simp)
  have he1 : (vUp σ es (d, .inl (5, 17, .inr (.inr (.inr (.inr (va_up f hd none))))))) es = some (d, .inl (5, 17, .inr (.inr (.inr (.inr (va_up f hd none)))))) := vUp_s
  have hd1 : (vUp σ es (d, .inl (5, 17, .inr (.inr (.inr (.inr (va_up f hd none))))))) d = some (d, .inr (9, [.ref es, .int (nI hd), .int (nI tl)])) := (vUp_n hde).trans hd1
  generalize (vUp σ es (d, .inl (5, 17, .inr (.inr (.inr (.inr (va_up f hd none))))))) = σ1 at hf1 hd1 he1 ⊢
  refine v_aload_n O dJ1_pollFirst_24 rfl 3 rfl ?_
  refine v_iload_n O dJ1_pollFirst_25 rfl 1 rfl ?_
  refine v_aload_n O dJ1_pollFirst_26 rfl 2 rfl ?_
  refine v_alen (v := nI 17) O he1 rfl rfl dJ1_pollFirst_27 ?_
  refine v_callS (as := [.int (nI hd), .int (nI 17)]) (rest := [.ref d]) O (c_J1_inc hG (i := hd) (by omega)) q340 q341 q74 q342 mdJ1_inc rfl (by decide) (by omega) (by omega) (by omega) (Nat.le_of_ble_eq_true rfl) rfl dJ1_pollFirst_28 (fun v9 σ9 hp9 => ?_) (fun _ _ _ h => False.elim h)
  obtain ⟨rfl, hs9⟩ := hp9
  obtain rfl := hs9.symm
  refine v_putf (ty0 := tyJ1) O in_J1 tyJ1_ok nmJ1 hz hd1 (show vcl[9]? = some (RJ1, TJ1, 3) from rfl) 1 (by decide) rfl q127 rfl (tyJ1_ok 1 (by decide)) rfl rfl (Nat.le_of_ble_eq_true rfl) dJ1_pollFirst_31 ?_
  have hf2 : FrL [d] σ1 (vUp σ1 d (d, .inr (9, [.ref es, .int (nI ((hd + 1) % 17)), .int (nI tl)]))) := FrL.up hd1 (by simp)
  have hd2 : (vUp σ1 d (d, .inr (9, [.ref es, .int (nI ((hd + 1) % 17)), .int (nI tl)]))) d = some (d, .inr (9, [.ref es, .int (nI ((hd + 1) % 17)), .int (nI tl)])) := vUp_s
  have he2 : (vUp σ1 d (d, .inr (9, [.ref es, .int (nI ((hd + 1) % 17)), .int (nI tl)]))) es = some (d, .inl (5, 17, .inr (.inr (.inr (.inr (va_up f hd none)))))) := (vUp_n (Ne.symm hde)).trans he1
  show V G X _ _ _ (vUp σ1 d (d, .inr (9, [.ref es, .int (nI ((hd + 1) % 17)), .int (nI tl)]))) 34 [(3, .ref a), (2, .int (nI hd)), (1, .ref es), (0, .ref d)] []
  generalize (vUp σ1 d (d, .inr (9, [.ref es, .int (nI ((hd + 1) % 17)), .int (nI tl)]))) = σ2 at hf2 hd2 he2 ⊢
  refine v_aload_n O dJ1_pollFirst_34 rfl 0 rfl ?_
  exact v_aret O rfl (Or.inl ⟨_, rfl⟩) (Or.inr ⟨_, rfl⟩) dJ1_pollFirst_35 (by omega) (by omega) (⟨rfl, ⟨es, (hd + 1) % 17, tl, (va_up f hd none), hz, hd2, he2, Nat.mod_lt _ (by omega), by rw [List.length_cons] at hlen; omega, by rw [htl, List.length_cons, Nat.mod_add_mod]; congr 1; omega, fun i hi => by
    have h9 := hfl (i + 1) (by rw [List.length_cons]; omega)
    have h8 : hlen = hlen := rfl
    rw [List.length_cons] at hlen
    rw [show ((hd + 1) % 17 + i) % 17 = (hd + (i + 1)) % 17 by rw [Nat.mod_add_mod]; congr 1; omega, up_f]
    · rw [h9]; simp
    · intro e
      rcases Nat.lt_or_ge (hd + (i + 1)) 17 with h | h
      · rw [Nat.mod_eq_of_lt h] at e; omega
      · rw [show hd + (i + 1) = hd + (i + 1) - 17 + 17 by omega, Nat.add_mod_right, Nat.mod_eq_of_lt (by omega)] at e; omega⟩, (hf1.trans hf2)⟩)
theorem mdJ1_pollFirst : vMd yJ1_pollFirst 0 := ⟨by decide +kernel, by decide +kernel, by decide +kernel⟩
theorem c_J1_removeFirst {G : vGC} (hG : vGok G) {σ : vSt} {d a : Nat} {l : List Nat} (hD : DeqAt σ d (a :: l)) : Ct G yJ1_removeFirst (ws_ yJ1_removeFirst cJ1_removeFirst 2 (some (.object "java/lang/Object"))) 3 0 0 σ [.ref d] (fun v σ9 => v = some (.ref a) ∧ DeqAt σ9 d l ∧ FrL [d] σ σ9) vNo := by
  refine ct_of hG (by decide) (Nat.le_of_ble_eq_true rfl) fun X hN O hnm htb => ?_
  show V G X _ 0 0 σ 0 [(0, .ref d)] []
  obtain ⟨es, hd, tl, f, hz, hd1, he1, h17, hlen, htl, hfl⟩ := id hD
  have hde : d ≠ es := fun e => by rw [e, he1] at hd1; cases hd1
  have htl17 : tl < 17 := by rw [htl]; exact Nat.mod_lt _ (by omega)
  refine v_aload_n O dJ1_removeFirst_0 rfl 0 rfl ?_
  refine v_callV (as := []) (rest := []) O (c_J1_pollFirst hG hD) q333 q334 q335 q74 q336 hd1 (show vcl[9]? = some (RJ1, TJ1, 3) from rfl) rfl mdJ1_pollFirst rfl (by decide) (by omega) (by omega) (by omega) (Nat.le_of_ble_eq_true rfl) rfl dJ1_removeFirst_1 (fun v9 σ2 hp9 => ?_) (fun _ _ _ h => False.elim h)
  obtain ⟨rfl, hDq1, hf1⟩ := hp9
  refine v_astore_n (lv' := [(1, .ref a), (0, .ref d)]) O hN dJ1_removeFirst_4 rfl (by decide) rfl ?_
  refine v_aload_n O dJ1_removeFirst_5 rfl 0 rfl ?_
  refine v_ifnonnull (tgt := 17) O dJ1_removeFirst_6 (by decide) ?_
  refine v_aload_n O dJ1_removeFirst_17 rfl 0 rfl ?_
  exact v_aret O rfl (Or.inl ⟨_, rfl⟩) (Or.inr ⟨_, rfl⟩) dJ1_removeFirst_18 (by omega) (by omega) (⟨rfl, hDq1, hf1⟩)
theorem c_J1_addLast {G : vGC} (hG : vGok G) {σ : vSt} {d x : Nat} {l : List Nat} (hD : DeqAt σ d l) (h7 : l.length ≤ 7) {lb : Nat} {vs : List Value} (hx : σ x = some (lb, .inr (1, vs))) : Ct G yJ1_addLast (ws_ yJ1_addLast cJ1_addLast 3 none) 2 0 0 σ [.ref d, .ref x] (fun v σ9 => v = none ∧ DeqAt σ9 d (l ++ [x]) ∧ FrL [d] σ σ9) vNo := by
  refine ct_of hG (by decide) (Nat.le_of_ble_eq_true rfl) fun X hN O hnm htb => ?_
  show V G X _ 0 0 σ 0 [(0, .ref d), (1, .ref x)] []
  obtain ⟨es, hd, tl, f, hz, hd1, he1, h17, hlen, htl, hfl⟩ := id hD
  have hde : d ≠ es := fun e => by rw [e, he1] at hd1; cases hd1
  have htl17 : tl < 17 := by rw [htl]; exact Nat.mod_lt _ (by omega)
  have hne17 : hd ≠ (tl + 1) % 17 := fun e => by
    rw [htl, Nat.mod_add_mod] at e
    rcases Nat.lt_or_ge (hd + l.length + 1) 17 with h | h
    · rw [Nat.mod_eq_of_lt h] at e; omega
    · rw [show hd + l.length + 1 = hd + l.length + 1 - 17 + 17 by omega, Nat.add_mod_right, Nat.mod_eq_of_lt (by omega)] at e; omega
  refine v_aload_n O dJ1_addLast_0 rfl 1 rfl ?_
  refine v_ifnonnull (tgt := 12) O dJ1_addLast_1 (by decide) ?_
  refine v_aload_n O dJ1_addLast_12 rfl 0 rfl ?_
  refine v_getf (C := RJ1) (T := TJ1) (N := 3) (v := .ref es) O in_J1 hd1 rfl 0 (by decide) rfl q126 rfl dJ1_addLast_13 ?_
  refine v_astore_n (lv' := [(2, .ref es), (0, .ref d), (1, .ref x)]) O hN dJ1_addLast_16 rfl (by decide) rfl ?_
  refine v_aload_n O dJ1_addLast_17 rfl 0 rfl ?_
  refine v_aload_n O dJ1_addLast_18 rfl 1 rfl ?_
  refine v_getf (C := RJ1) (T := TJ1) (N := 3) (v := .int (nI tl)) O in_J1 hd1 rfl 2 (by decide) rfl q128 rfl dJ1_addLast_19 ?_
  refine v_aload_n O dJ1_addLast_22 rfl 2 rfl ?_
  refine v_aast O hz he1 (by omega) (by omega) hx (show vcl[1]? = some (RX2, TX2, 3) from rfl) q1885 dJ1_addLast_23 ?_
  have hf1 : FrL [d] σ (vUp σ es (d, .inl (5, 17, .inr (.inr (.inr (.inr (va_up f tl (some x)))))))) := FrL.up he1 (by simp)
  have he1 : (vUp σ es (d, .inl (5, 17, .inr (.inr (.inr (.inr (va_up f tl (some x)))))))) es = some (d, .inl (5, 17, .inr (.inr (.inr (.inr (va_up f tl (some x))))))) := vUp_s
  have hd1 : (vUp σ es (d, .inl (5, 17, .inr (.inr (.inr (.inr (va_up f tl (some x)))))))) d = some (d, .inr (9, [.ref es, .int (nI hd), .int (nI tl)])) := (vUp_n hde).trans hd1
  generalize (vUp σ es (d, .inl (5, 17, .inr (.inr (.inr (.inr (va_up f tl (some x)))))))) = σ1 at hf1 hd1 he1 ⊢
  refine v_aload_n O dJ1_addLast_24 rfl 1 rfl ?_
  refine v_getf (C := RJ1) (T := TJ1) (N := 3) (v := .int (nI hd)) O in_J1 hd1 rfl 1 (by decide) rfl q127 rfl dJ1_addLast_25 ?_
  refine v_aload_n O dJ1_addLast_28 rfl 1 rfl ?_
  refine v_aload_n O dJ1_addLast_29 rfl 1 rfl ?_
  refine v_getf (C := RJ1) (T := TJ1) (N := 3) (v := .int (nI tl)) O in_J1 hd1 rfl 2 (by decide) rfl q128 rfl dJ1_addLast_30 ?_
  refine v_aload_n O dJ1_addLast_33 rfl 0 rfl ?_
  refine v_alen (v := nI 17) O he1 rfl rfl dJ1_addLast_34 ?_
  refine v_callS (as := [.int (nI tl), .int (nI 17)]) (rest := [.ref d, .int (nI hd)]) O (c_J1_inc hG (i := tl) (by omega)) q340 q341 q74 q342 mdJ1_inc rfl (by decide) (by omega) (by omega) (by omega) (Nat.le_of_ble_eq_true rfl) rfl dJ1_addLast_35 (fun v9 σ9 hp9 => ?_) (fun _ _ _ h => False.elim h)
  obtain ⟨rfl, hs9⟩ := hp9
  obtain rfl := hs9.symm
  refine v_dup_x1 O dJ1_addLast_38 rfl rfl ?_
  refine v_putf (ty0 := tyJ1) O in_J1 tyJ1_ok nmJ1 hz hd1 (show vcl[9]? = some (RJ1, TJ1, 3) from rfl) 2 (by decide) rfl q128 rfl (tyJ1_ok 2 (by decide)) rfl rfl (Nat.le_of_ble_eq_true rfl) dJ1_addLast_39 ?_
  have hf2 : FrL [d] σ1 (vUp σ1 d (d, .inr (9, [.ref es, .int (nI hd), .int (nI ((tl + 1) % 17))]))) := FrL.up hd1 (by simp)
  have hd2 : (vUp σ1 d (d, .inr (9, [.ref es, .int (nI hd), .int (nI ((tl + 1) % 17))]))) d = some (d, .inr (9, [.ref es, .int (nI hd), .int (nI ((tl + 1) % 17))])) := vUp_s
  have he2 : (vUp σ1 d (d, .inr (9, [.ref es, .int (nI hd), .int (nI ((tl + 1) % 17))]))) es = some (d, .inl (5, 17, .inr (.inr (.inr (.inr (va_up f tl (some x))))))) := (vUp_n (Ne.symm hde)).trans he1
  show V G X _ _ _ (vUp σ1 d (d, .inr (9, [.ref es, .int (nI hd), .int (nI ((tl + 1) % 17))]))) 42 [(2, .ref es), (0, .ref d), (1, .ref x)] [.int (nI ((tl + 1) % 17)), .int (nI hd)]
  generalize (vUp σ1 d (d, .inr (9, [.ref es, .int (nI hd), .int (nI ((tl + 1) % 17))]))) = σ2 at hf2 hd2 he2 ⊢
  refine v_icmp_neN (tgt := 50) O dJ1_addLast_42 (by decide) (by omega) (by omega) (fun h_42 => ?_) (fun h_42 => ?_)
  · exact v_vret O rfl dJ1_addLast_50 (by omega) (by omega) (⟨rfl, ⟨es, hd, (tl + 1) % 17, (va_up f tl (some x)), hz, hd2, he2, h17, by rw [List.length_append, List.length_singleton]; omega, by rw [htl, List.length_append, List.length_singleton, Nat.mod_add_mod, Nat.add_assoc], fun i hi => by
      rw [List.length_append, List.length_singleton] at hi
      by_cases e : i = l.length
      · rw [e, ← htl, up_t]; simp [List.getD_eq_getElem?_getD]
      · have hil : i < l.length := by omega
        rw [up_f, hfl i hil, List.getD_eq_getElem?_getD, List.getD_eq_getElem?_getD, List.getElem?_append_left hil]
        intro e2
        rw [htl] at e2
        rcases Nat.lt_or_ge (hd + i) 17 with h | h
        · rw [Nat.mod_eq_of_lt h] at e2
          rcases Nat.lt_or_ge (hd + l.length) 17 with h3 | h3
          · rw [Nat.mod_eq_of_lt h3] at e2; omega
          · rw [show hd + l.length = hd + l.length - 17 + 17 by omega, Nat.add_mod_right, Nat.mod_eq_of_lt (by omega)] at e2; omega
        · rw [show hd + i = hd + i - 17 + 17 by omega, Nat.add_mod_right, Nat.mod_eq_of_lt (by omega), show hd + l.length = hd + l.length - 17 + 17 by omega, Nat.add_mod_right, Nat.mod_eq_of_lt (by omega)] at e2; omega⟩, (hf1.trans hf2)⟩)
  · exact absurd h_42 hne17
theorem mdJ1_dec : vMd yJ1_dec 2 := ⟨by decide +kernel, by decide +kernel, by decide +kernel⟩
theorem c_J1_pollLast {G : vGC} (hG : vGok G) {σ : vSt} {d a : Nat} {l : List Nat} (hD : DeqAt σ d (l ++ [a])) : Ct G yJ1_pollLast (ws_ yJ1_pollLast cJ1_pollLast 4 (some (.object "java/lang/Object"))) 2 0 0 σ [.ref d] (fun v σ9 => v = some (.ref a) ∧ DeqAt σ9 d l ∧ FrL [d] σ σ9) vNo := by
  refine ct_of hG (by decide) (Nat.le_of_ble_eq_true rfl) fun X hN O hnm htb => ?_
  show V G X _ 0 0 σ 0 [(0, .ref d)] []
  obtain ⟨es, hd, tl, f, hz, hd1, he1, h17, hlen, htl, hfl⟩ := id hD
  have hde : d ≠ es := fun e => by rw [e, he1] at hd1; cases hd1
  have htl17 : tl < 17 := by rw [htl]; exact Nat.mod_lt _ (by omega)
  rw [List.length_append, List.length_singleton] at hlen htl
  have htm : (tl + 16) % 17 = (hd + l.length) % 17 := by
    rw [htl, Nat.mod_add_mod, show hd + (l.length + 1) + 16 = hd + l.length + 17 by omega, Nat.add_mod_right]
  have htm17 : (tl + 16) % 17 < 17 := Nat.mod_lt _ (by omega)
  have hla : f ((tl + 16) % 17) = some a := by
    have h9 := hfl l.length (by rw [List.length_append, List.length_singleton]; omega)
    rw [htm, h9]; simp [List.getD_eq_getElem?_getD]
  refine v_aload_n O dJ1_pollLast_0 rfl 0 rfl ?_
  refine v_getf (C := RJ1) (T := TJ1) (N := 3) (v := .ref es) O in_J1 hd1 rfl 0 (by decide) rfl q126 rfl dJ1_pollLast_1 ?_
  refine v_dup O dJ1_pollLast_4 rfl ?_
  refine v_astore_n (lv' := [(1, .ref es), (0, .ref d)]) O hN dJ1_pollLast_5 rfl (by decide) rfl ?_
  refine v_aload_n O dJ1_pollLast_6 rfl 1 rfl ?_
  refine v_getf (C := RJ1) (T := TJ1) (N := 3) (v := .int (nI tl)) O in_J1 hd1 rfl 2 (by decide) rfl q128 rfl dJ1_pollLast_7 ?_
  refine v_aload_n O dJ1_pollLast_10 rfl 0 rfl ?_
  refine v_alen (v := nI 17) O he1 rfl rfl dJ1_pollLast_11 ?_
  refine v_callS (as := [.int (nI tl), .int (nI 17)]) (rest := [.ref es]) O (c_J1_dec hG (i := tl) (by omega)) q508 q509 q74 q510 mdJ1_dec rfl (by decide) (by omega) (by omega) (by omega) (Nat.le_of_ble_eq_true rfl) rfl dJ1_pollLast_12 (fun v9 σ9 hp9 => ?_) (fun _ _ _ h => False.elim h)
  obtain ⟨rfl, hs9⟩ := hp9
  obtain rfl := hs9.symm
  refine v_dup O dJ1_pollLast_15 rfl ?_
  refine v_istore_n (lv' := [(2, .int (nI ((tl + 16) % 17))), (1, .ref es), (0, .ref d)]) O hN dJ1_pollLast_16 rfl (by decide) rfl ?_
  refine v_callS (as := [.ref es, .int (nI ((tl + 16) % 17))]) (rest := []) O (c_J1_elementAt hG (f := f) he1 (by omega) hla) q337 q338 q74 q339 mdJ1_elementAt rfl (by decide) (by omega) (by omega) (by omega) (Nat.le_of_ble_eq_true rfl) rfl dJ1_pollLast_17 (fun v9 σ9 hp9 => ?_) (fun _ _ _ h => False.elim h)
  obtain ⟨rfl, hs9⟩ := hp9
  obtain rfl := hs9.symm
  refine v_astore_n (lv' := [(3, .ref a), (2, .int (nI ((tl + 16) % 17))), (1, .ref es), (0, .ref d)]) O hN dJ1_pollLast_20 rfl (by decide) rfl ?_
  refine v_aload_n O dJ1_pollLast_21 rfl 0 rfl ?_
  refine v_ifnull O dJ1_pollLast_22 ?_
  refine v_aload_n O dJ1_pollLast_25 rfl 2 rfl ?_
  refine v_aload_n O dJ1_pollLast_26 rfl 3 rfl ?_
  refine v_iload_n O dJ1_pollLast_27 rfl 1 rfl ?_
  refine v_dup_x1 O dJ1_pollLast_28 rfl rfl ?_
  refine v_putf (ty0 := tyJ1) O in_J1 tyJ1_ok nmJ1 hz hd1 (show vcl[9]? = some (RJ1, TJ1, 3) from rfl) 2 (by decide) rfl q128 rfl (tyJ1_ok 2 (by decide)) rfl rfl (Nat.le_of_ble_eq_true rfl) dJ1_pollLast_29 ?_
  have hf1 : FrL [d] σ (vUp σ d (d, .inr (9, [.ref es, .int (nI hd), .int (nI ((tl + 16) % 17))]))) := FrL.up hd1 (by simp)
  have hd1 : (vUp σ d (d, .inr (9, [.ref es, .int (nI hd), .int (nI ((tl + 16) % 17))]))) d = some (d, .inr (9, [.ref es, .int (nI hd), .int (nI ((tl + 16) % 17))])) := vUp_s
  have he1 : (vUp σ d (d, .inr (9, [.ref es, .int (nI hd), .int (nI ((tl + 16) % 17))]))) es = some (d, .inl (5, 17, .inr (.inr (.inr (.inr f))))) := (vUp_n (Ne.symm hde)).trans he1
  show V G X _ _ _ (vUp σ d (d, .inr (9, [.ref es, .int (nI hd), .int (nI ((tl + 16) % 17))]))) 32 [(3, .ref a), (2, .int (nI ((tl + 16) % 17))), (1, .ref es), (0, .ref d)] [.int (nI ((tl + 16) % 17)), .ref es]
  generalize (vUp σ d (d, .inr (9, [.ref es, .int (nI hd), .int (nI ((tl + 16) % 17))]))) = σ1 at hf1 hd1 he1 ⊢
  refine v_null O dJ1_pollLast_32 ?_
  refine v_aastN O hz he1 (by omega) (by omega) dJ1_pollLast_33 ?_
  have hf2 : FrL [d] σ1 (vUp σ1 es (d, .inl (5, 17, .inr (.inr (.inr (.inr (va_up f ((tl + 16) % 17) none))))))) := FrL.up he1 (by simp)
  have he2 : (vUp σ1 es (d, .inl (5, 17, .inr (.inr (.inr (.inr (va_up f ((tl + 16) % 17) none))))))) es = some (d, .inl (5, 17, .inr (.inr (.inr (.inr (va_up f ((tl + 16) % 17) none)))))) := vUp_s
  have hd2 : (vUp σ1 es (d, .inl (5, 17, .inr (.inr (.inr (.inr (va_up f ((tl + 16) % 17) none))))))) d = some (d, .inr (9, [.ref es, .int (nI hd), .int (nI ((tl + 16) % 17))])) := (vUp_n hde).trans hd1
  generalize (vUp σ1 es (d, .inl (5, 17, .inr (.inr (.inr (.inr (va_up f ((tl + 16) % 17) none))))))) = σ2 at hf2 hd2 he2 ⊢
  refine v_aload_n O dJ1_pollLast_34 rfl 0 rfl ?_
  exact v_aret O rfl (Or.inl ⟨_, rfl⟩) (Or.inr ⟨_, rfl⟩) dJ1_pollLast_35 (by omega) (by omega) (⟨rfl, ⟨es, hd, (tl + 16) % 17, (va_up f ((tl + 16) % 17) none), hz, hd2, he2, h17, by omega, htm, fun i hi => by
    rw [up_f, hfl i (by rw [List.length_append, List.length_singleton]; omega), List.getD_eq_getElem?_getD, List.getD_eq_getElem?_getD, List.getElem?_append_left hi]
    intro e2
    rw [htm] at e2
    rcases Nat.lt_or_ge (hd + i) 17 with h | h
    · rw [Nat.mod_eq_of_lt h] at e2
      rcases Nat.lt_or_ge (hd + l.length) 17 with h3 | h3
      · rw [Nat.mod_eq_of_lt h3] at e2; omega
      · rw [show hd + l.length = hd + l.length - 17 + 17 by omega, Nat.add_mod_right, Nat.mod_eq_of_lt (by omega)] at e2; omega
    · rw [show hd + i = hd + i - 17 + 17 by omega, Nat.add_mod_right, Nat.mod_eq_of_lt (by omega), show hd + l.length = hd + l.length - 17 + 17 by omega, Nat.add_mod_right, Nat.mod_eq_of_lt (by omega)] at e2; omega⟩, (hf1.trans hf2)⟩)
theorem mdJ1_pollLast : vMd yJ1_pollLast 0 := ⟨by decide +kernel, by decide +kernel, by decide +kernel⟩
theorem c_J1_removeLast {G : vGC} (hG : vGok G) {σ : vSt} {d a : Nat} {l : List Nat} (hD : DeqAt σ d (l ++ [a])) : Ct G yJ1_removeLast (ws_ yJ1_removeLast cJ1_removeLast 2 (some (.object "java/lang/Object"))) 3 0 0 σ [.ref d] (fun v σ9 => v = some (.ref a) ∧ DeqAt σ9 d l ∧ FrL [d] σ σ9) vNo := by
  refine ct_of hG (by decide) (Nat.le_of_ble_eq_true rfl) fun X hN O hnm htb => ?_
  show V G X _ 0 0 σ 0 [(0, .ref d)] []
  obtain ⟨es, hd, tl, f, hz, hd1, he1, h17, hlen, htl, hfl⟩ := id hD
  have hde : d ≠ es := fun e => by rw [e, he1] at hd1; cases hd1
  have htl17 : tl < 17 := by rw [htl]; exact Nat.mod_lt _ (by omega)
  refine v_aload_n O dJ1_removeLast_0 rfl 0 rfl ?_
  refine v_callV (as := []) (rest := []) O (c_J1_pollLast hG hD) q504 q505 q506 q74 q507 hd1 (show vcl[9]? = some (RJ1, TJ1, 3) from rfl) rfl mdJ1_pollLast rfl (by decide) (by omega) (by omega) (by omega) (Nat.le_of_ble_eq_true rfl) rfl dJ1_removeLast_1 (fun v9 σ2 hp9 => ?_) (fun _ _ _ h => False.elim h)
  obtain ⟨rfl, hDq1, hf1⟩ := hp9
  refine v_astore_n (lv' := [(1, .ref a), (0, .ref d)]) O hN dJ1_removeLast_4 rfl (by decide) rfl ?_
  refine v_aload_n O dJ1_removeLast_5 rfl 0 rfl ?_
  refine v_ifnonnull (tgt := 17) O dJ1_removeLast_6 (by decide) ?_
  refine v_aload_n O dJ1_removeLast_17 rfl 0 rfl ?_
  exact v_aret O rfl (Or.inl ⟨_, rfl⟩) (Or.inr ⟨_, rfl⟩) dJ1_removeLast_18 (by omega) (by omega) (⟨rfl, hDq1, hf1⟩)
