theorem RowIs.get {f : Nat → Int32} : ∀ {r : List Nat}, RowIs f r → ∀ j, j < r.length → f j = nI (rowV r j)
  | [], _, j, h => absurd h (by simp)
  | a :: l, h, j, hj => by
    unfold rowV
    rw [List.reverse_cons, List.getD_eq_getElem?_getD]
    by_cases e : j = l.length
    · subst e
      rw [List.getElem?_append_right (by rw [List.length_reverse]; exact Nat.le_refl _), List.length_reverse, Nat.sub_self]
      exact h.1
    · have h2 : j < l.length := by simp only [List.length_cons] at hj; omega
      rw [List.getElem?_append_left (by rw [List.length_reverse]; exact h2)]
      have h3 := RowIs.get h.2 j h2
      unfold rowV at h3
      rw [List.getD_eq_getElem?_getD] at h3
      exact h3
theorem rowV_mem {r : List Nat} {j : Nat} (h : j < r.length) : rowV r j ∈ r := by
  unfold rowV
  have h2 : j < r.reverse.length := by rw [List.length_reverse]; exact h
  rw [List.getD_eq_getElem?_getD, List.getElem?_eq_getElem h2]
  exact List.mem_reverse.mp (List.getElem_mem h2)
theorem ModIs.row {I I' : Nat → Int32} {F F' : Nat → Nat → Int32} {L : Nat → Nat → Int64} {S : SysM} {t : Nat} (h : ModIs I F L S t Enc) (hi : ∀ j, j ≠ 25 → I' j = I j) (ho : ∀ j, j ≠ 24 → F' j = F j) : ModIs I' F' L S t Enc := by
  obtain ⟨h0, h2, h5, h12, h8, h1, h9, hk, hL⟩ := h
  refine ⟨by rw [hi 0 (by omega)]; exact h0, by rw [hi 2 (by omega)]; exact h2, by rw [hi 5 (by omega)]; exact h5, by rw [hi 12 (by omega)]; exact h12, fun j hj => by rw [ho 8 (by omega)]; exact h8 j hj, fun j hj => by rw [ho 1 (by omega)]; exact h1 j hj, by rw [ho 9 (by omega)]; exact h9, fun i M hi => by rw [ho (100 + i) (by omega)]; exact hk i M hi, ?_⟩
  rw [hi 19 (by omega)]
  rcases hL with h | ⟨h, h'⟩
  · exact Or.inl h
  · refine Or.inr ⟨h, fun s hs => ?_⟩
    have h6 := h' s hs
    rw [ho 15 (by omega), ho 16 (by omega), ho 17 (by omega)]
    exact h6
theorem pathN_ok {N : NetM} (hn : N.1 ≤ 12) {a : Nat} (ha : a < N.1) {r : List Nat} (h : pathN N a = some r) : 2 ≤ r.length ∧ r.length ≤ N.1 ∧ r.length % 2 = 0 ∧ RgL N r := by
  unfold pathN at h
  split at h
  · exact pthF_ok hn ha 7 2 (by omega) (by omega) h
  · cases h
theorem flowN_ok {N : NetM} (hN : okN N) {a : Nat} (ha : a < N.1) {r : List Nat} (h : flowN N a = some r) : 3 ≤ r.length ∧ r.length ≤ N.1 ∧ r.length % 2 = 1 ∧ RgL N r := flwF_ok hN ha 7 3 (by omega) (by omega) h
theorem c_X3_rowAt0 {G : vGC} (hG : vGok G) {σ : vSt} {m : Nat} {ad : Nat → Nat} {I : Nat → Int32} {F : Nat → Nat → Int32} {L : Nat → Nat → Int64} (hR : RecAt layM σ m ad I F L) {x y : Int32} : Ct G yX3_rowAt (ws_ yX3_rowAt cX3_rowAt 4 (some .int)) 2 0 0 σ [.ref m, .int (bI false), .int x, .int y] (fun v σ9 => v = some (.int (-1)) ∧ σ9 = σ) vNo := by
  refine ct_of hG (by decide) (Nat.le_of_ble_eq_true rfl) fun X hN O hnm htb => ?_
  show V G X _ 0 0 σ 0 [(0, .ref m), (1, .int (bI false)), (2, .int x), (3, .int y)] []
  refine v_iload_n O dX3_rowAt_0 rfl 1 rfl ?_
  refine v_if_neB (tgt := 6) O dX3_rowAt_1 (by decide) (fun h_1 => ?_) (fun h_1 => ?_)
  · exact absurd h_1 (by decide)
  · refine v_iconst (v := (-1)) O dX3_rowAt_4 (by decide) ?_
    exact v_iret O rfl dX3_rowAt_5 (by omega) (by omega) (⟨rfl, rfl⟩)
theorem c_X3_rowAt1 {G : vGC} (hG : vGok G) {σ : vSt} {m : Nat} {ad : Nat → Nat} {I : Nat → Int32} {F : Nat → Nat → Int32} {L : Nat → Nat → Int64} (hR : RecAt layM σ m ad I F L) {S : SysM} (hM : ModIs I F L S 0 Enc) {r : List Nat} {d : Nat} {x : Int32} (h25 : I 25 = nI r.length) (hrow : RowIs (F 24) r) (hr1 : 1 ≤ r.length) (hr2 : r.length ≤ 12) : Ct G yX3_rowAt (ws_ yX3_rowAt cX3_rowAt 4 (some .int)) 3 0 0 σ [.ref m, .int (bI true), .int x, .int (nI (r.length - d))] (fun v σ9 => v = some (.int (opRow S (some r) d x).2.1) ∧ ∃ (I' : Nat → Int32) (F' : Nat → Nat → Int32), RecAt layM σ9 m ad I' F' L ∧ ModIs I' F' L (opRow S (some r) d x).2.2 (opRow S (some r) d x).1 Enc ∧ FrL [m] σ σ9) vNo := by
  refine ct_of hG (by decide) (Nat.le_of_ble_eq_true rfl) fun X hN O hnm htb => ?_
  show V G X _ 0 0 σ 0 [(0, .ref m), (1, .int (bI true)), (2, .int x), (3, .int (nI (r.length - d)))] []
  have hI0 : I 0 = 0 := hM.1
  refine v_iload_n O dX3_rowAt_0 rfl 1 rfl ?_
  refine v_if_neB (tgt := 6) O dX3_rowAt_1 (by decide) (fun h_1 => ?_) (fun h_1 => ?_)
  · refine v_iload_n O dX3_rowAt_6 rfl 2 rfl ?_
    refine v_iconst (v := (-1)) O dX3_rowAt_7 (by decide) ?_
    refine v_icmp_ne (tgt := 13) O dX3_rowAt_8 (by decide) (fun h_8 => ?_) (fun h_8 => ?_)
    · refine v_aload_n O dX3_rowAt_13 rfl 0 rfl ?_
      refine v_iload_n O dX3_rowAt_14 rfl 2 rfl ?_
      refine v_iconst (v := nI 0) O dX3_rowAt_15 (by decide) ?_
      refine v_aload_n O dX3_rowAt_16 rfl 0 rfl ?_
      refine v_getf (C := RX3) (T := TX3) (N := 27) (v := .int (nI r.length)) O in_X3 hR.ob rfl 25 (by decide) rfl q1517 (congrArg (fun z => some (Value.int z)) h25) dX3_rowAt_17 ?_
      refine v_iconst (v := nI 1) O dX3_rowAt_20 (by decide) ?_
      refine v_isub (z := nI (r.length - 1)) O dX3_rowAt_21 (pk_sub (by omega)) ?_
      refine v_callS (as := [.int x, .int (nI 0), .int (nI (r.length - 1))]) (rest := [.ref m]) O (c_X3_in hG (x := x) (lo := nI 0) (hi := nI (r.length - 1))) q1587 q1588 q77 q1589 mdX3_in rfl (by decide) (by omega) (by omega) (by omega) (Nat.le_of_ble_eq_true rfl) rfl dX3_rowAt_22 (fun v9 σ9 hp9 => ?_) (fun _ _ _ h => False.elim h)
      obtain ⟨rfl, hs9⟩ := hp9
      obtain rfl := hs9.symm
      refine v_if_neB (tgt := 32) O dX3_rowAt_25 (by decide) (fun h_25 => ?_) (fun h_25 => ?_)
      · have h12 := of_decide_eq_true h_25
        obtain ⟨j, hj, rfl⟩ := nI_of2 (n := r.length - 1) (M := nI (r.length - 1)) (nI_toInt (by omega)) (Int32.not_lt.mpr h12.1) h12.2
        refine v_iconst (v := nI 0) O dX3_rowAt_32 (by decide) ?_
        refine v_iconst (v := nI 1) O dX3_rowAt_33 (by decide) ?_
        refine v_iconst (v := nI 0) O dX3_rowAt_34 (by decide) ?_
        refine v_callV (as := [.int (nI 0), .int (nI 1), .int (nI 0)]) (rest := []) O (c_X3_bad hG (p := false) (w := 1) (r := 0) hR (by omega) (by omega) hI0) q1590 q1592 qs32 q77 q1593 hR.ob (show vcl[2]? = some (RX3, TX3, 27) from rfl) rfl mdX3_bad rfl (by decide) (by omega) (by omega) (by omega) (Nat.le_of_ble_eq_true rfl) rfl dX3_rowAt_35 (fun v9 σ2 hp9 => ?_) (fun _ _ _ h => False.elim h)
        obtain ⟨rfl, hR1, hf1⟩ := hp9
        replace hR1 : RecAt layM σ2 m ad I F L := hR1
        refine v_if_eqB (tgt := 45) O dX3_rowAt_38 (by decide) (fun h_38 => ?_) (fun h_38 => ?_)
        · refine v_aload_n O dX3_rowAt_45 rfl 0 rfl ?_
          refine v_getf (C := RX3) (T := TX3) (N := 27) (v := .ref (ad 24)) O in_X3 hR1.ob rfl 24 (by decide) rfl q1516 rfl dX3_rowAt_46 ?_
          refine v_iload_n O dX3_rowAt_49 rfl 2 rfl ?_
          refine v_iald (f := F 24) O (hR1.ar 24 rfl) (by omega) (by omega) dX3_rowAt_50 ?_
          refine v_top (y := nI (rowV r j)) (hrow.get j (by omega)) ?_
          exact v_iret O rfl dX3_rowAt_51 (by omega) (by omega) (by rw [show opRow S (some r) d (nI j) = (0, nI (rowV r j), S) from by show (if _ then _ else _) = _; rw [if_neg h_8, if_pos (show nI 0 ≤ nI j ∧ nI j ≤ nI (r.length - 1) from of_decide_eq_true h_25), show cl (nI j) = j from nI_clamp (by omega)]]; exact ⟨rfl, _, _, hR1, hM, hf1⟩)
        · exact absurd h_38 (by decide)
      · refine v_iconst (v := nI 1) O dX3_rowAt_28 (by decide) ?_
        refine v_goto (tgt := 33) O dX3_rowAt_29 (by decide) ?_
        refine v_iconst (v := nI 1) O dX3_rowAt_33 (by decide) ?_
        refine v_iconst (v := nI 0) O dX3_rowAt_34 (by decide) ?_
        refine v_callV (as := [.int (nI 1), .int (nI 1), .int (nI 0)]) (rest := []) O (c_X3_bad hG (p := true) (w := 1) (r := 0) hR (by omega) (by omega) hI0) q1590 q1592 qs32 q77 q1593 hR.ob (show vcl[2]? = some (RX3, TX3, 27) from rfl) rfl mdX3_bad rfl (by decide) (by omega) (by omega) (by omega) (Nat.le_of_ble_eq_true rfl) rfl dX3_rowAt_35 (fun v9 σ4 hp9 => ?_) (fun _ _ _ h => False.elim h)
        obtain ⟨rfl, hR3, hf3⟩ := hp9
        replace hR3 : RecAt layM σ4 m ad (va_up I 0 (nI 1)) (va_up F 1 (va_up (F 1) 0 ((F 1) 0 + nI 1))) L := hR3
        refine v_if_eqB (tgt := 45) O dX3_rowAt_38 (by decide) (fun h_38 => ?_) (fun h_38 => ?_)
        · exact absurd h_38 (by decide)
        · refine v_iconst (v := nI 0) O dX3_rowAt_41 (by decide) ?_
          refine v_goto (tgt := 51) O dX3_rowAt_42 (by decide) ?_
          exact v_iret O rfl dX3_rowAt_51 (by omega) (by omega) (by rw [show opRow S (some r) d x = (1, nI 0, refS S 0) from by show (if _ then _ else _) = _; rw [if_neg h_8, if_neg (show ¬ (nI 0 ≤ x ∧ x ≤ nI (r.length - 1)) from of_decide_eq_false h_25)]]; exact ⟨rfl, _, _, hR3, ((hM.rf (r := 0) (by omega)).thr 1), hf3⟩)
    · refine v_iload_n O dX3_rowAt_11 rfl 3 rfl ?_
      exact v_iret O rfl dX3_rowAt_12 (by omega) (by omega) (by rw [show opRow S (some r) d x = (0, nI (r.length - d), S) from by show (if _ then _ else _) = _; rw [if_pos h_8]]; exact ⟨rfl, _, _, hR, hM, FrL.rf⟩)
  · exact absurd h_1 (by decide)
theorem mdX3_findsPath : vMd yX3_findsPath 1 := ⟨by decide +kernel, by decide +kernel, by decide +kernel⟩
theorem mdX3_rowAt : vMd yX3_rowAt 3 := ⟨by decide +kernel, by decide +kernel, by decide +kernel⟩
theorem c_X3_path {G : vGC} (hG : vGok G) {σ : vSt} {m : Nat} {S : SysM} {t0 : Nat} (hA : ModAt σ m S t0) (hS : okS S) {x q : Int32} : Ct G yX3_path (ws_ yX3_path cX3_path 4 (some .int)) 16 0 0 σ [.ref m, .int x, .int q] (fun v σ9 => v = some (.int (opPath S x q).2.1) ∧ ModAt σ9 m (opPath S x q).2.2 (opPath S x q).1 ∧ FrL [m] σ σ9) vNo := by
  refine ct_of hG (by decide) (Nat.le_of_ble_eq_true rfl) fun X hN O hnm htb => ?_
  show V G X _ 0 0 σ 0 [(0, .ref m), (1, .int x), (2, .int q)] []
  obtain ⟨ad, I, F, L, hR, hM⟩ := id hA
  have hd := okS.d S hS
  have hn1 : 1 ≤ (sN S).1 := hd.1
  have hn : (sN S).1 ≤ 12 := hd.2.1
  refine v_aload_n O dX3_path_0 rfl 0 rfl ?_
  refine v_iconst (v := nI 0) O dX3_path_1 (by decide) ?_
  refine r_puti (K := layM) (I' := (va_up I 0 (nI 0))) (ty0 := tyX3) O hR in_X3 tyX3_ok nmX3 (show vcl[2]? = some (RX3, TX3, 27) from rfl) 0 (by decide) rfl q1492 rfl (tyX3_ok 0 (by decide)) rfl rfl (Nat.le_of_ble_eq_true rfl) rfl dX3_path_2 (fun σ1 hR1 hf1 => ?_)
  refine v_aload_n O dX3_path_5 rfl 0 rfl ?_
  refine v_aload_n O dX3_path_6 rfl 0 rfl ?_
  refine v_iload_n O dX3_path_7 rfl 1 rfl ?_
  refine v_callV (as := [.int x]) (rest := [.ref m]) O (c_X3_isNode hG hR1 (hM.thr 0).e9 (by first | omega | exact hn) (x := x) (by omega)) q1697 q1699 qs49 q77 q1700 hR1.ob (show vcl[2]? = some (RX3, TX3, 27) from rfl) rfl mdX3_isNode rfl (by decide) (by omega) (by omega) (by omega) (Nat.le_of_ble_eq_true rfl) rfl dX3_path_8 (fun v9 σ9 hp9 => ?_) (fun _ _ _ h => False.elim h)
  obtain ⟨rfl, hs9⟩ := hp9
  obtain rfl := hs9.symm
  refine v_if_neB (tgt := 18) O dX3_path_11 (by decide) (fun h_11 => ?_) (fun h_11 => ?_)
  · obtain ⟨a, ha, rfl⟩ := isNd_t hn1 hn h_11
    refine v_iconst (v := nI 0) O dX3_path_18 (by decide) ?_
    refine v_iconst (v := nI 1) O dX3_path_19 (by decide) ?_
    refine v_iconst (v := nI 0) O dX3_path_20 (by decide) ?_
    refine v_callV (as := [.int (nI 0), .int (nI 1), .int (nI 0)]) (rest := []) O (c_X3_bad hG (p := false) (w := 1) (r := 0) hR1 (by omega) (by omega) rfl) q1590 q1592 qs32 q77 q1593 hR1.ob (show vcl[2]? = some (RX3, TX3, 27) from rfl) rfl mdX3_bad rfl (by decide) (by omega) (by omega) (by omega) (Nat.le_of_ble_eq_true rfl) rfl dX3_path_21 (fun v9 σ3 hp9 => ?_) (fun _ _ _ h => False.elim h)
    obtain ⟨rfl, hR2, hf2⟩ := hp9
    replace hR2 : RecAt layM σ3 m ad (va_up I 0 (nI 0)) F L := hR2
    refine v_if_eqB (tgt := 29) O dX3_path_24 (by decide) (fun h_24 => ?_) (fun h_24 => ?_)
    · refine v_aload_n O dX3_path_29 rfl 0 rfl ?_
      refine v_iload_n O dX3_path_30 rfl 1 rfl ?_
      refine v_callV (as := [.int (nI a)]) (rest := []) O (c_X3_findsPath hG hR2 (hM.thr 0).e9 hS.2.2.2.2 (a := a) ha) q1733 q1735 qs54 q77 q1736 hR2.ob (show vcl[2]? = some (RX3, TX3, 27) from rfl) rfl mdX3_findsPath rfl (by decide) (by omega) (by omega) (by omega) (Nat.le_of_ble_eq_true rfl) rfl dX3_path_31 (fun v9 σ5 hp9 => ?_) (fun _ _ _ h => False.elim h)
      obtain ⟨rfl, I4, F4, hR4, hf4, hI4, ho4, hr4⟩ := hp9
      have hM4 : ModIs I4 F4 L S 0 Enc := ((hM.thr 0)).row hI4 ho4
      have hE4 := hM4.e9
      cases hp : pathN (sN S) a with
      | none =>
        refine v_istore_n (lv' := [(3, .int (bI ((none : Option (List Nat)).isSome))), (0, .ref m), (1, .int (nI a)), (2, .int q)]) O hN dX3_path_34 rfl (by decide) rfl ?_
        refine v_aload_n O dX3_path_35 rfl 1 rfl ?_
        refine v_iload_n O dX3_path_36 rfl 0 rfl ?_
        refine v_iload_n O dX3_path_37 rfl 3 rfl ?_
        refine v_aload_n O dX3_path_38 rfl 1 rfl ?_
        refine v_getf (C := RX3) (T := TX3) (N := 27) (v := .int (I4 25)) O in_X3 hR4.ob rfl 25 (by decide) rfl q1517 rfl dX3_path_39 ?_
        refine v_iconst (v := nI 1) O dX3_path_42 (by decide) ?_
        refine v_isub (z := ((I4 25) - (nI 1))) O dX3_path_43 rfl ?_
        refine v_callV (as := [.int (bI ((none : Option (List Nat)).isSome)), .int q, .int ((I4 25) - (nI 1))]) (rest := []) O (c_X3_rowAt0 hG hR4) q1851 q1853 qs70 q77 q1854 hR4.ob (show vcl[2]? = some (RX3, TX3, 27) from rfl) rfl mdX3_rowAt rfl (by decide) (by omega) (by omega) (by omega) (Nat.le_of_ble_eq_true rfl) rfl dX3_path_44 (fun v9 σ9 hp9 => ?_) (fun _ _ _ h => False.elim h)
        obtain ⟨rfl, hs9⟩ := hp9
        subst hs9
        exact v_iret O rfl dX3_path_47 (by omega) (by omega) (by rw [show opPath S (nI a) q = opRow S none 1 q from by rw [opPath, if_neg (by rw [h_11]; decide), show cl (nI a) = a from nI_clamp (by omega), hp]]; exact ⟨rfl, ⟨ad, _, _, _, hR4, hM4⟩, ((hf1.trans hf2).trans hf4)⟩)
      | some r =>
        obtain ⟨h25, hrow⟩ := hr4 r hp
        obtain ⟨hl1, hl2, hl3, hrg⟩ := pathN_ok hn ha hp
        refine v_istore_n (lv' := [(3, .int (bI ((some r).isSome))), (0, .ref m), (1, .int (nI a)), (2, .int q)]) O hN dX3_path_34 rfl (by decide) rfl ?_
        refine v_aload_n O dX3_path_35 rfl 1 rfl ?_
        refine v_iload_n O dX3_path_36 rfl 0 rfl ?_
        refine v_iload_n O dX3_path_37 rfl 3 rfl ?_
        refine v_aload_n O dX3_path_38 rfl 1 rfl ?_
        refine v_getf (C := RX3) (T := TX3) (N := 27) (v := .int (nI r.length)) O in_X3 hR4.ob rfl 25 (by decide) rfl q1517 (congrArg (fun z => some (Value.int z)) h25) dX3_path_39 ?_
        refine v_iconst (v := nI 1) O dX3_path_42 (by decide) ?_
        refine v_isub (z := nI (r.length - 1)) O dX3_path_43 (pk_sub (by omega)) ?_
        refine v_callV (as := [.int (bI ((some r).isSome)), .int q, .int (nI (r.length - 1))]) (rest := []) O (c_X3_rowAt1 hG hR4 hM4 (d := 1) h25 hrow (by omega) (by omega)) q1851 q1853 qs70 q77 q1854 hR4.ob (show vcl[2]? = some (RX3, TX3, 27) from rfl) rfl mdX3_rowAt rfl (by decide) (by omega) (by omega) (by omega) (Nat.le_of_ble_eq_true rfl) rfl dX3_path_44 (fun v9 σ9 hp9 => ?_) (fun _ _ _ h => False.elim h)
        obtain ⟨rfl, I6, F6, hR6, hM6, hf6⟩ := hp9
        exact v_iret O rfl dX3_path_47 (by omega) (by omega) (by rw [show opPath S (nI a) q = opRow S (some r) 1 q from by rw [opPath, if_neg (by rw [h_11]; decide), show cl (nI a) = a from nI_clamp (by omega), hp]]; exact ⟨rfl, ⟨ad, _, _, _, hR6, hM6⟩, (((hf1.trans hf2).trans hf4).trans hf6)⟩)
    · exact absurd h_24 (by decide)
  · refine v_iconst (v := nI 1) O dX3_path_14 (by decide) ?_
    refine v_goto (tgt := 19) O dX3_path_15 (by decide) ?_
    refine v_iconst (v := nI 1) O dX3_path_19 (by decide) ?_
    refine v_iconst (v := nI 0) O dX3_path_20 (by decide) ?_
    refine v_callV (as := [.int (nI 1), .int (nI 1), .int (nI 0)]) (rest := []) O (c_X3_bad hG (p := true) (w := 1) (r := 0) hR1 (by omega) (by omega) rfl) q1590 q1592 qs32 q77 q1593 hR1.ob (show vcl[2]? = some (RX3, TX3, 27) from rfl) rfl mdX3_bad rfl (by decide) (by omega) (by omega) (by omega) (Nat.le_of_ble_eq_true rfl) rfl dX3_path_21 (fun v9 σ8 hp9 => ?_) (fun _ _ _ h => False.elim h)
    obtain ⟨rfl, hR7, hf7⟩ := hp9
    replace hR7 : RecAt layM σ8 m ad (va_up (va_up I 0 (nI 0)) 0 (nI 1)) (va_up F 1 (va_up (F 1) 0 ((F 1) 0 + nI 1))) L := hR7
    refine v_if_eqB (tgt := 29) O dX3_path_24 (by decide) (fun h_24 => ?_) (fun h_24 => ?_)
    · exact absurd h_24 (by decide)
    · refine v_iconst (v := nI 0) O dX3_path_27 (by decide) ?_
      exact v_iret O rfl dX3_path_28 (by omega) (by omega) (by rw [show opPath S x q = (1, nI 0, refS S 0) from by rw [opPath, if_pos h_11]]; exact ⟨rfl, ⟨ad, _, _, _, hR7, (((hM.thr 0).rf (r := 0) (by omega)).thr 1)⟩, (hf1.trans hf7)⟩)
theorem mdX3_findsFlower : vMd yX3_findsFlower 1 := ⟨by decide +kernel, by decide +kernel, by decide +kernel⟩
theorem c_X3_flower {G : vGC} (hG : vGok G) {σ : vSt} {m : Nat} {S : SysM} {t0 : Nat} (hA : ModAt σ m S t0) (hS : okS S) {x q : Int32} : Ct G yX3_flower (ws_ yX3_flower cX3_flower 4 (some .int)) 16 0 0 σ [.ref m, .int x, .int q] (fun v σ9 => v = some (.int (opFlower S x q).2.1) ∧ ModAt σ9 m (opFlower S x q).2.2 (opFlower S x q).1 ∧ FrL [m] σ σ9) vNo := by
  refine ct_of hG (by decide) (Nat.le_of_ble_eq_true rfl) fun X hN O hnm htb => ?_
  show V G X _ 0 0 σ 0 [(0, .ref m), (1, .int x), (2, .int q)] []
  obtain ⟨ad, I, F, L, hR, hM⟩ := id hA
  have hd := okS.d S hS
  have hn1 : 1 ≤ (sN S).1 := hd.1
  have hn : (sN S).1 ≤ 12 := hd.2.1
  refine v_aload_n O dX3_flower_0 rfl 0 rfl ?_
  refine v_iconst (v := nI 0) O dX3_flower_1 (by decide) ?_
  refine r_puti (K := layM) (I' := (va_up I 0 (nI 0))) (ty0 := tyX3) O hR in_X3 tyX3_ok nmX3 (show vcl[2]? = some (RX3, TX3, 27) from rfl) 0 (by decide) rfl q1492 rfl (tyX3_ok 0 (by decide)) rfl rfl (Nat.le_of_ble_eq_true rfl) rfl dX3_flower_2 (fun σ1 hR1 hf1 => ?_)
  refine v_aload_n O dX3_flower_5 rfl 0 rfl ?_
  refine v_aload_n O dX3_flower_6 rfl 0 rfl ?_
  refine v_iload_n O dX3_flower_7 rfl 1 rfl ?_
  refine v_callV (as := [.int x]) (rest := [.ref m]) O (c_X3_isNode hG hR1 (hM.thr 0).e9 (by first | omega | exact hn) (x := x) (by omega)) q1697 q1699 qs49 q77 q1700 hR1.ob (show vcl[2]? = some (RX3, TX3, 27) from rfl) rfl mdX3_isNode rfl (by decide) (by omega) (by omega) (by omega) (Nat.le_of_ble_eq_true rfl) rfl dX3_flower_8 (fun v9 σ9 hp9 => ?_) (fun _ _ _ h => False.elim h)
  obtain ⟨rfl, hs9⟩ := hp9
  obtain rfl := hs9.symm
  refine v_if_neB (tgt := 18) O dX3_flower_11 (by decide) (fun h_11 => ?_) (fun h_11 => ?_)
  · obtain ⟨a, ha, rfl⟩ := isNd_t hn1 hn h_11
    refine v_iconst (v := nI 0) O dX3_flower_18 (by decide) ?_
    refine v_iconst (v := nI 1) O dX3_flower_19 (by decide) ?_
    refine v_iconst (v := nI 0) O dX3_flower_20 (by decide) ?_
    refine v_callV (as := [.int (nI 0), .int (nI 1), .int (nI 0)]) (rest := []) O (c_X3_bad hG (p := false) (w := 1) (r := 0) hR1 (by omega) (by omega) rfl) q1590 q1592 qs32 q77 q1593 hR1.ob (show vcl[2]? = some (RX3, TX3, 27) from rfl) rfl mdX3_bad rfl (by decide) (by omega) (by omega) (by omega) (Nat.le_of_ble_eq_true rfl) rfl dX3_flower_21 (fun v9 σ3 hp9 => ?_) (fun _ _ _ h => False.elim h)
    obtain ⟨rfl, hR2, hf2⟩ := hp9
    replace hR2 : RecAt layM σ3 m ad (va_up I 0 (nI 0)) F L := hR2
    refine v_if_eqB (tgt := 29) O dX3_flower_24 (by decide) (fun h_24 => ?_) (fun h_24 => ?_)
    · refine v_aload_n O dX3_flower_29 rfl 0 rfl ?_
      refine v_iload_n O dX3_flower_30 rfl 1 rfl ?_
      refine v_callV (as := [.int (nI a)]) (rest := []) O (c_X3_findsFlower hG hR2 (hM.thr 0).e9 hS.2.2.2.2 (a := a) ha) q1772 q1774 qs60 q77 q1775 hR2.ob (show vcl[2]? = some (RX3, TX3, 27) from rfl) rfl mdX3_findsFlower rfl (by decide) (by omega) (by omega) (by omega) (Nat.le_of_ble_eq_true rfl) rfl dX3_flower_31 (fun v9 σ5 hp9 => ?_) (fun _ _ _ h => False.elim h)
      obtain ⟨rfl, I4, F4, hR4, hf4, hI4, ho4, hr4⟩ := hp9
      have hM4 : ModIs I4 F4 L S 0 Enc := ((hM.thr 0)).row hI4 ho4
      have hE4 := hM4.e9
      cases hp : flowN (sN S) a with
      | none =>
        refine v_istore_n (lv' := [(3, .int (bI ((none : Option (List Nat)).isSome))), (0, .ref m), (1, .int (nI a)), (2, .int q)]) O hN dX3_flower_34 rfl (by decide) rfl ?_
        refine v_aload_n O dX3_flower_35 rfl 1 rfl ?_
        refine v_iload_n O dX3_flower_36 rfl 0 rfl ?_
        refine v_iload_n O dX3_flower_37 rfl 3 rfl ?_
        refine v_aload_n O dX3_flower_38 rfl 1 rfl ?_
        refine v_getf (C := RX3) (T := TX3) (N := 27) (v := .int (I4 25)) O in_X3 hR4.ob rfl 25 (by decide) rfl q1517 rfl dX3_flower_39 ?_
        refine v_callV (as := [.int (bI ((none : Option (List Nat)).isSome)), .int q, .int (I4 25)]) (rest := []) O (c_X3_rowAt0 hG hR4) q1851 q1853 qs70 q77 q1854 hR4.ob (show vcl[2]? = some (RX3, TX3, 27) from rfl) rfl mdX3_rowAt rfl (by decide) (by omega) (by omega) (by omega) (Nat.le_of_ble_eq_true rfl) rfl dX3_flower_42 (fun v9 σ9 hp9 => ?_) (fun _ _ _ h => False.elim h)
        obtain ⟨rfl, hs9⟩ := hp9
        subst hs9
        exact v_iret O rfl dX3_flower_45 (by omega) (by omega) (by rw [show opFlower S (nI a) q = opRow S none 0 q from by rw [opFlower, if_neg (by rw [h_11]; decide), show cl (nI a) = a from nI_clamp (by omega), hp]]; exact ⟨rfl, ⟨ad, _, _, _, hR4, hM4⟩, ((hf1.trans hf2).trans hf4)⟩)
      | some r =>
        obtain ⟨h25, hrow⟩ := hr4 r hp
        obtain ⟨hl1, hl2, hl3, hrg⟩ := flowN_ok hS.2.2.2.2 ha hp
        refine v_istore_n (lv' := [(3, .int (bI ((some r).isSome))), (0, .ref m), (1, .int (nI a)), (2, .int q)]) O hN dX3_flower_34 rfl (by decide) rfl ?_
        refine v_aload_n O dX3_flower_35 rfl 1 rfl ?_
        refine v_iload_n O dX3_flower_36 rfl 0 rfl ?_
        refine v_iload_n O dX3_flower_37 rfl 3 rfl ?_
        refine v_aload_n O dX3_flower_38 rfl 1 rfl ?_
        refine v_getf (C := RX3) (T := TX3) (N := 27) (v := .int (nI r.length)) O in_X3 hR4.ob rfl 25 (by decide) rfl q1517 (congrArg (fun z => some (Value.int z)) h25) dX3_flower_39 ?_
        refine v_callV (as := [.int (bI ((some r).isSome)), .int q, .int (nI r.length)]) (rest := []) O (c_X3_rowAt1 hG hR4 hM4 (d := 0) h25 hrow (by omega) (by omega)) q1851 q1853 qs70 q77 q1854 hR4.ob (show vcl[2]? = some (RX3, TX3, 27) from rfl) rfl mdX3_rowAt rfl (by decide) (by omega) (by omega) (by omega) (Nat.le_of_ble_eq_true rfl) rfl dX3_flower_42 (fun v9 σ9 hp9 => ?_) (fun _ _ _ h => False.elim h)
        obtain ⟨rfl, I6, F6, hR6, hM6, hf6⟩ := hp9
        exact v_iret O rfl dX3_flower_45 (by omega) (by omega) (by rw [show opFlower S (nI a) q = opRow S (some r) 0 q from by rw [opFlower, if_neg (by rw [h_11]; decide), show cl (nI a) = a from nI_clamp (by omega), hp]]; exact ⟨rfl, ⟨ad, _, _, _, hR6, hM6⟩, (((hf1.trans hf2).trans hf4).trans hf6)⟩)
    · exact absurd h_24 (by decide)
  · refine v_iconst (v := nI 1) O dX3_flower_14 (by decide) ?_
    refine v_goto (tgt := 19) O dX3_flower_15 (by decide) ?_
    refine v_iconst (v := nI 1) O dX3_flower_19 (by decide) ?_
    refine v_iconst (v := nI 0) O dX3_flower_20 (by decide) ?_
    refine v_callV (as := [.int (nI 1), .int (nI 1), .int (nI 0)]) (rest := []) O (c_X3_bad hG (p := true) (w := 1) (r := 0) hR1 (by omega) (by omega) rfl) q1590 q1592 qs32 q77 q1593 hR1.ob (show vcl[2]? = some (RX3, TX3, 27) from rfl) rfl mdX3_bad rfl (by decide) (by omega) (by omega) (by omega) (Nat.le_of_ble_eq_true rfl) rfl dX3_flower_21 (fun v9 σ8 hp9 => ?_) (fun _ _ _ h => False.elim h)
    obtain ⟨rfl, hR7, hf7⟩ := hp9
    replace hR7 : RecAt layM σ8 m ad (va_up (va_up I 0 (nI 0)) 0 (nI 1)) (va_up F 1 (va_up (F 1) 0 ((F 1) 0 + nI 1))) L := hR7
    refine v_if_eqB (tgt := 29) O dX3_flower_24 (by decide) (fun h_24 => ?_) (fun h_24 => ?_)
    · exact absurd h_24 (by decide)
    · refine v_iconst (v := nI 0) O dX3_flower_27 (by decide) ?_
      exact v_iret O rfl dX3_flower_28 (by omega) (by omega) (by rw [show opFlower S x q = (1, nI 0, refS S 0) from by rw [opFlower, if_pos h_11]]; exact ⟨rfl, ⟨ad, _, _, _, hR7, (((hM.thr 0).rf (r := 0) (by omega)).thr 1)⟩, (hf1.trans hf7)⟩)
