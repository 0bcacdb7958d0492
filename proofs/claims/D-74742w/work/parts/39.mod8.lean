theorem nI_inj {a b : Nat} (ha : a < 2 ^ 31) (hb : b < 2 ^ 31) (e : nI a = nI b) : a = b := (nI_eq ha hb).mp e
theorem sk_lt {N : NetM} (hn : N.1 ≤ 12) {s : Nat} (h : s < 2 ^ N.1) : s < 4096 := Nat.lt_of_lt_of_le h (p12 hn)
theorem c_X3_missing {G : vGC} (hG : vGok G) {σ : vSt} {m : Nat} {ad : Nat → Nat} {I : Nat → Int32} {F : Nat → Nat → Int32} {L : Nat → Nat → Int64} (hR : RecAt layM σ m ad I F L) {N : NetM} (hE : Enc (F 9) N) (hn : N.1 ≤ 12) (hl : LaidOk N.1 N.2.1 F L) : Ct G yX3_missing (ws_ yX3_missing cX3_missing 1 (some .int)) 3 0 0 σ [.ref m] (fun v σ9 => v = some (.int (missI N)) ∧ σ9 = σ) vNo := by
  refine ct_of hG (by decide) (Nat.le_of_ble_eq_true rfl) fun X hN O hnm htb => ?_
  show V G X _ 0 0 σ 0 [(0, .ref m)] []
  have hal := all_lt (N := N)
  have hp12 := p12 hn
  refine v_aload_n O dX3_missing_0 rfl 0 rfl ?_
  refine v_callV (as := []) (rest := []) O (c_X3_nodes hG hR hE (by first | omega | exact hn)) q1677 q1679 qs47 q77 q1680 hR.ob (show vcl[2]? = some (RX3, TX3, 27) from rfl) rfl mdX3_nodes rfl (by decide) (by omega) (by omega) (by omega) (Nat.le_of_ble_eq_true rfl) rfl dX3_missing_1 (fun v9 σ9 hp9 => ?_) (fun _ _ _ h => False.elim h)
  obtain ⟨rfl, hs9⟩ := hp9
  obtain rfl := hs9.symm
  refine v_iconst (v := nI 2) O dX3_missing_4 (by decide) ?_
  refine v_aload_n O dX3_missing_5 rfl 0 rfl ?_
  refine v_getf (C := RX3) (T := TX3) (N := 27) (v := .ref (ad 15)) O in_X3 hR.ob rfl 15 (by decide) rfl q1507 rfl dX3_missing_6 ?_
  refine v_aload_n O dX3_missing_9 rfl 0 rfl ?_
  refine v_callV (as := []) (rest := [.ref (ad 15), .int (nI 2), .int (nI N.1)]) O (c_X3_all hG hR hE (by first | omega | exact hn)) q1756 q1758 qs58 q77 q1759 hR.ob (show vcl[2]? = some (RX3, TX3, 27) from rfl) rfl mdX3_all rfl (by decide) (by omega) (by omega) (by omega) (Nat.le_of_ble_eq_true rfl) rfl dX3_missing_10 (fun v9 σ9 hp9 => ?_) (fun _ _ _ h => False.elim h)
  obtain ⟨rfl, hs9⟩ := hp9
  obtain rfl := hs9.symm
  refine v_iald (f := F 15) O (hR.ar 15 rfl) (by omega) (by omega) dX3_missing_13 ?_
  refine v_top (y := nI ((dpN N (allN N)).1)) (hl _ (by first | omega | exact sall_lt | exact restN_lt)).1 ?_
  refine v_imul (z := (nI 2 * nI (topN N).1)) O dX3_missing_14 rfl ?_
  refine v_isub (z := (missI N)) O dX3_missing_15 rfl ?_
  exact v_iret O rfl dX3_missing_16 (by omega) (by omega) (⟨rfl, rfl⟩)
theorem okN.mate {N : NetM} (h : okN N) {a : Nat} (ha : a < N.1) (hm : N.2.2 a ≠ -1) : ∃ b, b < N.1 ∧ N.2.2 a = nI b ∧ N.2.2 b = nI a ∧ N.2.1 a b ≠ -1 := (h.2.2.2.2.2 a ha).resolve_left hm
theorem ne_m1 {x : Int32} {a : Nat} (ha : a < 2 ^ 31) (h : ¬ x ≤ nI a) : x ≠ -1 := fun e => h (by rw [e]; exact Int32.le_of_lt (neg_lt ha))
theorem l_X3_told {G : vGC} (hG : vGok G) {X : vCX} {Q : State → Prop} {c0 n0 : Nat} (O : vOk G X yX3_told.cls cX3_told (some .int) 5 0 0) (hN : xn X = 4) (hcm0 : c0 ≤ 0) (hsm0 : n0 ≤ 0) {σ : vSt} {m : Nat} {ad : Nat → Nat} {I : Nat → Int32} {F : Nat → Nat → Int32} {L : Nat → Nat → Int64} (hR : RecAt layM σ m ad I F L) {N : NetM} (hE : Enc (F 9) N) (hn : N.1 ≤ 12) (hN0 : okN N) {x : Int32} (kx : V G X Q c0 n0 σ 79 [(0, .ref m), (1, .int x), (2, .int (sumI (sumWf N) N.1))] []) : ∀ (k : Nat) (a : Nat), (N.1 < a + k) → (a ≤ N.1) → V G X Q c0 n0 σ 39 [(0, .ref m), (1, .int x), (2, .int (sumI (sumWf N) a)), (3, .int (nI a))] [] := by
  intro k
  induction k with
  | zero => intro a h0 h1; exact absurd h0 (by omega)
  | succ k ih =>
    intro a h0 h1
    refine v_iload_n O dX3_told_39 rfl 3 rfl ?_
    refine v_aload_n O dX3_told_40 rfl 0 rfl ?_
    refine v_callV (as := []) (rest := [.int (nI a)]) O (c_X3_nodes hG hR hE (by first | omega | exact hn)) q1677 q1679 qs47 q77 q1680 hR.ob (show vcl[2]? = some (RX3, TX3, 27) from rfl) rfl mdX3_nodes rfl (by decide) (by omega) (by omega) (by omega) (Nat.le_of_ble_eq_true rfl) rfl dX3_told_41 (fun v9 σ9 hp9 => ?_) (fun _ _ _ h => False.elim h)
    obtain ⟨rfl, hs9⟩ := hp9
    obtain rfl := hs9.symm
    refine v_icmp_geN (tgt := 79) O dX3_told_44 (by decide) (by omega) (by omega) (fun h_44 => ?_) (fun h_44 => ?_)
    · obtain rfl : a = N.1 := by omega
      exact v_lv [0, 1, 2] rfl kx
    · refine v_iload_n O dX3_told_47 rfl 2 rfl ?_
      refine v_aload_n O dX3_told_48 rfl 0 rfl ?_
      refine v_iload_n O dX3_told_49 rfl 3 rfl ?_
      refine v_callV (as := [.int (nI a)]) (rest := [.int (sumI (sumWf N) a)]) O (c_X3_mate hG hR hE (by first | omega | exact hn) (a := a) (by omega)) q1705 q1707 qs50 q77 q1708 hR.ob (show vcl[2]? = some (RX3, TX3, 27) from rfl) rfl mdX3_mate rfl (by decide) (by omega) (by omega) (by omega) (Nat.le_of_ble_eq_true rfl) rfl dX3_told_50 (fun v9 σ9 hp9 => ?_) (fun _ _ _ h => False.elim h)
      obtain ⟨rfl, hs9⟩ := hp9
      obtain rfl := hs9.symm
      refine v_iload_n O dX3_told_53 rfl 3 rfl ?_
      refine v_icmp_le (tgt := 70) O dX3_told_54 (by decide) (fun h_54 => ?_) (fun h_54 => ?_)
      · refine v_iconst (v := nI 0) O dX3_told_70 (by decide) ?_
        refine v_iadd (z := (sumI (sumWf N) (a + 1))) O dX3_told_71 (by rw [sumI, sumWf, if_neg (Int32.not_lt.mpr h_54)]) ?_
        refine v_istore_n (lv' := [(2, .int (sumI (sumWf N) (a + 1))), (0, .ref m), (1, .int x), (3, .int (nI a))]) O hN dX3_told_72 rfl (by decide) rfl ?_
        refine v_iinc (v := nI (a + 1)) (lv' := [(3, .int (nI (a + 1))), (2, .int (sumI (sumWf N) (a + 1))), (0, .ref m), (1, .int x)]) O hN dX3_told_73 3 rfl (nI_add a 1) (by decide) rfl ?_
        refine v_goto (tgt := 39) O dX3_told_76 (by decide) ?_
        refine v_lv [2, 3, 1, 0] rfl ?_
        exact ih (a + 1) (by omega) (by omega)
      · obtain ⟨b, hb, hab, hba, hw⟩ := hN0.mate (a := a) (by omega) (ne_m1 (by omega) h_54)
        refine v_aload_n O dX3_told_57 rfl 0 rfl ?_
        refine v_iload_n O dX3_told_58 rfl 3 rfl ?_
        refine v_aload_n O dX3_told_59 rfl 0 rfl ?_
        refine v_iload_n O dX3_told_60 rfl 3 rfl ?_
        refine v_callV (as := [.int (nI a)]) (rest := [.int (nI a), .ref m, .int (sumI (sumWf N) a)]) O (c_X3_mate hG hR hE (by first | omega | exact hn) (a := a) (by omega)) q1705 q1707 qs50 q77 q1708 hR.ob (show vcl[2]? = some (RX3, TX3, 27) from rfl) rfl mdX3_mate rfl (by decide) (by omega) (by omega) (by omega) (Nat.le_of_ble_eq_true rfl) rfl dX3_told_61 (fun v9 σ9 hp9 => ?_) (fun _ _ _ h => False.elim h)
        obtain ⟨rfl, hs9⟩ := hp9
        obtain rfl := hs9.symm
        rw [hab]
        refine v_callV (as := [.int (nI a), .int (nI b)]) (rest := [.int (sumI (sumWf N) a)]) O (c_X3_weight hG hR hE (by first | omega | exact hn) (a := a) (b := b) (by omega) (by omega)) q1681 q1683 qs48 q77 q1684 hR.ob (show vcl[2]? = some (RX3, TX3, 27) from rfl) rfl mdX3_weight rfl (by decide) (by omega) (by omega) (by omega) (Nat.le_of_ble_eq_true rfl) rfl dX3_told_64 (fun v9 σ9 hp9 => ?_) (fun _ _ _ h => False.elim h)
        obtain ⟨rfl, hs9⟩ := hp9
        obtain rfl := hs9.symm
        refine v_goto (tgt := 71) O dX3_told_67 (by decide) ?_
        refine v_iadd (z := (sumI (sumWf N) (a + 1))) O dX3_told_71 (by rw [sumI, sumWf, if_pos (Int32.not_le.mp h_54), hab, cl, nI_clamp (by omega)]) ?_
        refine v_istore_n (lv' := [(2, .int (sumI (sumWf N) (a + 1))), (0, .ref m), (1, .int x), (3, .int (nI a))]) O hN dX3_told_72 rfl (by decide) rfl ?_
        refine v_iinc (v := nI (a + 1)) (lv' := [(3, .int (nI (a + 1))), (2, .int (sumI (sumWf N) (a + 1))), (0, .ref m), (1, .int x)]) O hN dX3_told_73 3 rfl (nI_add a 1) (by decide) rfl ?_
        refine v_goto (tgt := 39) O dX3_told_76 (by decide) ?_
        refine v_lv [2, 3, 1, 0] rfl ?_
        exact ih (a + 1) (by omega) (by omega)
theorem mdX3_lays : vMd yX3_lays 0 := ⟨by decide +kernel, by decide +kernel, by decide +kernel⟩
theorem mdX3_missing : vMd yX3_missing 0 := ⟨by decide +kernel, by decide +kernel, by decide +kernel⟩
theorem c_X3_told {G : vGC} (hG : vGok G) {σ : vSt} {m : Nat} {S : SysM} {t0 : Nat} (hA : ModAt σ m S t0) (hS : okS S) {x : Int32} : Ct G yX3_told (ws_ yX3_told cX3_told 4 (some .int)) 5 0 0 σ [.ref m, .int x] (fun v σ9 => v = some (.int (opTold S x).2.1) ∧ ModAt σ9 m (opTold S x).2.2 (opTold S x).1 ∧ FrL [m] σ σ9) vNo := by
  refine ct_of hG (by decide) (Nat.le_of_ble_eq_true rfl) fun X hN O hnm htb => ?_
  show V G X _ 0 0 σ 0 [(0, .ref m), (1, .int x)] []
  obtain ⟨ad, I, F, L, hR, hM⟩ := id hA
  have hd := okS.d S hS
  have hn1 : 1 ≤ (sN S).1 := hd.1
  have hn : (sN S).1 ≤ 12 := hd.2.1
  have hp12 := p12 hn
  have hal := all_lt (N := sN S)
  refine v_aload_n O dX3_told_0 rfl 0 rfl ?_
  refine v_iconst (v := nI 0) O dX3_told_1 (by decide) ?_
  refine r_puti (K := layM) (I' := (va_up I 0 (nI 0))) (ty0 := tyX3) O hR in_X3 tyX3_ok nmX3 (show vcl[2]? = some (RX3, TX3, 27) from rfl) 0 (by decide) rfl q1492 rfl (tyX3_ok 0 (by decide)) rfl rfl (Nat.le_of_ble_eq_true rfl) rfl dX3_told_2 (fun σ1 hR1 hf1 => ?_)
  refine v_aload_n O dX3_told_5 rfl 0 rfl ?_
  refine v_iload_n O dX3_told_6 rfl 1 rfl ?_
  refine v_iconst (v := nI 0) O dX3_told_7 (by decide) ?_
  refine v_bipush (v := nI 7) O dX3_told_8 (by decide) ?_
  refine v_callS (as := [.int x, .int (nI 0), .int (nI 7)]) (rest := [.ref m]) O (c_X3_in hG (x := x) (lo := nI 0) (hi := nI 7)) q1587 q1588 q77 q1589 mdX3_in rfl (by decide) (by omega) (by omega) (by omega) (Nat.le_of_ble_eq_true rfl) rfl dX3_told_10 (fun v9 σ9 hp9 => ?_) (fun _ _ _ h => False.elim h)
  obtain ⟨rfl, hs9⟩ := hp9
  obtain rfl := hs9.symm
  refine v_if_neB (tgt := 20) O dX3_told_13 (by decide) (fun h_13 => ?_) (fun h_13 => ?_)
  · have h12 := of_decide_eq_true h_13
    obtain ⟨j, hj, rfl⟩ := nI_of2 (n := 7) (M := nI 7) rfl (Int32.not_lt.mpr h12.1) h12.2
    refine v_iconst (v := nI 0) O dX3_told_20 (by decide) ?_
    refine v_iconst (v := nI 1) O dX3_told_21 (by decide) ?_
    refine v_iconst (v := nI 1) O dX3_told_22 (by decide) ?_
    refine v_callV (as := [.int (nI 0), .int (nI 1), .int (nI 1)]) (rest := []) O (c_X3_bad hG (p := false) (w := 1) (r := 1) hR1 (by omega) (by omega) rfl) q1590 q1592 qs32 q77 q1593 hR1.ob (show vcl[2]? = some (RX3, TX3, 27) from rfl) rfl mdX3_bad rfl (by decide) (by omega) (by omega) (by omega) (Nat.le_of_ble_eq_true rfl) rfl dX3_told_23 (fun v9 σ3 hp9 => ?_) (fun _ _ _ h => False.elim h)
    obtain ⟨rfl, hR2, hf2⟩ := hp9
    replace hR2 : RecAt layM σ3 m ad (va_up I 0 (nI 0)) F L := hR2
    refine v_if_eqB (tgt := 31) O dX3_told_26 (by decide) (fun h_26 => ?_) (fun h_26 => ?_)
    · refine v_aload_n O dX3_told_31 rfl 0 rfl ?_
      refine v_callV (as := []) (rest := []) O (c_X3_lays hG hR2 (hM.thr 0) hS) q1752 q1754 qs57 q77 q1755 hR2.ob (show vcl[2]? = some (RX3, TX3, 27) from rfl) rfl mdX3_lays rfl (by decide) (by omega) (by omega) (by omega) (Nat.le_of_ble_eq_true rfl) rfl dX3_told_32 (fun v9 σ5 hp9 => ?_) (fun _ _ _ h => False.elim h)
      obtain ⟨rfl, I4, F4, L4, hR4, hM4, hl4, hf4⟩ := hp9
      have hE4 : Enc (F4 9) (sN S) := hM4.e9
      refine v_iconst (v := nI 0) O dX3_told_35 (by decide) ?_
      refine v_istore_n (lv' := [(2, .int (nI 0)), (0, .ref m), (1, .int (nI j))]) O hN dX3_told_36 rfl (by decide) rfl ?_
      refine v_iconst (v := nI 0) O dX3_told_37 (by decide) ?_
      refine v_istore_n (lv' := [(3, .int (nI 0)), (2, .int (nI 0)), (0, .ref m), (1, .int (nI j))]) O hN dX3_told_38 rfl (by decide) rfl ?_
      refine v_lv [2, 3, 1, 0] rfl ?_
      refine l_X3_told hG O hN (by omega) (by omega) hR4 hE4 hn hS.2.2.2.2 ?_ ((sN S).1 + 1) 0 (by omega) (by omega)
      refine v_iload_n O dX3_told_79 rfl 1 rfl ?_
      by_cases hs_0 : j = 0
      · refine v_tableIn (off := 44) (tgt := 124) O dX3_told_80 (by rw [hs_0]; decide) (by rw [hs_0]; decide) (by rw [hs_0]; rfl) (by decide) ?_
        subst hs_0
        refine v_aload_n O dX3_told_124 rfl 0 rfl ?_
        refine v_callV (as := []) (rest := []) O (c_X3_nodes hG hR4 hE4 (by first | omega | exact hn)) q1677 q1679 qs47 q77 q1680 hR4.ob (show vcl[2]? = some (RX3, TX3, 27) from rfl) rfl mdX3_nodes rfl (by decide) (by omega) (by omega) (by omega) (Nat.le_of_ble_eq_true rfl) rfl dX3_told_125 (fun v9 σ9 hp9 => ?_) (fun _ _ _ h => False.elim h)
        obtain ⟨rfl, hs9⟩ := hp9
        obtain rfl := hs9.symm
        exact v_iret O rfl dX3_told_128 (by omega) (by omega) (by rw [show opTold S (nI 0) = (0, nI (sN S).1, S) from by rw [opTold, if_pos h12]; rw [toldV, if_pos rfl]]; exact ⟨rfl, ⟨ad, _, _, _, hR4, hM4⟩, ((hf1.trans hf2).trans hf4)⟩)
      by_cases hs_1 : j = 1
      · refine v_tableIn (off := 49) (tgt := 129) O dX3_told_80 (by rw [hs_1]; decide) (by rw [hs_1]; decide) (by rw [hs_1]; rfl) (by decide) ?_
        subst hs_1
        refine v_aload_n O dX3_told_129 rfl 0 rfl ?_
        refine v_callV (as := []) (rest := []) O (c_X3_lines hG hR4 hE4 (by first | omega | exact hn)) q1673 q1675 qs46 q77 q1676 hR4.ob (show vcl[2]? = some (RX3, TX3, 27) from rfl) rfl mdX3_lines rfl (by decide) (by omega) (by omega) (by omega) (Nat.le_of_ble_eq_true rfl) rfl dX3_told_130 (fun v9 σ9 hp9 => ?_) (fun _ _ _ h => False.elim h)
        obtain ⟨rfl, hs9⟩ := hp9
        obtain rfl := hs9.symm
        exact v_iret O rfl dX3_told_133 (by omega) (by omega) (by rw [show opTold S (nI 1) = (0, nI (linesM (sN S)), S) from by rw [opTold, if_pos h12]; rw [toldV, if_neg (by decide), if_pos rfl]]; exact ⟨rfl, ⟨ad, _, _, _, hR4, hM4⟩, ((hf1.trans hf2).trans hf4)⟩)
      by_cases hs_2 : j = 2
      · refine v_tableIn (off := 54) (tgt := 134) O dX3_told_80 (by rw [hs_2]; decide) (by rw [hs_2]; decide) (by rw [hs_2]; rfl) (by decide) ?_
        subst hs_2
        refine v_aload_n O dX3_told_134 rfl 0 rfl ?_
        refine v_callV (as := []) (rest := []) O (c_X3_pairsNow hG hR4 hE4 (by first | omega | exact hn)) q1721 q1723 qs53 q77 q1724 hR4.ob (show vcl[2]? = some (RX3, TX3, 27) from rfl) rfl mdX3_pairsNow rfl (by decide) (by omega) (by omega) (by omega) (Nat.le_of_ble_eq_true rfl) rfl dX3_told_135 (fun v9 σ9 hp9 => ?_) (fun _ _ _ h => False.elim h)
        obtain ⟨rfl, hs9⟩ := hp9
        obtain rfl := hs9.symm
        exact v_iret O rfl dX3_told_138 (by omega) (by omega) (by rw [show opTold S (nI 2) = (0, nI (pairsM (sN S)), S) from by rw [opTold, if_pos h12]; rw [toldV, if_neg (by decide), if_neg (by decide), if_pos rfl]]; exact ⟨rfl, ⟨ad, _, _, _, hR4, hM4⟩, ((hf1.trans hf2).trans hf4)⟩)
      by_cases hs_3 : j = 3
      · refine v_tableIn (off := 59) (tgt := 139) O dX3_told_80 (by rw [hs_3]; decide) (by rw [hs_3]; decide) (by rw [hs_3]; rfl) (by decide) ?_
        subst hs_3
        refine v_aload_n O dX3_told_139 rfl 0 rfl ?_
        refine v_getf (C := RX3) (T := TX3) (N := 27) (v := .ref (ad 15)) O in_X3 hR4.ob rfl 15 (by decide) rfl q1507 rfl dX3_told_140 ?_
        refine v_aload_n O dX3_told_143 rfl 0 rfl ?_
        refine v_callV (as := []) (rest := [.ref (ad 15)]) O (c_X3_all hG hR4 hE4 (by first | omega | exact hn)) q1756 q1758 qs58 q77 q1759 hR4.ob (show vcl[2]? = some (RX3, TX3, 27) from rfl) rfl mdX3_all rfl (by decide) (by omega) (by omega) (by omega) (Nat.le_of_ble_eq_true rfl) rfl dX3_told_144 (fun v9 σ9 hp9 => ?_) (fun _ _ _ h => False.elim h)
        obtain ⟨rfl, hs9⟩ := hp9
        obtain rfl := hs9.symm
        refine v_iald (f := F4 15) O (hR4.ar 15 rfl) (by omega) (by omega) dX3_told_147 ?_
        refine v_top (y := nI ((dpN (sN S) (allN (sN S))).1)) (hl4 _ (by first | omega | exact sall_lt | exact restN_lt)).1 ?_
        exact v_iret O rfl dX3_told_148 (by omega) (by omega) (by rw [show opTold S (nI 3) = (0, nI (topN (sN S)).1, S) from by rw [opTold, if_pos h12]; rw [toldV, if_neg (by decide), if_neg (by decide), if_neg (by decide), if_pos rfl]]; exact ⟨rfl, ⟨ad, _, _, _, hR4, hM4⟩, ((hf1.trans hf2).trans hf4)⟩)
      by_cases hs_4 : j = 4
      · refine v_tableIn (off := 69) (tgt := 149) O dX3_told_80 (by rw [hs_4]; decide) (by rw [hs_4]; decide) (by rw [hs_4]; rfl) (by decide) ?_
        subst hs_4
        refine v_aload_n O dX3_told_149 rfl 0 rfl ?_
        refine v_callV (as := []) (rest := []) O (c_X3_missing hG hR4 hE4 (by omega) hl4) q1784 q1786 qs62 q77 q1787 hR4.ob (show vcl[2]? = some (RX3, TX3, 27) from rfl) rfl mdX3_missing rfl (by decide) (by omega) (by omega) (by omega) (Nat.le_of_ble_eq_true rfl) rfl dX3_told_150 (fun v9 σ9 hp9 => ?_) (fun _ _ _ h => False.elim h)
        obtain ⟨rfl, hs9⟩ := hp9
        obtain rfl := hs9.symm
        exact v_iret O rfl dX3_told_153 (by omega) (by omega) (by rw [show opTold S (nI 4) = (0, missI (sN S), S) from by rw [opTold, if_pos h12]; rw [toldV, if_neg (by decide), if_neg (by decide), if_neg (by decide), if_neg (by decide), if_pos rfl]]; exact ⟨rfl, ⟨ad, _, _, _, hR4, hM4⟩, ((hf1.trans hf2).trans hf4)⟩)
      by_cases hs_5 : j = 5
      · refine v_tableIn (off := 74) (tgt := 154) O dX3_told_80 (by rw [hs_5]; decide) (by rw [hs_5]; decide) (by rw [hs_5]; rfl) (by decide) ?_
        subst hs_5
        refine v_iload_n O dX3_told_154 rfl 2 rfl ?_
        exact v_iret O rfl dX3_told_155 (by omega) (by omega) (by rw [show opTold S (nI 5) = (0, sumI (sumWf (sN S)) (sN S).1, S) from by rw [opTold, if_pos h12]; rw [toldV, if_neg (by decide), if_neg (by decide), if_neg (by decide), if_neg (by decide), if_neg (by decide), if_pos rfl]]; exact ⟨rfl, ⟨ad, _, _, _, hR4, hM4⟩, ((hf1.trans hf2).trans hf4)⟩)
      by_cases hs_6 : j = 6
      · refine v_tableIn (off := 76) (tgt := 156) O dX3_told_80 (by rw [hs_6]; decide) (by rw [hs_6]; decide) (by rw [hs_6]; rfl) (by decide) ?_
        subst hs_6
        refine v_aload_n O dX3_told_156 rfl 0 rfl ?_
        refine v_getf (C := RX3) (T := TX3) (N := 27) (v := .int (nI (sTp S))) O in_X3 hR4.ob rfl 2 (by decide) rfl q1494 (congrArg (fun z => some (Value.int z)) hM4.2.1) dX3_told_157 ?_
        exact v_iret O rfl dX3_told_160 (by omega) (by omega) (by rw [show opTold S (nI 6) = (0, nI (sTp S), S) from by rw [opTold, if_pos h12]; rw [toldV, if_neg (by decide), if_neg (by decide), if_neg (by decide), if_neg (by decide), if_neg (by decide), if_neg (by decide), if_pos rfl]]; exact ⟨rfl, ⟨ad, _, _, _, hR4, hM4⟩, ((hf1.trans hf2).trans hf4)⟩)
      refine v_tableOut (tgt := 161) O dX3_told_80 (Or.inr (by rw [nI_toInt (by omega)]; omega)) (by decide) ?_
      obtain rfl : j = 7 := by omega
      refine v_aload_n O dX3_told_161 rfl 0 rfl ?_
      refine v_getf (C := RX3) (T := TX3) (N := 27) (v := .int (nI ((sKs S).length))) O in_X3 hR4.ob rfl 12 (by decide) rfl q1504 (congrArg (fun z => some (Value.int z)) hM4.2.2.2.1) dX3_told_162 ?_
      exact v_iret O rfl dX3_told_165 (by omega) (by omega) (by rw [show opTold S (nI 7) = (0, nI (sKs S).length, S) from by rw [opTold, if_pos h12]; rw [toldV, if_neg (by decide), if_neg (by decide), if_neg (by decide), if_neg (by decide), if_neg (by decide), if_neg (by decide), if_neg (by decide)]]; exact ⟨rfl, ⟨ad, _, _, _, hR4, hM4⟩, ((hf1.trans hf2).trans hf4)⟩)
    · exact absurd h_26 (by decide)
  · have h12 := of_decide_eq_false h_13
    refine v_iconst (v := nI 1) O dX3_told_16 (by decide) ?_
    refine v_goto (tgt := 21) O dX3_told_17 (by decide) ?_
    refine v_iconst (v := nI 1) O dX3_told_21 (by decide) ?_
    refine v_iconst (v := nI 1) O dX3_told_22 (by decide) ?_
    refine v_callV (as := [.int (nI 1), .int (nI 1), .int (nI 1)]) (rest := []) O (c_X3_bad hG (p := true) (w := 1) (r := 1) hR1 (by omega) (by omega) rfl) q1590 q1592 qs32 q77 q1593 hR1.ob (show vcl[2]? = some (RX3, TX3, 27) from rfl) rfl mdX3_bad rfl (by decide) (by omega) (by omega) (by omega) (Nat.le_of_ble_eq_true rfl) rfl dX3_told_23 (fun v9 σ7 hp9 => ?_) (fun _ _ _ h => False.elim h)
    obtain ⟨rfl, hR6, hf6⟩ := hp9
    replace hR6 : RecAt layM σ7 m ad (va_up (va_up I 0 (nI 0)) 0 (nI 1)) (va_up F 1 (va_up (F 1) 1 ((F 1) 1 + nI 1))) L := hR6
    refine v_if_eqB (tgt := 31) O dX3_told_26 (by decide) (fun h_26 => ?_) (fun h_26 => ?_)
    · exact absurd h_26 (by decide)
    · refine v_iconst (v := nI 0) O dX3_told_29 (by decide) ?_
      exact v_iret O rfl dX3_told_30 (by omega) (by omega) (by rw [show opTold S x = (1, nI 0, refS S 1) from by rw [opTold, if_neg h12]]; exact ⟨rfl, ⟨ad, _, _, _, hR6, (((hM.thr 0).rf (r := 1) (by omega)).thr 1)⟩, (hf1.trans hf6)⟩)
theorem c_X3_ways {G : vGC} (hG : vGok G) {σ : vSt} {m : Nat} {S : SysM} {t0 : Nat} (hA : ModAt σ m S t0) (hS : okS S) : Ct G yX3_ways (ws_ yX3_ways cX3_ways 1 (some .int)) 5 0 0 σ [.ref m] (fun v σ9 => v = some (.int (opWays S)) ∧ ModAt σ9 m S 0 ∧ FrL [m] σ σ9) vNo := by
  refine ct_of hG (by decide) (Nat.le_of_ble_eq_true rfl) fun X hN O hnm htb => ?_
  show V G X _ 0 0 σ 0 [(0, .ref m)] []
  obtain ⟨ad, I, F, L, hR, hM⟩ := id hA
  have hd := okS.d S hS
  have hn1 : 1 ≤ (sN S).1 := hd.1
  have hn : (sN S).1 ≤ 12 := hd.2.1
  have hp12 := p12 hn
  have hal := all_lt (N := sN S)
  refine v_aload_n O dX3_ways_0 rfl 0 rfl ?_
  refine v_iconst (v := nI 0) O dX3_ways_1 (by decide) ?_
  refine r_puti (K := layM) (I' := (va_up I 0 (nI 0))) (ty0 := tyX3) O hR in_X3 tyX3_ok nmX3 (show vcl[2]? = some (RX3, TX3, 27) from rfl) 0 (by decide) rfl q1492 rfl (tyX3_ok 0 (by decide)) rfl rfl (Nat.le_of_ble_eq_true rfl) rfl dX3_ways_2 (fun σ1 hR1 hf1 => ?_)
  refine v_aload_n O dX3_ways_5 rfl 0 rfl ?_
  refine v_callV (as := []) (rest := []) O (c_X3_lays hG hR1 (hM.thr 0) hS) q1752 q1754 qs57 q77 q1755 hR1.ob (show vcl[2]? = some (RX3, TX3, 27) from rfl) rfl mdX3_lays rfl (by decide) (by omega) (by omega) (by omega) (Nat.le_of_ble_eq_true rfl) rfl dX3_ways_6 (fun v9 σ3 hp9 => ?_) (fun _ _ _ h => False.elim h)
  obtain ⟨rfl, I2, F2, L2, hR2, hM2, hl2, hf2⟩ := hp9
  have hE2 : Enc (F2 9) (sN S) := hM2.e9
  refine v_aload_n O dX3_ways_9 rfl 0 rfl ?_
  refine v_getf (C := RX3) (T := TX3) (N := 27) (v := .ref (ad 18)) O in_X3 hR2.ob rfl 18 (by decide) rfl q1510 rfl dX3_ways_10 ?_
  refine v_aload_n O dX3_ways_13 rfl 0 rfl ?_
  refine v_callV (as := []) (rest := [.ref (ad 18)]) O (c_X3_all hG hR2 hE2 (by first | omega | exact hn)) q1756 q1758 qs58 q77 q1759 hR2.ob (show vcl[2]? = some (RX3, TX3, 27) from rfl) rfl mdX3_all rfl (by decide) (by omega) (by omega) (by omega) (Nat.le_of_ble_eq_true rfl) rfl dX3_ways_14 (fun v9 σ9 hp9 => ?_) (fun _ _ _ h => False.elim h)
  obtain ⟨rfl, hs9⟩ := hp9
  obtain rfl := hs9.symm
  refine v_lald (f := L2 18) O (hR2.lg 18 rfl) (by omega) (by omega) dX3_ways_17 ?_
  refine v_topl (y := lN (dpN (sN S) (allN (sN S))).2.1) (hl2 _ (by first | omega | exact sall_lt | exact restN_lt)).2.1 ?_
  refine v_l2i (z := (opWays S)) O dX3_ways_18 (l2i_lN _) ?_
  exact v_iret O rfl dX3_ways_19 (by omega) (by omega) (⟨rfl, ⟨ad, _, _, _, hR2, hM2⟩, (hf1.trans hf2)⟩)
theorem c_X3_heavy {G : vGC} (hG : vGok G) {σ : vSt} {m : Nat} {S : SysM} {t0 : Nat} (hA : ModAt σ m S t0) (hS : okS S) {x : Int32} : Ct G yX3_heavy (ws_ yX3_heavy cX3_heavy 2 (some .int)) 5 0 0 σ [.ref m, .int x] (fun v σ9 => v = some (.int (opHeavy S x).2.1) ∧ ModAt σ9 m (opHeavy S x).2.2 (opHeavy S x).1 ∧ FrL [m] σ σ9) vNo := by
  refine ct_of hG (by decide) (Nat.le_of_ble_eq_true rfl) fun X hN O hnm htb => ?_
  show V G X _ 0 0 σ 0 [(0, .ref m), (1, .int x)] []
  obtain ⟨ad, I, F, L, hR, hM⟩ := id hA
  have hd := okS.d S hS
  have hn1 : 1 ≤ (sN S).1 := hd.1
  have hn : (sN S).1 ≤ 12 := hd.2.1
  have hp12 := p12 hn
  have hal := all_lt (N := sN S)
  refine v_aload_n O dX3_heavy_0 rfl 0 rfl ?_
  refine v_iconst (v := nI 0) O dX3_heavy_1 (by decide) ?_
  refine r_puti (K := layM) (I' := (va_up I 0 (nI 0))) (ty0 := tyX3) O hR in_X3 tyX3_ok nmX3 (show vcl[2]? = some (RX3, TX3, 27) from rfl) 0 (by decide) rfl q1492 rfl (tyX3_ok 0 (by decide)) rfl rfl (Nat.le_of_ble_eq_true rfl) rfl dX3_heavy_2 (fun σ1 hR1 hf1 => ?_)
  refine v_aload_n O dX3_heavy_5 rfl 0 rfl ?_
  refine v_iload_n O dX3_heavy_6 rfl 1 rfl ?_
  refine v_iconst (v := nI 0) O dX3_heavy_7 (by decide) ?_
  refine v_iconst (v := nI 1) O dX3_heavy_8 (by decide) ?_
  refine v_callS (as := [.int x, .int (nI 0), .int (nI 1)]) (rest := [.ref m]) O (c_X3_in hG (x := x) (lo := nI 0) (hi := nI 1)) q1587 q1588 q77 q1589 mdX3_in rfl (by decide) (by omega) (by omega) (by omega) (Nat.le_of_ble_eq_true rfl) rfl dX3_heavy_9 (fun v9 σ9 hp9 => ?_) (fun _ _ _ h => False.elim h)
  obtain ⟨rfl, hs9⟩ := hp9
  obtain rfl := hs9.symm
  refine v_if_neB (tgt := 19) O dX3_heavy_12 (by decide) (fun h_12 => ?_) (fun h_12 => ?_)
  · have h12 := of_decide_eq_true h_12
    obtain ⟨j, hj, rfl⟩ := nI_of2 (n := 1) (M := nI 1) rfl (Int32.not_lt.mpr h12.1) h12.2
    refine v_iconst (v := nI 0) O dX3_heavy_19 (by decide) ?_
    refine v_iconst (v := nI 1) O dX3_heavy_20 (by decide) ?_
    refine v_iconst (v := nI 1) O dX3_heavy_21 (by decide) ?_
    refine v_callV (as := [.int (nI 0), .int (nI 1), .int (nI 1)]) (rest := []) O (c_X3_bad hG (p := false) (w := 1) (r := 1) hR1 (by omega) (by omega) rfl) q1590 q1592 qs32 q77 q1593 hR1.ob (show vcl[2]? = some (RX3, TX3, 27) from rfl) rfl mdX3_bad rfl (by decide) (by omega) (by omega) (by omega) (Nat.le_of_ble_eq_true rfl) rfl dX3_heavy_22 (fun v9 σ3 hp9 => ?_) (fun _ _ _ h => False.elim h)
    obtain ⟨rfl, hR2, hf2⟩ := hp9
    replace hR2 : RecAt layM σ3 m ad (va_up I 0 (nI 0)) F L := hR2
    refine v_if_eqB (tgt := 30) O dX3_heavy_25 (by decide) (fun h_25 => ?_) (fun h_25 => ?_)
    · refine v_aload_n O dX3_heavy_30 rfl 0 rfl ?_
      refine v_callV (as := []) (rest := []) O (c_X3_lays hG hR2 (hM.thr 0) hS) q1752 q1754 qs57 q77 q1755 hR2.ob (show vcl[2]? = some (RX3, TX3, 27) from rfl) rfl mdX3_lays rfl (by decide) (by omega) (by omega) (by omega) (Nat.le_of_ble_eq_true rfl) rfl dX3_heavy_31 (fun v9 σ5 hp9 => ?_) (fun _ _ _ h => False.elim h)
      obtain ⟨rfl, I4, F4, L4, hR4, hM4, hl4, hf4⟩ := hp9
      have hE4 : Enc (F4 9) (sN S) := hM4.e9
      refine v_iload_n O dX3_heavy_34 rfl 1 rfl ?_
      refine v_if_neN (tgt := 50) O dX3_heavy_35 (by decide) (by omega) (fun h_35 => ?_) (fun h_35 => ?_)
      · refine v_aload_n O dX3_heavy_50 rfl 0 rfl ?_
        refine v_getf (C := RX3) (T := TX3) (N := 27) (v := .ref (ad 17)) O in_X3 hR4.ob rfl 17 (by decide) rfl q1509 rfl dX3_heavy_51 ?_
        refine v_aload_n O dX3_heavy_54 rfl 0 rfl ?_
        refine v_callV (as := []) (rest := [.ref (ad 17)]) O (c_X3_all hG hR4 hE4 (by first | omega | exact hn)) q1756 q1758 qs58 q77 q1759 hR4.ob (show vcl[2]? = some (RX3, TX3, 27) from rfl) rfl mdX3_all rfl (by decide) (by omega) (by omega) (by omega) (Nat.le_of_ble_eq_true rfl) rfl dX3_heavy_55 (fun v9 σ9 hp9 => ?_) (fun _ _ _ h => False.elim h)
        obtain ⟨rfl, hs9⟩ := hp9
        obtain rfl := hs9.symm
        refine v_iald (f := F4 17) O (hR4.ar 17 rfl) (by omega) (by omega) dX3_heavy_58 ?_
        refine v_top (y := nI ((dpN (sN S) (allN (sN S))).2.2.2)) (hl4 _ (by first | omega | exact sall_lt | exact restN_lt)).2.2.2 ?_
        exact v_iret O rfl dX3_heavy_59 (by omega) (by omega) (by rw [show opHeavy S (nI j) = (0, nI (topN (sN S)).2.2.2, S) from by rw [opHeavy, if_pos h12]; rw [if_neg (fun e => h_35 (nI_inj (by omega) (by omega) e))]]; exact ⟨rfl, ⟨ad, _, _, _, hR4, hM4⟩, ((hf1.trans hf2).trans hf4)⟩)
      · 
        refine v_aload_n O dX3_heavy_38 rfl 0 rfl ?_
        refine v_getf (C := RX3) (T := TX3) (N := 27) (v := .ref (ad 16)) O in_X3 hR4.ob rfl 16 (by decide) rfl q1508 rfl dX3_heavy_39 ?_
        refine v_aload_n O dX3_heavy_42 rfl 0 rfl ?_
        refine v_callV (as := []) (rest := [.ref (ad 16)]) O (c_X3_all hG hR4 hE4 (by first | omega | exact hn)) q1756 q1758 qs58 q77 q1759 hR4.ob (show vcl[2]? = some (RX3, TX3, 27) from rfl) rfl mdX3_all rfl (by decide) (by omega) (by omega) (by omega) (Nat.le_of_ble_eq_true rfl) rfl dX3_heavy_43 (fun v9 σ9 hp9 => ?_) (fun _ _ _ h => False.elim h)
        obtain ⟨rfl, hs9⟩ := hp9
        obtain rfl := hs9.symm
        refine v_iald (f := F4 16) O (hR4.ar 16 rfl) (by omega) (by omega) dX3_heavy_46 ?_
        refine v_top (y := nI ((dpN (sN S) (allN (sN S))).2.2.1)) (hl4 _ (by first | omega | exact sall_lt | exact restN_lt)).2.2.1 ?_
        refine v_goto (tgt := 59) O dX3_heavy_47 (by decide) ?_
        exact v_iret O rfl dX3_heavy_59 (by omega) (by omega) (by rw [show opHeavy S (nI j) = (0, nI (topN (sN S)).2.2.1, S) from by rw [opHeavy, if_pos h12]; rw [if_pos (congrArg nI h_35)]]; exact ⟨rfl, ⟨ad, _, _, _, hR4, hM4⟩, ((hf1.trans hf2).trans hf4)⟩)
    · exact absurd h_25 (by decide)
  · have h12 := of_decide_eq_false h_12
    refine v_iconst (v := nI 1) O dX3_heavy_15 (by decide) ?_
    refine v_goto (tgt := 20) O dX3_heavy_16 (by decide) ?_
    refine v_iconst (v := nI 1) O dX3_heavy_20 (by decide) ?_
    refine v_iconst (v := nI 1) O dX3_heavy_21 (by decide) ?_
    refine v_callV (as := [.int (nI 1), .int (nI 1), .int (nI 1)]) (rest := []) O (c_X3_bad hG (p := true) (w := 1) (r := 1) hR1 (by omega) (by omega) rfl) q1590 q1592 qs32 q77 q1593 hR1.ob (show vcl[2]? = some (RX3, TX3, 27) from rfl) rfl mdX3_bad rfl (by decide) (by omega) (by omega) (by omega) (Nat.le_of_ble_eq_true rfl) rfl dX3_heavy_22 (fun v9 σ7 hp9 => ?_) (fun _ _ _ h => False.elim h)
    obtain ⟨rfl, hR6, hf6⟩ := hp9
    replace hR6 : RecAt layM σ7 m ad (va_up (va_up I 0 (nI 0)) 0 (nI 1)) (va_up F 1 (va_up (F 1) 1 ((F 1) 1 + nI 1))) L := hR6
    refine v_if_eqB (tgt := 30) O dX3_heavy_25 (by decide) (fun h_25 => ?_) (fun h_25 => ?_)
    · exact absurd h_25 (by decide)
    · refine v_iconst (v := nI 0) O dX3_heavy_28 (by decide) ?_
      exact v_iret O rfl dX3_heavy_29 (by omega) (by omega) (by rw [show opHeavy S x = (1, nI 0, refS S 1) from by rw [opHeavy, if_neg h12]]; exact ⟨rfl, ⟨ad, _, _, _, hR6, (((hM.thr 0).rf (r := 1) (by omega)).thr 1)⟩, (hf1.trans hf6)⟩)
theorem mk_or {p : Nat → Bool} {a : Nat} (h : p a = true) : mk p a ||| 2 ^ a = mk p (a + 1) := by rw [mk, if_pos h]
theorem mk_or0 {p : Nat → Bool} {a : Nat} (h : p a = false) : mk p a ||| 0 = mk p (a + 1) := by rw [mk, if_neg (by rw [h]; decide)]
theorem mk_or1 {p : Nat → Bool} {a : Nat} (h : p a = false) : mk p a = mk p (a + 1) := by rw [mk, if_neg (by rw [h]; decide), Nat.or_zero]
theorem or0 (a : Nat) : nI a ||| nI 0 = nI a := by rw [bx_or, Nat.or_zero]
theorem l_X3_missed {G : vGC} (hG : vGok G) {X : vCX} {Q : State → Prop} {c0 n0 : Nat} (O : vOk G X yX3_missed.cls cX3_missed (some .int) 5 0 0) (hN : xn X = 3) (hcm0 : c0 ≤ 0) (hsm0 : n0 ≤ 0) {σ : vSt} {m : Nat} {ad : Nat → Nat} {I : Nat → Int32} {F : Nat → Nat → Int32} {L : Nat → Nat → Int64} (hR : RecAt layM σ m ad I F L) {N : NetM} (hE : Enc (F 9) N) (hn : N.1 ≤ 12) (hl : LaidOk N.1 N.2.1 F L) (hb : ∀ s, s < 2 ^ N.1 → (dpN N s).1 ≤ 12) (kx : V G X Q c0 n0 σ 59 [(0, .ref m), (1, .int (nI (misN N)))] []) : ∀ (k : Nat) (a : Nat), (N.1 < a + k) → (a ≤ N.1) → V G X Q c0 n0 σ 8 [(0, .ref m), (1, .int (nI (mk (fun a => decide ((dpN N (sd (allN N) (2 ^ a))).1 = (topN N).1)) a))), (2, .int (nI a))] [] := by
  intro k
  induction k with
  | zero => intro a h0 h1; exact absurd h0 (by omega)
  | succ k ih =>
    intro a h0 h1
    have hal := all_lt (N := N)
    have hp12 := p12 hn
    have hsl := sall_lt (N := N) (s := 2 ^ a)
    have hb1 := hb _ hsl
    have hb2 := hb _ hal
    refine v_iload_n O dX3_missed_8 rfl 2 rfl ?_
    refine v_aload_n O dX3_missed_9 rfl 0 rfl ?_
    refine v_callV (as := []) (rest := [.int (nI a)]) O (c_X3_nodes hG hR hE (by first | omega | exact hn)) q1677 q1679 qs47 q77 q1680 hR.ob (show vcl[2]? = some (RX3, TX3, 27) from rfl) rfl mdX3_nodes rfl (by decide) (by omega) (by omega) (by omega) (Nat.le_of_ble_eq_true rfl) rfl dX3_missed_10 (fun v9 σ9 hp9 => ?_) (fun _ _ _ h => False.elim h)
    obtain ⟨rfl, hs9⟩ := hp9
    obtain rfl := hs9.symm
    refine v_icmp_geN (tgt := 59) O dX3_missed_13 (by decide) (by omega) (by omega) (fun h_13 => ?_) (fun h_13 => ?_)
    · obtain rfl : a = N.1 := by omega
      exact v_lv [0, 1] rfl kx
    · refine v_iload_n O dX3_missed_16 rfl 1 rfl ?_
      refine v_aload_n O dX3_missed_17 rfl 0 rfl ?_
      refine v_getf (C := RX3) (T := TX3) (N := 27) (v := .ref (ad 15)) O in_X3 hR.ob rfl 15 (by decide) rfl q1507 rfl dX3_missed_18 ?_
      refine v_aload_n O dX3_missed_21 rfl 0 rfl ?_
      refine v_callV (as := []) (rest := [.ref (ad 15), .int (nI (mk (fun a => decide ((dpN N (sd (allN N) (2 ^ a))).1 = (topN N).1)) a))]) O (c_X3_all hG hR hE (by first | omega | exact hn)) q1756 q1758 qs58 q77 q1759 hR.ob (show vcl[2]? = some (RX3, TX3, 27) from rfl) rfl mdX3_all rfl (by decide) (by omega) (by omega) (by omega) (Nat.le_of_ble_eq_true rfl) rfl dX3_missed_22 (fun v9 σ9 hp9 => ?_) (fun _ _ _ h => False.elim h)
      obtain ⟨rfl, hs9⟩ := hp9
      obtain rfl := hs9.symm
      refine v_iconst (v := nI 1) O dX3_missed_25 (by decide) ?_
      refine v_iload_n O dX3_missed_26 rfl 2 rfl ?_
      refine v_ishl (z := nI (2 ^ a)) O dX3_missed_27 (bx_shl1 (by omega)) ?_
      refine v_iconst (v := (-1)) O dX3_missed_28 (by decide) ?_
      refine v_ixor (z := nI (2 ^ a) ^^^ -1) O dX3_missed_29 rfl ?_
      refine v_iand (z := nI (sd (allN N) (2 ^ a))) O dX3_missed_30 (bx_sd (by omega) (by first | omega | exact Nat.pow_lt_pow_right (by omega) (by omega))) ?_
      refine v_iald (f := F 15) O (hR.ar 15 rfl) (by omega) (by omega) dX3_missed_31 ?_
      refine v_top (y := nI ((dpN N (sd (allN N) (2 ^ a))).1)) (hl _ (by first | omega | exact sall_lt | exact restN_lt)).1 ?_
      refine v_aload_n O dX3_missed_32 rfl 0 rfl ?_
      refine v_getf (C := RX3) (T := TX3) (N := 27) (v := .ref (ad 15)) O in_X3 hR.ob rfl 15 (by decide) rfl q1507 rfl dX3_missed_33 ?_
      refine v_aload_n O dX3_missed_36 rfl 0 rfl ?_
      refine v_callV (as := []) (rest := [.ref (ad 15), .int (nI ((dpN N (sd (allN N) (2 ^ a))).1)), .int (nI (mk (fun a => decide ((dpN N (sd (allN N) (2 ^ a))).1 = (topN N).1)) a))]) O (c_X3_all hG hR hE (by first | omega | exact hn)) q1756 q1758 qs58 q77 q1759 hR.ob (show vcl[2]? = some (RX3, TX3, 27) from rfl) rfl mdX3_all rfl (by decide) (by omega) (by omega) (by omega) (Nat.le_of_ble_eq_true rfl) rfl dX3_missed_37 (fun v9 σ9 hp9 => ?_) (fun _ _ _ h => False.elim h)
      obtain ⟨rfl, hs9⟩ := hp9
      obtain rfl := hs9.symm
      refine v_iald (f := F 15) O (hR.ar 15 rfl) (by omega) (by omega) dX3_missed_40 ?_
      refine v_top (y := nI ((dpN N (allN N)).1)) (hl _ (by first | omega | exact sall_lt | exact restN_lt)).1 ?_
      refine v_icmp_neN (tgt := 50) O dX3_missed_41 (by decide) (by omega) (by omega) (fun h_41 => ?_) (fun h_41 => ?_)
      · refine v_iconst (v := nI 0) O dX3_missed_50 (by decide) ?_
        refine v_ior (z := nI (mk (fun a => decide ((dpN N (sd (allN N) (2 ^ a))).1 = (topN N).1)) (a + 1))) O dX3_missed_51 ((bx_or _ _).trans (congrArg nI (mk_or0 (decide_eq_false h_41)))) ?_
        refine v_istore_n (lv' := [(1, .int (nI (mk (fun a => decide ((dpN N (sd (allN N) (2 ^ a))).1 = (topN N).1)) (a + 1)))), (0, .ref m), (2, .int (nI a))]) O hN dX3_missed_52 rfl (by decide) rfl ?_
        refine v_iinc (v := nI (a + 1)) (lv' := [(2, .int (nI (a + 1))), (1, .int (nI (mk (fun a => decide ((dpN N (sd (allN N) (2 ^ a))).1 = (topN N).1)) (a + 1)))), (0, .ref m)]) O hN dX3_missed_53 2 rfl (nI_add a 1) (by decide) rfl ?_
        refine v_goto (tgt := 8) O dX3_missed_56 (by decide) ?_
        refine v_lv [2, 1, 0] rfl ?_
        exact ih (a + 1) (by omega) (by omega)
      · refine v_iconst (v := nI 1) O dX3_missed_44 (by decide) ?_
        refine v_iload_n O dX3_missed_45 rfl 2 rfl ?_
        refine v_ishl (z := nI (2 ^ a)) O dX3_missed_46 (bx_shl1 (by omega)) ?_
        refine v_goto (tgt := 51) O dX3_missed_47 (by decide) ?_
        refine v_ior (z := nI (mk (fun a => decide ((dpN N (sd (allN N) (2 ^ a))).1 = (topN N).1)) (a + 1))) O dX3_missed_51 ((bx_or _ _).trans (congrArg nI (mk_or (decide_eq_true h_41)))) ?_
        refine v_istore_n (lv' := [(1, .int (nI (mk (fun a => decide ((dpN N (sd (allN N) (2 ^ a))).1 = (topN N).1)) (a + 1)))), (0, .ref m), (2, .int (nI a))]) O hN dX3_missed_52 rfl (by decide) rfl ?_
        refine v_iinc (v := nI (a + 1)) (lv' := [(2, .int (nI (a + 1))), (1, .int (nI (mk (fun a => decide ((dpN N (sd (allN N) (2 ^ a))).1 = (topN N).1)) (a + 1)))), (0, .ref m)]) O hN dX3_missed_53 2 rfl (nI_add a 1) (by decide) rfl ?_
        refine v_goto (tgt := 8) O dX3_missed_56 (by decide) ?_
        refine v_lv [2, 1, 0] rfl ?_
        exact ih (a + 1) (by omega) (by omega)
theorem c_X3_missed {G : vGC} (hG : vGok G) {σ : vSt} {m : Nat} {ad : Nat → Nat} {I : Nat → Int32} {F : Nat → Nat → Int32} {L : Nat → Nat → Int64} (hR : RecAt layM σ m ad I F L) {S : SysM} {t : Nat} (hM : ModIs I F L S t Enc) (hS : okS S) : Ct G yX3_missed (ws_ yX3_missed cX3_missed 3 (some .int)) 5 0 0 σ [.ref m] (fun v σ9 => v = some (.int (nI (misN (sN S)))) ∧ ∃ (I' : Nat → Int32) (F' : Nat → Nat → Int32) (L' : Nat → Nat → Int64), RecAt layM σ9 m ad I' F' L' ∧ ModIs I' F' L' S t Enc ∧ FrL [m] σ σ9) vNo := by
  refine ct_of hG (by decide) (Nat.le_of_ble_eq_true rfl) fun X hN O hnm htb => ?_
  show V G X _ 0 0 σ 0 [(0, .ref m)] []
  have hd := okS.d S hS
  have hn1 : 1 ≤ (sN S).1 := hd.1
  have hn : (sN S).1 ≤ 12 := hd.2.1
  have hE : Enc (F 9) (sN S) := hM.e9
  have hp12 := p12 hn
  have hal := all_lt (N := sN S)
  refine v_aload_n O dX3_missed_0 rfl 0 rfl ?_
  refine v_callV (as := []) (rest := []) O (c_X3_lays hG hR hM hS) q1752 q1754 qs57 q77 q1755 hR.ob (show vcl[2]? = some (RX3, TX3, 27) from rfl) rfl mdX3_lays rfl (by decide) (by omega) (by omega) (by omega) (Nat.le_of_ble_eq_true rfl) rfl dX3_missed_1 (fun v9 σ2 hp9 => ?_) (fun _ _ _ h => False.elim h)
  obtain ⟨rfl, I1, F1, L1, hR1, hM1, hl1, hf1⟩ := hp9
  have hE1 : Enc (F1 9) (sN S) := hM1.e9
  refine v_iconst (v := nI 0) O dX3_missed_4 (by decide) ?_
  refine v_istore_n (lv' := [(1, .int (nI 0)), (0, .ref m)]) O hN dX3_missed_5 rfl (by decide) rfl ?_
  refine v_iconst (v := nI 0) O dX3_missed_6 (by decide) ?_
  refine v_istore_n (lv' := [(2, .int (nI 0)), (1, .int (nI 0)), (0, .ref m)]) O hN dX3_missed_7 rfl (by decide) rfl ?_
  refine v_lv [2, 1, 0] rfl ?_
  refine l_X3_missed hG O hN (by omega) (by omega) hR1 hE1 hn hl1 (fun s hs => (dp_small hS.2.2.2.2.w hn hs).1) ?_ ((sN S).1 + 1) 0 (by omega) (by omega)
  refine v_iload_n O dX3_missed_59 rfl 1 rfl ?_
  exact v_iret O rfl dX3_missed_60 (by omega) (by omega) ⟨rfl, _, _, _, hR1, hM1, hf1⟩
def bsP (N : NetM) (s a b : Nat) : Bool := !s.testBit a && (s.testBit b && ln N a b)
def bsU (N : NetM) (s a : Nat) : Nat → Bool
  | 0 => false
  | k + 1 => bsU N s a k || bsP N s a k
def bsM (N : NetM) (s : Nat) : Nat := mk (fun a => bsU N s a N.1) N.1
theorem bsU_iff {N : NetM} {s a : Nat} : ∀ k, bsU N s a k = true ↔ ∃ b, b < k ∧ bsP N s a b = true
  | 0 => by simp [bsU]
  | k + 1 => by
    rw [bsU, Bool.or_eq_true, bsU_iff k]
    constructor
    · rintro (⟨b, h1, h2⟩ | h)
      · exact ⟨b, by omega, h2⟩
      · exact ⟨k, by omega, h⟩
    · rintro ⟨b, h1, h2⟩
      by_cases e : b = k
      · subst e; exact Or.inr h2
      · exact Or.inl ⟨b, by omega, h2⟩
theorem mk_congr {p q : Nat → Bool} : ∀ n, (∀ i, i < n → p i = q i) → mk p n = mk q n
  | 0, _ => rfl
  | n + 1, h => by rw [mk, mk, mk_congr n (fun i hi => h i (by omega)), h n (by omega)]
theorem bsM_eq {N : NetM} : bsM N (misN N) = bsdN N := by
  refine mk_congr _ fun a _ => ?_
  rw [Bool.eq_iff_iff, bsU_iff, Bool.and_eq_true, decide_eq_true_iff]
  constructor
  · rintro ⟨b, h1, h2⟩
    unfold bsP at h2
    rw [Bool.and_eq_true, Bool.and_eq_true] at h2
    refine ⟨h2.1, fun e => ?_⟩
    have h3 : (besN N a &&& misN N).testBit b = true := by rw [Nat.testBit_and, besN_bit, h2.2.1, h2.2.2, decide_eq_true h1]; rfl
    rw [e, Nat.zero_testBit] at h3
    cases h3
  · rintro ⟨h1, h2⟩
    obtain ⟨b, hb⟩ := bits_ne (t := 0) h2
    rw [Nat.zero_testBit] at hb
    have h3 : (besN N a &&& misN N).testBit b = true := by
      cases hx : (besN N a &&& misN N).testBit b
      · exact absurd hx hb
      · rfl
    rw [Nat.testBit_and, besN_bit, Bool.and_eq_true, Bool.and_eq_true, decide_eq_true_iff] at h3
    exact ⟨b, h3.1.1, by unfold bsP; rw [h1, h3.2, h3.1.2]; rfl⟩
def orB (s : Nat) (p : Bool) (a : Nat) : Nat := if p then s ||| 2 ^ a else s
theorem orB_t {s a : Nat} {p q : Bool} (h : q = true) : orB s p a ||| 2 ^ a = orB s (p || q) a := by
  subst h
  cases p
  · rfl
  · simp [orB, Nat.or_assoc]
theorem orB_f {s a : Nat} {p q : Bool} (h : q = false) : orB s p a = orB s (p || q) a := by subst h; rw [Bool.or_false]
theorem l_X3_beside_i {G : vGC} (hG : vGok G) {X : vCX} {Q : State → Prop} {c0 n0 : Nat} (O : vOk G X yX3_beside.cls cX3_beside (some .int) 2 0 0) (hN : xn X = 5) (hcm0 : c0 ≤ 0) (hsm0 : n0 ≤ 0) {σ : vSt} {m : Nat} {ad : Nat → Nat} {I : Nat → Int32} {F : Nat → Nat → Int32} {L : Nat → Nat → Int64} (hR : RecAt layM σ m ad I F L) {N : NetM} (hE : Enc (F 9) N) (hn : N.1 ≤ 12) {s : Nat} (hs : s < 4096) {a z : Nat} (ha : a < N.1) (hz : z < 4096) (kx : V G X Q c0 n0 σ 64 [(0, .ref m), (1, .int (nI s)), (2, .int (nI (orB z (bsU N s a N.1) a))), (3, .int (nI a))] []) : ∀ (k : Nat) (b : Nat), (N.1 < b + k) → (b ≤ N.1) → V G X Q c0 n0 σ 15 [(0, .ref m), (1, .int (nI s)), (2, .int (nI (orB z (bsU N s a b) a))), (3, .int (nI a)), (4, .int (nI b))] [] := by
  intro k
  induction k with
  | zero => intro b h0 h1; exact absurd h0 (by omega)
  | succ k ih =>
    intro b h0 h1
    refine v_iload O dX3_beside_15 4 rfl ?_
    refine v_aload_n O dX3_beside_17 rfl 0 rfl ?_
    refine v_callV (as := []) (rest := [.int (nI b)]) O (c_X3_nodes hG hR hE (by first | omega | exact hn)) q1677 q1679 qs47 q77 q1680 hR.ob (show vcl[2]? = some (RX3, TX3, 27) from rfl) rfl mdX3_nodes rfl (by decide) (by omega) (by omega) (by omega) (Nat.le_of_ble_eq_true rfl) rfl dX3_beside_18 (fun v9 σ9 hp9 => ?_) (fun _ _ _ h => False.elim h)
    obtain ⟨rfl, hs9⟩ := hp9
    obtain rfl := hs9.symm
    refine v_icmp_geN (tgt := 64) O dX3_beside_21 (by decide) (by omega) (by omega) (fun h_21 => ?_) (fun h_21 => ?_)
    · obtain rfl : b = N.1 := by omega
      exact v_lv [0, 1, 2, 3] rfl kx
    · refine v_iload_n O dX3_beside_24 rfl 1 rfl ?_
      refine v_iload_n O dX3_beside_25 rfl 3 rfl ?_
      refine v_callS (as := [.int (nI s), .int (nI a)]) (rest := []) O (c_X3_has hG (s := s) (k := a) (by omega) (by omega)) q1741 q1742 q77 q1743 mdX3_has rfl (by decide) (by omega) (by omega) (by omega) (Nat.le_of_ble_eq_true rfl) rfl dX3_beside_26 (fun v9 σ9 hp9 => ?_) (fun _ _ _ h => False.elim h)
      obtain ⟨rfl, hs9⟩ := hp9
      obtain rfl := hs9.symm
      refine v_if_neB (tgt := 58) O dX3_beside_29 (by decide) (fun h_29 => ?_) (fun h_29 => ?_)
      · rw [orB_f (s := z) (a := a) (p := bsU N s a b) (q := bsP N s a b) (by simp [bsP, h_29])]
        refine v_iinc (v := nI (b + 1)) (lv' := [(4, .int (nI (b + 1))), (0, .ref m), (1, .int (nI s)), (2, .int (nI (orB z (bsU N s a (b + 1)) a))), (3, .int (nI a))]) O hN dX3_beside_58 4 rfl (nI_add b 1) (by decide) rfl ?_
        refine v_goto (tgt := 15) O dX3_beside_61 (by decide) ?_
        refine v_lv [1, 2, 3, 4, 0] rfl ?_
        exact ih (b + 1) (by omega) (by omega)
      · refine v_iload_n O dX3_beside_32 rfl 1 rfl ?_
        refine v_iload O dX3_beside_33 4 rfl ?_
        refine v_callS (as := [.int (nI s), .int (nI b)]) (rest := []) O (c_X3_has hG (s := s) (k := b) (by omega) (by omega)) q1741 q1742 q77 q1743 mdX3_has rfl (by decide) (by omega) (by omega) (by omega) (Nat.le_of_ble_eq_true rfl) rfl dX3_beside_35 (fun v9 σ9 hp9 => ?_) (fun _ _ _ h => False.elim h)
        obtain ⟨rfl, hs9⟩ := hp9
        obtain rfl := hs9.symm
        refine v_if_eqB (tgt := 58) O dX3_beside_38 (by decide) (fun h_38 => ?_) (fun h_38 => ?_)
        · rw [orB_f (s := z) (a := a) (p := bsU N s a b) (q := bsP N s a b) (by simp [bsP, h_29, h_38])]
          refine v_iinc (v := nI (b + 1)) (lv' := [(4, .int (nI (b + 1))), (0, .ref m), (1, .int (nI s)), (2, .int (nI (orB z (bsU N s a (b + 1)) a))), (3, .int (nI a))]) O hN dX3_beside_58 4 rfl (nI_add b 1) (by decide) rfl ?_
          refine v_goto (tgt := 15) O dX3_beside_61 (by decide) ?_
          refine v_lv [1, 2, 3, 4, 0] rfl ?_
          exact ih (b + 1) (by omega) (by omega)
        · refine v_aload_n O dX3_beside_41 rfl 0 rfl ?_
          refine v_iload_n O dX3_beside_42 rfl 3 rfl ?_
          refine v_iload O dX3_beside_43 4 rfl ?_
          refine v_callV (as := [.int (nI a), .int (nI b)]) (rest := []) O (c_X3_weight hG hR hE (by first | omega | exact hn) (a := a) (b := b) (by omega) (by omega)) q1681 q1683 qs48 q77 q1684 hR.ob (show vcl[2]? = some (RX3, TX3, 27) from rfl) rfl mdX3_weight rfl (by decide) (by omega) (by omega) (by omega) (Nat.le_of_ble_eq_true rfl) rfl dX3_beside_45 (fun v9 σ9 hp9 => ?_) (fun _ _ _ h => False.elim h)
          obtain ⟨rfl, hs9⟩ := hp9
          obtain rfl := hs9.symm
          refine v_iconst (v := (-1)) O dX3_beside_48 (by decide) ?_
          refine v_icmp_eq (tgt := 58) O dX3_beside_49 (by decide) (fun h_49 => ?_) (fun h_49 => ?_)
          · rw [orB_f (s := z) (a := a) (p := bsU N s a b) (q := bsP N s a b) (by simp [bsP, h_29, h_38, h_49, ln])]
            refine v_iinc (v := nI (b + 1)) (lv' := [(4, .int (nI (b + 1))), (0, .ref m), (1, .int (nI s)), (2, .int (nI (orB z (bsU N s a (b + 1)) a))), (3, .int (nI a))]) O hN dX3_beside_58 4 rfl (nI_add b 1) (by decide) rfl ?_
            refine v_goto (tgt := 15) O dX3_beside_61 (by decide) ?_
            refine v_lv [1, 2, 3, 4, 0] rfl ?_
            exact ih (b + 1) (by omega) (by omega)
          · refine v_iload_n O dX3_beside_52 rfl 2 rfl ?_
            refine v_iconst (v := nI 1) O dX3_beside_53 (by decide) ?_
            refine v_iload_n O dX3_beside_54 rfl 3 rfl ?_
            refine v_ishl (z := nI (2 ^ a)) O dX3_beside_55 (bx_shl1 (by omega)) ?_
            refine v_ior (z := nI (orB z (bsU N s a (b + 1)) a)) O dX3_beside_56 ((bx_or _ _).trans (congrArg nI (orB_t (by simp [bsP, h_29, h_38, ln, h_49])))) ?_
            refine v_istore_n (lv' := [(2, .int (nI (orB z (bsU N s a (b + 1)) a))), (0, .ref m), (1, .int (nI s)), (3, .int (nI a)), (4, .int (nI b))]) O hN dX3_beside_57 rfl (by decide) rfl ?_
            refine v_iinc (v := nI (b + 1)) (lv' := [(4, .int (nI (b + 1))), (2, .int (nI (orB z (bsU N s a (b + 1)) a))), (0, .ref m), (1, .int (nI s)), (3, .int (nI a))]) O hN dX3_beside_58 4 rfl (nI_add b 1) (by decide) rfl ?_
            refine v_goto (tgt := 15) O dX3_beside_61 (by decide) ?_
            refine v_lv [2, 3, 1, 4, 0] rfl ?_
            exact ih (b + 1) (by omega) (by omega)
theorem l_X3_beside {G : vGC} (hG : vGok G) {X : vCX} {Q : State → Prop} {c0 n0 : Nat} (O : vOk G X yX3_beside.cls cX3_beside (some .int) 2 0 0) (hN : xn X = 5) (hcm0 : c0 ≤ 0) (hsm0 : n0 ≤ 0) {σ : vSt} {m : Nat} {ad : Nat → Nat} {I : Nat → Int32} {F : Nat → Nat → Int32} {L : Nat → Nat → Int64} (hR : RecAt layM σ m ad I F L) {N : NetM} (hE : Enc (F 9) N) (hn : N.1 ≤ 12) {s : Nat} (hs : s < 4096) (kx : V G X Q c0 n0 σ 70 [(0, .ref m), (1, .int (nI s)), (2, .int (nI (bsM N s)))] []) : ∀ (k : Nat) (a : Nat), (N.1 < a + k) → (a ≤ N.1) → V G X Q c0 n0 σ 4 [(0, .ref m), (1, .int (nI s)), (2, .int (nI (mk (fun a => bsU N s a N.1) a))), (3, .int (nI a))] [] := by
  intro k
  induction k with
  | zero => intro a h0 h1; exact absurd h0 (by omega)
  | succ k ih =>
    intro a h0 h1
    refine v_iload_n O dX3_beside_4 rfl 3 rfl ?_
    refine v_aload_n O dX3_beside_5 rfl 0 rfl ?_
    refine v_callV (as := []) (rest := [.int (nI a)]) O (c_X3_nodes hG hR hE (by first | omega | exact hn)) q1677 q1679 qs47 q77 q1680 hR.ob (show vcl[2]? = some (RX3, TX3, 27) from rfl) rfl mdX3_nodes rfl (by decide) (by omega) (by omega) (by omega) (Nat.le_of_ble_eq_true rfl) rfl dX3_beside_6 (fun v9 σ9 hp9 => ?_) (fun _ _ _ h => False.elim h)
    obtain ⟨rfl, hs9⟩ := hp9
    obtain rfl := hs9.symm
    refine v_icmp_geN (tgt := 70) O dX3_beside_9 (by decide) (by omega) (by omega) (fun h_9 => ?_) (fun h_9 => ?_)
    · obtain rfl : a = N.1 := by omega
      exact v_lv [0, 1, 2] rfl kx
    · refine v_iconst (v := nI 0) O dX3_beside_12 (by decide) ?_
      refine v_istore (lv' := [(4, .int (nI 0)), (0, .ref m), (1, .int (nI s)), (2, .int (nI (mk (fun a => bsU N s a N.1) a))), (3, .int (nI a))]) O hN dX3_beside_13 (by decide) rfl ?_
      refine v_lv [1, 2, 3, 4, 0] rfl ?_
      refine l_X3_beside_i hG O hN hcm0 hsm0 hR hE hn hs (z := mk (fun a => bsU N s a N.1) a) (by omega) (mk_4096 _ (by omega)) ?_ (N.1 + 1) 0 (by omega) (by omega)
      refine v_iinc (v := nI (a + 1)) (lv' := [(3, .int (nI (a + 1))), (0, .ref m), (1, .int (nI s)), (2, .int (nI (orB (mk (fun a => bsU N s a N.1) a) (bsU N s a N.1) a)))]) O hN dX3_beside_64 3 rfl (nI_add a 1) (by decide) rfl ?_
      refine v_goto (tgt := 4) O dX3_beside_67 (by decide) ?_
      refine v_lv [1, 2, 3, 0] rfl ?_
      have e9 : orB (mk (fun a => bsU N s a N.1) a) (bsU N s a N.1) a = mk (fun a => bsU N s a N.1) (a + 1) := by
        rw [mk, orB]
        split
        · rfl
        · rw [Nat.or_zero]
      rw [e9]
      exact ih (a + 1) (by omega) (by omega)
theorem c_X3_beside {G : vGC} (hG : vGok G) {σ : vSt} {m : Nat} {ad : Nat → Nat} {I : Nat → Int32} {F : Nat → Nat → Int32} {L : Nat → Nat → Int64} (hR : RecAt layM σ m ad I F L) {N : NetM} (hE : Enc (F 9) N) (hn : N.1 ≤ 12) {s : Nat} (hs : s < 4096) : Ct G yX3_beside (ws_ yX3_beside cX3_beside 5 (some .int)) 2 0 0 σ [.ref m, .int (nI s)] (fun v σ9 => v = some (.int (nI (bsM N s))) ∧ σ9 = σ) vNo := by
  refine ct_of hG (by decide) (Nat.le_of_ble_eq_true rfl) fun X hN O hnm htb => ?_
  show V G X _ 0 0 σ 0 [(0, .ref m), (1, .int (nI s))] []
  refine v_iconst (v := nI 0) O dX3_beside_0 (by decide) ?_
  refine v_istore_n (lv' := [(2, .int (nI 0)), (0, .ref m), (1, .int (nI s))]) O hN dX3_beside_1 rfl (by decide) rfl ?_
  refine v_iconst (v := nI 0) O dX3_beside_2 (by decide) ?_
  refine v_istore_n (lv' := [(3, .int (nI 0)), (2, .int (nI 0)), (0, .ref m), (1, .int (nI s))]) O hN dX3_beside_3 rfl (by decide) rfl ?_
  refine v_lv [2, 3, 1, 0] rfl ?_
  refine l_X3_beside hG O hN (by omega) (by omega) hR hE hn hs ?_ (N.1 + 1) 0 (by omega) (by omega)
  refine v_iload_n O dX3_beside_70 rfl 2 rfl ?_
  exact v_iret O rfl dX3_beside_71 (by omega) (by omega) ⟨rfl, rfl⟩
theorem mdX3_missed : vMd yX3_missed 0 := ⟨by decide +kernel, by decide +kernel, by decide +kernel⟩
theorem mdX3_beside : vMd yX3_beside 1 := ⟨by decide +kernel, by decide +kernel, by decide +kernel⟩
theorem c_X3_setOf {G : vGC} (hG : vGok G) {σ : vSt} {m : Nat} {ad : Nat → Nat} {I : Nat → Int32} {F : Nat → Nat → Int32} {L : Nat → Nat → Int64} (hR : RecAt layM σ m ad I F L) {S : SysM} {t : Nat} (hM : ModIs I F L S t Enc) (hS : okS S) {j : Nat} (hj : j < 3) : Ct G yX3_setOf (ws_ yX3_setOf cX3_setOf 4 (some .int)) 6 0 0 σ [.ref m, .int (nI j)] (fun v σ9 => v = some (.int (nI (setV (sN S) (nI j)))) ∧ ∃ (I' : Nat → Int32) (F' : Nat → Nat → Int32) (L' : Nat → Nat → Int64), RecAt layM σ9 m ad I' F' L' ∧ ModIs I' F' L' S t Enc ∧ FrL [m] σ σ9) vNo := by
  refine ct_of hG (by decide) (Nat.le_of_ble_eq_true rfl) fun X hN O hnm htb => ?_
  show V G X _ 0 0 σ 0 [(0, .ref m), (1, .int (nI j))] []
  have hd := okS.d S hS
  have hn1 : 1 ≤ (sN S).1 := hd.1
  have hn : (sN S).1 ≤ 12 := hd.2.1
  have hE : Enc (F 9) (sN S) := hM.e9
  have hp12 := p12 hn
  have hal := all_lt (N := sN S)
  have hm1 := misN_lt hn
  have hb1 := bsdN_lt (N := sN S) hn
  have ha1 := allN_lt hn
  have hs1 := sd_lt (b := misN (sN S)) ha1
  refine v_aload_n O dX3_setOf_0 rfl 0 rfl ?_
  refine v_callV (as := []) (rest := []) O (c_X3_missed hG hR hM hS) q1811 q1813 qs66 q77 q1814 hR.ob (show vcl[2]? = some (RX3, TX3, 27) from rfl) rfl mdX3_missed rfl (by decide) (by omega) (by omega) (by omega) (Nat.le_of_ble_eq_true rfl) rfl dX3_setOf_1 (fun v9 σ2 hp9 => ?_) (fun _ _ _ h => False.elim h)
  obtain ⟨rfl, I1, F1, L1, hR1, hM1, hf1⟩ := hp9
  have hE1 : Enc (F1 9) (sN S) := hM1.e9
  refine v_istore_n (lv' := [(2, .int (nI (misN (sN S)))), (0, .ref m), (1, .int (nI j))]) O hN dX3_setOf_4 rfl (by decide) rfl ?_
  refine v_aload_n O dX3_setOf_5 rfl 1 rfl ?_
  refine v_iload_n O dX3_setOf_6 rfl 0 rfl ?_
  refine v_callV (as := [.int (nI (misN (sN S)))]) (rest := []) O (c_X3_beside hG hR1 hE1 (by first | omega | exact hn) (s := misN (sN S)) (misN_lt hn)) q1815 q1817 qs67 q77 q1818 hR1.ob (show vcl[2]? = some (RX3, TX3, 27) from rfl) rfl mdX3_beside rfl (by decide) (by omega) (by omega) (by omega) (Nat.le_of_ble_eq_true rfl) rfl dX3_setOf_7 (fun v9 σ9 hp9 => ?_) (fun _ _ _ h => False.elim h)
  obtain ⟨rfl, hs9⟩ := hp9
  obtain rfl := hs9.symm
  rw [bsM_eq]
  refine v_istore_n (lv' := [(3, .int (nI (bsdN (sN S)))), (2, .int (nI (misN (sN S)))), (0, .ref m), (1, .int (nI j))]) O hN dX3_setOf_10 rfl (by decide) rfl ?_
  refine v_iload_n O dX3_setOf_11 rfl 3 rfl ?_
  refine v_if_neN (tgt := 19) O dX3_setOf_12 (by decide) (by omega) (fun h_12 => ?_) (fun h_12 => ?_)
  · refine v_iload_n O dX3_setOf_19 rfl 3 rfl ?_
    refine v_iconst (v := nI 1) O dX3_setOf_20 (by decide) ?_
    refine v_icmp_neN (tgt := 28) O dX3_setOf_21 (by decide) (by omega) (by omega) (fun h_21 => ?_) (fun h_21 => ?_)
    · refine v_aload_n O dX3_setOf_28 rfl 2 rfl ?_
      refine v_callV (as := []) (rest := []) O (c_X3_all hG hR1 hE1 (by first | omega | exact hn)) q1756 q1758 qs58 q77 q1759 hR1.ob (show vcl[2]? = some (RX3, TX3, 27) from rfl) rfl mdX3_all rfl (by decide) (by omega) (by omega) (by omega) (Nat.le_of_ble_eq_true rfl) rfl dX3_setOf_29 (fun v9 σ9 hp9 => ?_) (fun _ _ _ h => False.elim h)
      obtain ⟨rfl, hs9⟩ := hp9
      obtain rfl := hs9.symm
      refine v_iload_n O dX3_setOf_32 rfl 1 rfl ?_
      refine v_iconst (v := (-1)) O dX3_setOf_33 (by decide) ?_
      refine v_ixor (z := nI (misN (sN S)) ^^^ -1) O dX3_setOf_34 rfl ?_
      refine v_iand (z := nI (sd (allN (sN S)) (misN (sN S)))) O dX3_setOf_35 (bx_sd (by omega) (by first | omega | exact Nat.pow_lt_pow_right (by omega) (by omega))) ?_
      refine v_iload_n O dX3_setOf_36 rfl 0 rfl ?_
      refine v_iconst (v := (-1)) O dX3_setOf_37 (by decide) ?_
      refine v_ixor (z := nI (bsdN (sN S)) ^^^ -1) O dX3_setOf_38 rfl ?_
      refine v_iand (z := nI (sd (sd (allN (sN S)) (misN (sN S))) (bsdN (sN S)))) O dX3_setOf_39 (bx_sd (by omega) (by first | omega | exact Nat.pow_lt_pow_right (by omega) (by omega))) ?_
      exact v_iret O rfl dX3_setOf_40 (by omega) (by omega) (⟨by rw [setV, if_neg (fun e => h_12 (nI_inj (by omega) (by omega) e)), if_neg (fun e => h_21 (nI_inj (by omega) (by omega) e))], _, _, _, hR1, hM1, hf1⟩)
    · refine v_iload_n O dX3_setOf_24 rfl 0 rfl ?_
      refine v_goto (tgt := 40) O dX3_setOf_25 (by decide) ?_
      exact v_iret O rfl dX3_setOf_40 (by omega) (by omega) (⟨by rw [setV, if_neg (fun e => h_12 (nI_inj (by omega) (by omega) e)), if_pos (congrArg nI h_21)], _, _, _, hR1, hM1, hf1⟩)
  · refine v_iload_n O dX3_setOf_15 rfl 1 rfl ?_
    refine v_goto (tgt := 40) O dX3_setOf_16 (by decide) ?_
    exact v_iret O rfl dX3_setOf_40 (by omega) (by omega) (⟨by rw [setV, if_pos (congrArg nI h_12)], _, _, _, hR1, hM1, hf1⟩)
