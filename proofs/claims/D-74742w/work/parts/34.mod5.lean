theorem ModIs.undo {I : Nat → Int32} {F : Nat → Nat → Int32} {L : Nat → Nat → Int64} {S : SysM} {t l : Nat} {f : Nat → Int32} {N : NetM} (h : ModIs I F L S t Enc) (hl : (sKs S).length = l + 1) (hE : Enc f N) : ModIs (va_up (va_up I 12 (nI l)) 19 (nI 0)) (va_up F 9 f) L (S.1, S.2.1, S.2.2.1, S.2.2.2.1, (sKs S).dropLast, N) t Enc := by
  obtain ⟨h0, h2, h5, h12, h8, h1, h9, hk, hL⟩ := h
  refine ⟨h0, h2, h5, ?_, h8, h1, hE, fun i M hi => ?_, Or.inl rfl⟩
  · show nI l = nI (sKs S).dropLast.length
    rw [List.length_dropLast, hl, Nat.add_sub_cancel]
  · rw [vu, if_neg (by omega)]
    refine hk i M ?_
    have h3 := (List.getElem?_eq_some_iff.mp hi).1
    have h4 : i < (sKs S).length - 1 := by rw [← List.length_dropLast]; exact h3
    have h5 : ((sKs S).dropLast)[i]? = some M := hi
    rw [List.getElem?_dropLast, if_pos h4] at h5
    exact h5
theorem undo_some {S : SysM} {l : Nat} (hl : (sKs S).length = l + 1) : ∃ N, (sKs S)[l]? = some N ∧ N ∈ sKs S ∧ opUndo S = (nI l, (S.1, S.2.1, S.2.2.1, S.2.2.2.1, (sKs S).dropLast, N)) := by
  have h1 : l < (sKs S).length := by omega
  refine ⟨(sKs S)[l], List.getElem?_eq_getElem h1, List.getElem_mem h1, ?_⟩
  have h2 : (sKs S).getLast? = some ((sKs S)[l]) := by
    rw [List.getLast?_eq_getElem?, hl, Nat.add_sub_cancel, List.getElem?_eq_getElem h1]
  unfold opUndo
  rw [h2, hl]
  rfl
theorem undo_none {S : SysM} (hl : (sKs S).length = 0) : opUndo S = (-1, S) := by
  have h2 : sKs S = [] := List.eq_nil_of_length_eq_zero hl
  unfold opUndo
  rw [h2]
  rfl
theorem c_X3_undo {G : vGC} (hG : vGok G) {σ : vSt} {m : Nat} {S : SysM} {t0 : Nat} (hA : ModAt σ m S t0) (hS : okS S) : Ct G yX3_undo (ws_ yX3_undo cX3_undo 1 (some .int)) 3 0 0 σ [.ref m] (fun v σ9 => v = some (.int (opUndo S).1) ∧ ModAt σ9 m (opUndo S).2 0 ∧ FrL [m] σ σ9) vNo := by
  refine ct_of hG (by decide) (Nat.le_of_ble_eq_true rfl) fun X hN O hnm htb => ?_
  show V G X _ 0 0 σ 0 [(0, .ref m)] []
  obtain ⟨ad, I, F, L, hR, hM⟩ := id hA
  have hd := okS.d S hS
  have hn1 : 1 ≤ (sN S).1 := hd.1
  have hn : (sN S).1 ≤ 12 := hd.2.1
  refine v_aload_n O dX3_undo_0 rfl 0 rfl ?_
  refine v_iconst (v := nI 0) O dX3_undo_1 (by decide) ?_
  refine r_puti (K := layM) (I' := (va_up I 0 (nI 0))) (ty0 := tyX3) O hR in_X3 tyX3_ok nmX3 (show vcl[2]? = some (RX3, TX3, 27) from rfl) 0 (by decide) rfl q1492 rfl (tyX3_ok 0 (by decide)) rfl rfl (Nat.le_of_ble_eq_true rfl) rfl dX3_undo_2 (fun σ1 hR1 hf1 => ?_)
  refine v_aload_n O dX3_undo_5 rfl 0 rfl ?_
  refine v_getf (C := RX3) (T := TX3) (N := 27) (v := .int (nI ((sKs S).length))) O in_X3 hR1.ob rfl 12 (by decide) rfl q1504 (congrArg (fun z => some (Value.int z)) hM.2.2.2.1) dX3_undo_6 ?_
  refine v_if_neN (tgt := 14) O dX3_undo_9 (by decide) (by omega) (fun h_9 => ?_) (fun h_9 => ?_)
  · obtain ⟨l, hl⟩ : ∃ l, (sKs S).length = l + 1 := ⟨(sKs S).length - 1, by omega⟩
    obtain ⟨N, hN1, hN2, hN3⟩ := undo_some hl
    have hl8 : l < 8 := by have := hd.2.2.1; omega
    have hN12 := hd.2.2.2 N hN2
    have hEl := (hM.2.2.2.2.2.2.2.1 l N hN1)
    refine v_aload_n O dX3_undo_14 rfl 0 rfl ?_
    refine v_dup O dX3_undo_15 rfl ?_
    refine v_getf (C := RX3) (T := TX3) (N := 27) (v := .int (nI ((sKs S).length))) O in_X3 hR1.ob rfl 12 (by decide) rfl q1504 (congrArg (fun z => some (Value.int z)) hM.2.2.2.1) dX3_undo_16 ?_
    refine v_iconst (v := nI 1) O dX3_undo_19 (by decide) ?_
    refine v_isub (z := nI (((sKs S).length) - 1)) O dX3_undo_20 (pk_sub (by omega)) ?_
    rw [show (sKs S).length - 1 = l by omega]
    refine r_puti (K := layM) (I' := (va_up (va_up I 0 (nI 0)) 12 (nI l))) (ty0 := tyX3) O hR1 in_X3 tyX3_ok nmX3 (show vcl[2]? = some (RX3, TX3, 27) from rfl) 12 (by decide) rfl q1504 rfl (tyX3_ok 12 (by decide)) rfl rfl (Nat.le_of_ble_eq_true rfl) rfl dX3_undo_21 (fun σ2 hR2 hf2 => ?_)
    refine v_aload_n O dX3_undo_24 rfl 0 rfl ?_
    refine v_getf (C := RX3) (T := TX3) (N := 27) (v := .ref (ad 11)) O in_X3 hR2.ob rfl 11 (by decide) rfl q1503 rfl dX3_undo_25 ?_
    refine v_aload_n O dX3_undo_28 rfl 0 rfl ?_
    refine v_getf (C := RX3) (T := TX3) (N := 27) (v := .int (nI l)) O in_X3 hR2.ob rfl 12 (by decide) rfl q1504 rfl dX3_undo_29 ?_
    refine v_aald (r := .ref (ad (100 + l))) O (hR2.og 11 rfl) rfl rfl (by omega) (by omega) rfl dX3_undo_32 ?_
    refine v_aload_n O dX3_undo_33 rfl 0 rfl ?_
    refine v_getf (C := RX3) (T := TX3) (N := 27) (v := .ref (ad 9)) O in_X3 hR2.ob rfl 9 (by decide) rfl q1501 rfl dX3_undo_34 ?_
    refine v_callS (as := [.ref (ad (100 + l)), .ref (ad 9)]) (rest := []) O (c_X3_copies hG hR2.nz (hR2.ne (layM_row (by omega)) rfl (by omega)) (hR2.ar (100 + l) (layM_row (by omega))) (hR2.ar 9 rfl)) q1670 q1671 q77 q1672 mdX3_copies rfl (by decide) (by omega) (by omega) (by omega) (Nat.le_of_ble_eq_true rfl) rfl dX3_undo_37 (fun v9 σ9 hp9 => ?_) (fun _ _ _ h => False.elim h)
    obtain ⟨rfl, g3, rfl, hg3⟩ := hp9
    have hR4 := hR2.sa (9) rfl g3
    have hf4 := FrL.up (L := [m]) (e' := (m, .inl (0, 157, .inl g3))) (hR2.ar 9 rfl) (by simp)
    generalize vUp σ2 (ad (9)) (m, .inl (0, 157, .inl g3)) = σ4 at hR4 hf4 ⊢
    refine v_aload_n O dX3_undo_40 rfl 0 rfl ?_
    refine v_callV (as := []) (rest := []) O (c_X3_changes hG hR4 ) q1488 q1490 qs31 q77 q1491 hR4.ob (show vcl[2]? = some (RX3, TX3, 27) from rfl) rfl mdX3_changes rfl (by decide) (by omega) (by omega) (by omega) (Nat.le_of_ble_eq_true rfl) rfl dX3_undo_41 (fun v9 σ6 hp9 => ?_) (fun _ _ _ h => False.elim h)
    obtain ⟨rfl, hR5, hf5⟩ := hp9
    refine v_aload_n O dX3_undo_44 rfl 0 rfl ?_
    refine v_getf (C := RX3) (T := TX3) (N := 27) (v := .int (nI l)) O in_X3 hR5.ob rfl 12 (by decide) rfl q1504 rfl dX3_undo_45 ?_
    exact v_iret O rfl dX3_undo_48 (by omega) (by omega) (⟨by rw [hN3], by rw [hN3]; exact ⟨ad, _, _, _, hR5, (hM.thr 0).undo hl (hEl.of hN12 hg3)⟩, (((hf1.trans hf2).trans hf4).trans hf5)⟩)
  · refine v_iconst (v := (-1)) O dX3_undo_12 (by decide) ?_
    exact v_iret O rfl dX3_undo_13 (by omega) (by omega) (⟨by rw [undo_none h_9], by rw [undo_none h_9]; exact ⟨ad, _, _, _, hR1, (hM.thr 0)⟩, hf1⟩)
theorem a_X3_status {G : vGC} (hG : vGok G) {σ : vSt} {m : Nat} {S : SysM} {t0 : Nat} (hA : ModAt σ m S t0) (hS : okS S) {x : Int32} : Ct G yX3_status (ws_ yX3_status cX3_status 2 (some .int)) 2 0 0 σ [.ref m, .int x] (fun v σ9 => v = some (.int (opStatus S x)) ∧ ModAt σ9 m S 0 ∧ FrL [m] σ σ9) vNo := by
  refine ct_of hG (by decide) (Nat.le_of_ble_eq_true rfl) fun X hN O hnm htb => ?_
  show V G X _ 0 0 σ 0 [(0, .ref m), (1, .int x)] []
  obtain ⟨ad, I, F, L, hR, hM⟩ := id hA
  have hd := okS.d S hS
  have hn1 : 1 ≤ (sN S).1 := hd.1
  have hn : (sN S).1 ≤ 12 := hd.2.1
  refine v_aload_n O dX3_status_0 rfl 0 rfl ?_
  refine v_iconst (v := nI 0) O dX3_status_1 (by decide) ?_
  refine r_puti (K := layM) (I' := (va_up I 0 (nI 0))) (ty0 := tyX3) O hR in_X3 tyX3_ok nmX3 (show vcl[2]? = some (RX3, TX3, 27) from rfl) 0 (by decide) rfl q1492 rfl (tyX3_ok 0 (by decide)) rfl rfl (Nat.le_of_ble_eq_true rfl) rfl dX3_status_2 (fun σ1 hR1 hf1 => ?_)
  refine v_iload_n O dX3_status_5 rfl 1 rfl ?_
  refine v_iconst (v := nI 0) O dX3_status_6 (by decide) ?_
  refine v_iconst (v := nI 2) O dX3_status_7 (by decide) ?_
  refine v_callS (as := [.int x, .int (nI 0), .int (nI 2)]) (rest := []) O (c_X3_in hG (x := x) (lo := nI 0) (hi := nI 2)) q1587 q1588 q77 q1589 mdX3_in rfl (by decide) (by omega) (by omega) (by omega) (Nat.le_of_ble_eq_true rfl) rfl dX3_status_8 (fun v9 σ9 hp9 => ?_) (fun _ _ _ h => False.elim h)
  obtain ⟨rfl, hs9⟩ := hp9
  obtain rfl := hs9.symm
  refine v_if_eqB (tgt := 23) O dX3_status_11 (by decide) (fun h_11 => ?_) (fun h_11 => ?_)
  · have h12 := of_decide_eq_false h_11
    refine v_iconst (v := (-1)) O dX3_status_23 (by decide) ?_
    exact v_iret O rfl dX3_status_24 (by omega) (by omega) (⟨by rw [opStatus, if_neg h12], ⟨ad, _, _, _, hR1, (hM.thr 0)⟩, hf1⟩)
  · have h12 := of_decide_eq_true h_11
    obtain ⟨j, hj, rfl⟩ := nI_of2 (n := 2) (M := nI 2) rfl (Int32.not_lt.mpr h12.1) h12.2
    refine v_aload_n O dX3_status_14 rfl 0 rfl ?_
    refine v_getf (C := RX3) (T := TX3) (N := 27) (v := .ref (ad 1)) O in_X3 hR1.ob rfl 1 (by decide) rfl q1493 rfl dX3_status_15 ?_
    refine v_iload_n O dX3_status_18 rfl 1 rfl ?_
    refine v_iald (f := F 1) O (hR1.ar 1 rfl) (by omega) (by omega) dX3_status_19 ?_
    refine v_goto (tgt := 24) O dX3_status_20 (by decide) ?_
    exact v_iret O rfl dX3_status_24 (by omega) (by omega) (⟨by rw [opStatus, if_pos h12, cl, nI_clamp (by omega), show F 1 j = sRf S j from hM.2.2.2.2.2.1 j (by omega)], ⟨ad, _, _, _, hR1, (hM.thr 0)⟩, hf1⟩)
theorem byte_ok (x : Int32) : x &&& nI 255 = nI (x &&& 255).toNatClampNeg ∧ (x &&& 255).toNatClampNeg < 256 := by
  obtain ⟨j, hj, e⟩ := pk_andE x (m := 255) 8 (by decide)
  have hj' : j < 256 := hj
  rw [show (nI 255 : Int32) = 255 from rfl, e, nI_clamp (by omega)]
  exact ⟨rfl, hj'⟩
def fedF (f : Nat → Int32) (tp : Nat) (a b c d e : Int32) (i : Nat) : Nat → Int32 := fun j => if tp ≤ j ∧ j < tp + i then nI (feedB a b c d e (j - tp)) else f j
theorem fedF_s {f g : Nat → Int32} {tp i : Nat} {a b c d e x : Int32} (h : ∀ j, j < 500 → g j = fedF f tp a b c d e i j) (hx : x = nI (feedB a b c d e i)) : ∀ j, j < 500 → va_up g (tp + i) x j = fedF f tp a b c d e (i + 1) j := by
  intro j hj
  have h1 := h j hj
  rw [vu]
  unfold fedF at h1 ⊢
  by_cases e1 : j = tp + i
  · rw [if_pos e1, if_pos (by omega), hx, e1, Nat.add_sub_cancel_left]
  · rw [if_neg e1, h1]
    by_cases e2 : tp ≤ j ∧ j < tp + i
    · rw [if_pos e2, if_pos (by omega)]
    · rw [if_neg e2, if_neg (by omega)]
theorem l_X3_feed {G : vGC} (hG : vGok G) {X : vCX} {Q : State → Prop} {c0 n0 : Nat} (O : vOk G X yX3_feed.cls cX3_feed (some .int) 1 0 0) (hN : xn X = 8) (hcm0 : c0 ≤ 0) (hsm0 : n0 ≤ 0) {σ0 : vSt} {m : Nat} {ad : Nat → Nat} {I0 : Nat → Int32} {F0 : Nat → Nat → Int32} {L : Nat → Nat → Int64} {tp : Nat} {a b c d e : Int32} (htp : tp ≤ 480) (kx : ∀ (σ : vSt) (I : Nat → Int32) (F : Nat → Nat → Int32), RecAt layM σ m ad I F L → FrL [m] σ0 σ → I 2 = nI (tp + 20) → (∀ j, j ≠ 2 → I j = I0 j) → (∀ j, j < 500 → F 8 j = fedF (F0 8) tp a b c d e 20 j) → (∀ j, j ≠ 8 → F j = F0 j) → V G X Q c0 n0 σ 120 [(0, .ref m)] []) : ∀ (k : Nat) (i : Nat) (σ : vSt) (I : Nat → Int32) (F : Nat → Nat → Int32), (20 < i + k) → (i ≤ 20) → (RecAt layM σ m ad I F L) → (FrL [m] σ0 σ) → (I 2 = nI (tp + i)) → (∀ j, j ≠ 2 → I j = I0 j) → (∀ j, j < 500 → F 8 j = fedF (F0 8) tp a b c d e i j) → (∀ j, j ≠ 8 → F j = F0 j) → V G X Q c0 n0 σ 23 [(0, .ref m), (1, .int a), (2, .int b), (3, .int c), (4, .int d), (5, .int e), (6, .int (nI i))] [] := by
  intro k
  induction k with
  | zero => intro i σ I F h0 h1 hR hf hI2 hI hF8 hF; exact absurd h0 (by omega)
  | succ k ih =>
    intro i σ I F h0 h1 hR hf hI2 hI hF8 hF
    refine v_iload O dX3_feed_23 6 rfl ?_
    refine v_bipush (v := nI 20) O dX3_feed_25 (by decide) ?_
    refine v_icmp_geN (tgt := 120) O dX3_feed_27 (by decide) (by omega) (by omega) (fun h_27 => ?_) (fun h_27 => ?_)
    · obtain rfl : i = 20 := by omega
      exact v_lv [0] rfl (kx σ I F hR hf hI2 hI hF8 hF)
    · refine v_iload O dX3_feed_30 6 rfl ?_
      refine v_iconst (v := nI 4) O dX3_feed_32 (by decide) ?_
      refine v_icmp_geN (tgt := 40) O dX3_feed_33 (by decide) (by omega) (by omega) (fun h_33 => ?_) (fun h_33 => ?_)
      · refine v_iload O dX3_feed_40 6 rfl ?_
        refine v_bipush (v := nI 8) O dX3_feed_42 (by decide) ?_
        refine v_icmp_geN (tgt := 51) O dX3_feed_44 (by decide) (by omega) (by omega) (fun h_44 => ?_) (fun h_44 => ?_)
        · refine v_iload O dX3_feed_51 6 rfl ?_
          refine v_bipush (v := nI 12) O dX3_feed_53 (by decide) ?_
          refine v_icmp_geN (tgt := 62) O dX3_feed_55 (by decide) (by omega) (by omega) (fun h_55 => ?_) (fun h_55 => ?_)
          · refine v_iload O dX3_feed_62 6 rfl ?_
            refine v_bipush (v := nI 16) O dX3_feed_64 (by decide) ?_
            refine v_icmp_geN (tgt := 74) O dX3_feed_66 (by decide) (by omega) (by omega) (fun h_66 => ?_) (fun h_66 => ?_)
            · refine v_iload O dX3_feed_74 5 rfl ?_
              refine v_istore (lv' := [(7, .int e), (0, .ref m), (1, .int a), (2, .int b), (3, .int c), (4, .int d), (5, .int e), (6, .int (nI i))]) O hN dX3_feed_76 (by decide) rfl ?_
              refine v_aload_n O dX3_feed_78 rfl 1 rfl ?_
              refine v_getf (C := RX3) (T := TX3) (N := 27) (v := .ref (ad 8)) O in_X3 hR.ob rfl 8 (by decide) rfl q1500 rfl dX3_feed_79 ?_
              refine v_aload_n O dX3_feed_82 rfl 1 rfl ?_
              refine v_getf (C := RX3) (T := TX3) (N := 27) (v := .int (nI (tp + i))) O in_X3 hR.ob rfl 2 (by decide) rfl q1494 (congrArg (fun z => some (Value.int z)) hI2) dX3_feed_83 ?_
              refine v_iload O dX3_feed_86 0 rfl ?_
              refine v_bipush (v := nI 24) O dX3_feed_88 (by decide) ?_
              refine v_bipush (v := nI 8) O dX3_feed_90 (by decide) ?_
              refine v_iload O dX3_feed_92 7 rfl ?_
              refine v_iconst (v := nI 4) O dX3_feed_94 (by decide) ?_
              refine v_irem (z := nI (i % 4)) O dX3_feed_95 (by decide) (pk_rem (by omega) (by omega) (by omega)) ?_
              refine v_imul (z := nI (8 * (i % 4))) O dX3_feed_96 (pk_mul 8 (i % 4)) ?_
              refine v_isub (z := nI (24 - (8 * (i % 4)))) O dX3_feed_97 (pk_sub (by omega)) ?_
              refine v_ishr (z := (e >>> ((nI (24 - (8 * (i % 4)))) &&& 31))) O dX3_feed_98 rfl ?_
              refine v_sipush (v := nI 255) O dX3_feed_99 (by decide) ?_
              refine v_iand (z := ((e >>> ((nI (24 - (8 * (i % 4)))) &&& 31)) &&& (nI 255))) O dX3_feed_102 rfl ?_
              have hby : ((e >>> ((nI (24 - (8 * (i % 4)))) &&& 31)) &&& (nI 255)) = nI (feedB a b c d e i) := by
                rw [(byte_ok _).1]
                simp only [feedB, wordB, if_neg (show ¬ i < 4 by omega), if_neg (show ¬ i < 8 by omega), if_neg (show ¬ i < 12 by omega), if_neg (show ¬ i < 16 by omega)]
              refine r_iast (K := layM) O hR 8 rfl (by omega) (by omega) dX3_feed_103 (fun σ1 hR1 hf1 => ?_)
              refine v_aload_n O dX3_feed_104 rfl 1 rfl ?_
              refine v_dup O dX3_feed_105 rfl ?_
              refine v_getf (C := RX3) (T := TX3) (N := 27) (v := .int (nI (tp + i))) O in_X3 hR1.ob rfl 2 (by decide) rfl q1494 (congrArg (fun z => some (Value.int z)) hI2) dX3_feed_106 ?_
              refine v_iconst (v := nI 1) O dX3_feed_109 (by decide) ?_
              refine v_iadd (z := nI (tp + i + 1)) O dX3_feed_110 (nI_add (tp + i) 1) ?_
              refine r_puti (K := layM) (I' := (va_up I 2 (nI (tp + i + 1)))) (ty0 := tyX3) O hR1 in_X3 tyX3_ok nmX3 (show vcl[2]? = some (RX3, TX3, 27) from rfl) 2 (by decide) rfl q1494 rfl (tyX3_ok 2 (by decide)) rfl rfl (Nat.le_of_ble_eq_true rfl) rfl dX3_feed_111 (fun σ2 hR2 hf2 => ?_)
              refine v_iinc (v := nI (i + 1)) (lv' := [(6, .int (nI (i + 1))), (7, .int e), (0, .ref m), (1, .int a), (2, .int b), (3, .int c), (4, .int d), (5, .int e)]) O hN dX3_feed_114 7 rfl (nI_add i 1) (by decide) rfl ?_
              refine v_goto (tgt := 23) O dX3_feed_117 (by decide) ?_
              refine v_lv [2, 3, 4, 5, 6, 7, 0] rfl ?_
              exact ih (i + 1) _ _ _ (by omega) (by omega) hR2 (hf.trans (hf1.trans hf2)) rfl (fun j hj => by rw [vu, if_neg hj]; exact hI j hj) (fedF_s hF8 hby) (fun j hj => by funext z; rw [vu, if_neg hj]; exact congrFun (hF j hj) z)
            · refine v_iload O dX3_feed_69 4 rfl ?_
              refine v_goto (tgt := 76) O dX3_feed_71 (by decide) ?_
              refine v_istore (lv' := [(7, .int d), (0, .ref m), (1, .int a), (2, .int b), (3, .int c), (4, .int d), (5, .int e), (6, .int (nI i))]) O hN dX3_feed_76 (by decide) rfl ?_
              refine v_aload_n O dX3_feed_78 rfl 1 rfl ?_
              refine v_getf (C := RX3) (T := TX3) (N := 27) (v := .ref (ad 8)) O in_X3 hR.ob rfl 8 (by decide) rfl q1500 rfl dX3_feed_79 ?_
              refine v_aload_n O dX3_feed_82 rfl 1 rfl ?_
              refine v_getf (C := RX3) (T := TX3) (N := 27) (v := .int (nI (tp + i))) O in_X3 hR.ob rfl 2 (by decide) rfl q1494 (congrArg (fun z => some (Value.int z)) hI2) dX3_feed_83 ?_
              refine v_iload O dX3_feed_86 0 rfl ?_
              refine v_bipush (v := nI 24) O dX3_feed_88 (by decide) ?_
              refine v_bipush (v := nI 8) O dX3_feed_90 (by decide) ?_
              refine v_iload O dX3_feed_92 7 rfl ?_
              refine v_iconst (v := nI 4) O dX3_feed_94 (by decide) ?_
              refine v_irem (z := nI (i % 4)) O dX3_feed_95 (by decide) (pk_rem (by omega) (by omega) (by omega)) ?_
              refine v_imul (z := nI (8 * (i % 4))) O dX3_feed_96 (pk_mul 8 (i % 4)) ?_
              refine v_isub (z := nI (24 - (8 * (i % 4)))) O dX3_feed_97 (pk_sub (by omega)) ?_
              refine v_ishr (z := (d >>> ((nI (24 - (8 * (i % 4)))) &&& 31))) O dX3_feed_98 rfl ?_
              refine v_sipush (v := nI 255) O dX3_feed_99 (by decide) ?_
              refine v_iand (z := ((d >>> ((nI (24 - (8 * (i % 4)))) &&& 31)) &&& (nI 255))) O dX3_feed_102 rfl ?_
              have hby : ((d >>> ((nI (24 - (8 * (i % 4)))) &&& 31)) &&& (nI 255)) = nI (feedB a b c d e i) := by
                rw [(byte_ok _).1]
                simp only [feedB, wordB, if_neg (show ¬ i < 4 by omega), if_neg (show ¬ i < 8 by omega), if_neg (show ¬ i < 12 by omega), if_pos (show i < 16 by omega)]
              refine r_iast (K := layM) O hR 8 rfl (by omega) (by omega) dX3_feed_103 (fun σ3 hR3 hf3 => ?_)
              refine v_aload_n O dX3_feed_104 rfl 1 rfl ?_
              refine v_dup O dX3_feed_105 rfl ?_
              refine v_getf (C := RX3) (T := TX3) (N := 27) (v := .int (nI (tp + i))) O in_X3 hR3.ob rfl 2 (by decide) rfl q1494 (congrArg (fun z => some (Value.int z)) hI2) dX3_feed_106 ?_
              refine v_iconst (v := nI 1) O dX3_feed_109 (by decide) ?_
              refine v_iadd (z := nI (tp + i + 1)) O dX3_feed_110 (nI_add (tp + i) 1) ?_
              refine r_puti (K := layM) (I' := (va_up I 2 (nI (tp + i + 1)))) (ty0 := tyX3) O hR3 in_X3 tyX3_ok nmX3 (show vcl[2]? = some (RX3, TX3, 27) from rfl) 2 (by decide) rfl q1494 rfl (tyX3_ok 2 (by decide)) rfl rfl (Nat.le_of_ble_eq_true rfl) rfl dX3_feed_111 (fun σ4 hR4 hf4 => ?_)
              refine v_iinc (v := nI (i + 1)) (lv' := [(6, .int (nI (i + 1))), (7, .int d), (0, .ref m), (1, .int a), (2, .int b), (3, .int c), (4, .int d), (5, .int e)]) O hN dX3_feed_114 7 rfl (nI_add i 1) (by decide) rfl ?_
              refine v_goto (tgt := 23) O dX3_feed_117 (by decide) ?_
              refine v_lv [2, 3, 4, 5, 6, 7, 0] rfl ?_
              exact ih (i + 1) _ _ _ (by omega) (by omega) hR4 (hf.trans (hf3.trans hf4)) rfl (fun j hj => by rw [vu, if_neg hj]; exact hI j hj) (fedF_s hF8 hby) (fun j hj => by funext z; rw [vu, if_neg hj]; exact congrFun (hF j hj) z)
          · refine v_iload_n O dX3_feed_58 rfl 3 rfl ?_
            refine v_goto (tgt := 76) O dX3_feed_59 (by decide) ?_
            refine v_istore (lv' := [(7, .int c), (0, .ref m), (1, .int a), (2, .int b), (3, .int c), (4, .int d), (5, .int e), (6, .int (nI i))]) O hN dX3_feed_76 (by decide) rfl ?_
            refine v_aload_n O dX3_feed_78 rfl 1 rfl ?_
            refine v_getf (C := RX3) (T := TX3) (N := 27) (v := .ref (ad 8)) O in_X3 hR.ob rfl 8 (by decide) rfl q1500 rfl dX3_feed_79 ?_
            refine v_aload_n O dX3_feed_82 rfl 1 rfl ?_
            refine v_getf (C := RX3) (T := TX3) (N := 27) (v := .int (nI (tp + i))) O in_X3 hR.ob rfl 2 (by decide) rfl q1494 (congrArg (fun z => some (Value.int z)) hI2) dX3_feed_83 ?_
            refine v_iload O dX3_feed_86 0 rfl ?_
            refine v_bipush (v := nI 24) O dX3_feed_88 (by decide) ?_
            refine v_bipush (v := nI 8) O dX3_feed_90 (by decide) ?_
            refine v_iload O dX3_feed_92 7 rfl ?_
            refine v_iconst (v := nI 4) O dX3_feed_94 (by decide) ?_
            refine v_irem (z := nI (i % 4)) O dX3_feed_95 (by decide) (pk_rem (by omega) (by omega) (by omega)) ?_
            refine v_imul (z := nI (8 * (i % 4))) O dX3_feed_96 (pk_mul 8 (i % 4)) ?_
            refine v_isub (z := nI (24 - (8 * (i % 4)))) O dX3_feed_97 (pk_sub (by omega)) ?_
            refine v_ishr (z := (c >>> ((nI (24 - (8 * (i % 4)))) &&& 31))) O dX3_feed_98 rfl ?_
            refine v_sipush (v := nI 255) O dX3_feed_99 (by decide) ?_
            refine v_iand (z := ((c >>> ((nI (24 - (8 * (i % 4)))) &&& 31)) &&& (nI 255))) O dX3_feed_102 rfl ?_
            have hby : ((c >>> ((nI (24 - (8 * (i % 4)))) &&& 31)) &&& (nI 255)) = nI (feedB a b c d e i) := by
              rw [(byte_ok _).1]
              simp only [feedB, wordB, if_neg (show ¬ i < 4 by omega), if_neg (show ¬ i < 8 by omega), if_pos (show i < 12 by omega)]
            refine r_iast (K := layM) O hR 8 rfl (by omega) (by omega) dX3_feed_103 (fun σ5 hR5 hf5 => ?_)
            refine v_aload_n O dX3_feed_104 rfl 1 rfl ?_
            refine v_dup O dX3_feed_105 rfl ?_
            refine v_getf (C := RX3) (T := TX3) (N := 27) (v := .int (nI (tp + i))) O in_X3 hR5.ob rfl 2 (by decide) rfl q1494 (congrArg (fun z => some (Value.int z)) hI2) dX3_feed_106 ?_
            refine v_iconst (v := nI 1) O dX3_feed_109 (by decide) ?_
            refine v_iadd (z := nI (tp + i + 1)) O dX3_feed_110 (nI_add (tp + i) 1) ?_
            refine r_puti (K := layM) (I' := (va_up I 2 (nI (tp + i + 1)))) (ty0 := tyX3) O hR5 in_X3 tyX3_ok nmX3 (show vcl[2]? = some (RX3, TX3, 27) from rfl) 2 (by decide) rfl q1494 rfl (tyX3_ok 2 (by decide)) rfl rfl (Nat.le_of_ble_eq_true rfl) rfl dX3_feed_111 (fun σ6 hR6 hf6 => ?_)
            refine v_iinc (v := nI (i + 1)) (lv' := [(6, .int (nI (i + 1))), (7, .int c), (0, .ref m), (1, .int a), (2, .int b), (3, .int c), (4, .int d), (5, .int e)]) O hN dX3_feed_114 7 rfl (nI_add i 1) (by decide) rfl ?_
            refine v_goto (tgt := 23) O dX3_feed_117 (by decide) ?_
            refine v_lv [2, 3, 4, 5, 6, 7, 0] rfl ?_
            exact ih (i + 1) _ _ _ (by omega) (by omega) hR6 (hf.trans (hf5.trans hf6)) rfl (fun j hj => by rw [vu, if_neg hj]; exact hI j hj) (fedF_s hF8 hby) (fun j hj => by funext z; rw [vu, if_neg hj]; exact congrFun (hF j hj) z)
        · refine v_iload_n O dX3_feed_47 rfl 2 rfl ?_
          refine v_goto (tgt := 76) O dX3_feed_48 (by decide) ?_
          refine v_istore (lv' := [(7, .int b), (0, .ref m), (1, .int a), (2, .int b), (3, .int c), (4, .int d), (5, .int e), (6, .int (nI i))]) O hN dX3_feed_76 (by decide) rfl ?_
          refine v_aload_n O dX3_feed_78 rfl 1 rfl ?_
          refine v_getf (C := RX3) (T := TX3) (N := 27) (v := .ref (ad 8)) O in_X3 hR.ob rfl 8 (by decide) rfl q1500 rfl dX3_feed_79 ?_
          refine v_aload_n O dX3_feed_82 rfl 1 rfl ?_
          refine v_getf (C := RX3) (T := TX3) (N := 27) (v := .int (nI (tp + i))) O in_X3 hR.ob rfl 2 (by decide) rfl q1494 (congrArg (fun z => some (Value.int z)) hI2) dX3_feed_83 ?_
          refine v_iload O dX3_feed_86 0 rfl ?_
          refine v_bipush (v := nI 24) O dX3_feed_88 (by decide) ?_
          refine v_bipush (v := nI 8) O dX3_feed_90 (by decide) ?_
          refine v_iload O dX3_feed_92 7 rfl ?_
          refine v_iconst (v := nI 4) O dX3_feed_94 (by decide) ?_
          refine v_irem (z := nI (i % 4)) O dX3_feed_95 (by decide) (pk_rem (by omega) (by omega) (by omega)) ?_
          refine v_imul (z := nI (8 * (i % 4))) O dX3_feed_96 (pk_mul 8 (i % 4)) ?_
          refine v_isub (z := nI (24 - (8 * (i % 4)))) O dX3_feed_97 (pk_sub (by omega)) ?_
          refine v_ishr (z := (b >>> ((nI (24 - (8 * (i % 4)))) &&& 31))) O dX3_feed_98 rfl ?_
          refine v_sipush (v := nI 255) O dX3_feed_99 (by decide) ?_
          refine v_iand (z := ((b >>> ((nI (24 - (8 * (i % 4)))) &&& 31)) &&& (nI 255))) O dX3_feed_102 rfl ?_
          have hby : ((b >>> ((nI (24 - (8 * (i % 4)))) &&& 31)) &&& (nI 255)) = nI (feedB a b c d e i) := by
            rw [(byte_ok _).1]
            simp only [feedB, wordB, if_neg (show ¬ i < 4 by omega), if_pos (show i < 8 by omega)]
          refine r_iast (K := layM) O hR 8 rfl (by omega) (by omega) dX3_feed_103 (fun σ7 hR7 hf7 => ?_)
          refine v_aload_n O dX3_feed_104 rfl 1 rfl ?_
          refine v_dup O dX3_feed_105 rfl ?_
          refine v_getf (C := RX3) (T := TX3) (N := 27) (v := .int (nI (tp + i))) O in_X3 hR7.ob rfl 2 (by decide) rfl q1494 (congrArg (fun z => some (Value.int z)) hI2) dX3_feed_106 ?_
          refine v_iconst (v := nI 1) O dX3_feed_109 (by decide) ?_
          refine v_iadd (z := nI (tp + i + 1)) O dX3_feed_110 (nI_add (tp + i) 1) ?_
          refine r_puti (K := layM) (I' := (va_up I 2 (nI (tp + i + 1)))) (ty0 := tyX3) O hR7 in_X3 tyX3_ok nmX3 (show vcl[2]? = some (RX3, TX3, 27) from rfl) 2 (by decide) rfl q1494 rfl (tyX3_ok 2 (by decide)) rfl rfl (Nat.le_of_ble_eq_true rfl) rfl dX3_feed_111 (fun σ8 hR8 hf8 => ?_)
          refine v_iinc (v := nI (i + 1)) (lv' := [(6, .int (nI (i + 1))), (7, .int b), (0, .ref m), (1, .int a), (2, .int b), (3, .int c), (4, .int d), (5, .int e)]) O hN dX3_feed_114 7 rfl (nI_add i 1) (by decide) rfl ?_
          refine v_goto (tgt := 23) O dX3_feed_117 (by decide) ?_
          refine v_lv [2, 3, 4, 5, 6, 7, 0] rfl ?_
          exact ih (i + 1) _ _ _ (by omega) (by omega) hR8 (hf.trans (hf7.trans hf8)) rfl (fun j hj => by rw [vu, if_neg hj]; exact hI j hj) (fedF_s hF8 hby) (fun j hj => by funext z; rw [vu, if_neg hj]; exact congrFun (hF j hj) z)
      · refine v_iload_n O dX3_feed_36 rfl 1 rfl ?_
        refine v_goto (tgt := 76) O dX3_feed_37 (by decide) ?_
        refine v_istore (lv' := [(7, .int a), (0, .ref m), (1, .int a), (2, .int b), (3, .int c), (4, .int d), (5, .int e), (6, .int (nI i))]) O hN dX3_feed_76 (by decide) rfl ?_
        refine v_aload_n O dX3_feed_78 rfl 1 rfl ?_
        refine v_getf (C := RX3) (T := TX3) (N := 27) (v := .ref (ad 8)) O in_X3 hR.ob rfl 8 (by decide) rfl q1500 rfl dX3_feed_79 ?_
        refine v_aload_n O dX3_feed_82 rfl 1 rfl ?_
        refine v_getf (C := RX3) (T := TX3) (N := 27) (v := .int (nI (tp + i))) O in_X3 hR.ob rfl 2 (by decide) rfl q1494 (congrArg (fun z => some (Value.int z)) hI2) dX3_feed_83 ?_
        refine v_iload O dX3_feed_86 0 rfl ?_
        refine v_bipush (v := nI 24) O dX3_feed_88 (by decide) ?_
        refine v_bipush (v := nI 8) O dX3_feed_90 (by decide) ?_
        refine v_iload O dX3_feed_92 7 rfl ?_
        refine v_iconst (v := nI 4) O dX3_feed_94 (by decide) ?_
        refine v_irem (z := nI (i % 4)) O dX3_feed_95 (by decide) (pk_rem (by omega) (by omega) (by omega)) ?_
        refine v_imul (z := nI (8 * (i % 4))) O dX3_feed_96 (pk_mul 8 (i % 4)) ?_
        refine v_isub (z := nI (24 - (8 * (i % 4)))) O dX3_feed_97 (pk_sub (by omega)) ?_
        refine v_ishr (z := (a >>> ((nI (24 - (8 * (i % 4)))) &&& 31))) O dX3_feed_98 rfl ?_
        refine v_sipush (v := nI 255) O dX3_feed_99 (by decide) ?_
        refine v_iand (z := ((a >>> ((nI (24 - (8 * (i % 4)))) &&& 31)) &&& (nI 255))) O dX3_feed_102 rfl ?_
        have hby : ((a >>> ((nI (24 - (8 * (i % 4)))) &&& 31)) &&& (nI 255)) = nI (feedB a b c d e i) := by
          rw [(byte_ok _).1]
          simp only [feedB, wordB, if_pos (show i < 4 by omega)]
        refine r_iast (K := layM) O hR 8 rfl (by omega) (by omega) dX3_feed_103 (fun σ9 hR9 hf9 => ?_)
        refine v_aload_n O dX3_feed_104 rfl 1 rfl ?_
        refine v_dup O dX3_feed_105 rfl ?_
        refine v_getf (C := RX3) (T := TX3) (N := 27) (v := .int (nI (tp + i))) O in_X3 hR9.ob rfl 2 (by decide) rfl q1494 (congrArg (fun z => some (Value.int z)) hI2) dX3_feed_106 ?_
        refine v_iconst (v := nI 1) O dX3_feed_109 (by decide) ?_
        refine v_iadd (z := nI (tp + i + 1)) O dX3_feed_110 (nI_add (tp + i) 1) ?_
        refine r_puti (K := layM) (I' := (va_up I 2 (nI (tp + i + 1)))) (ty0 := tyX3) O hR9 in_X3 tyX3_ok nmX3 (show vcl[2]? = some (RX3, TX3, 27) from rfl) 2 (by decide) rfl q1494 rfl (tyX3_ok 2 (by decide)) rfl rfl (Nat.le_of_ble_eq_true rfl) rfl dX3_feed_111 (fun σ10 hR10 hf10 => ?_)
        refine v_iinc (v := nI (i + 1)) (lv' := [(6, .int (nI (i + 1))), (7, .int a), (0, .ref m), (1, .int a), (2, .int b), (3, .int c), (4, .int d), (5, .int e)]) O hN dX3_feed_114 7 rfl (nI_add i 1) (by decide) rfl ?_
        refine v_goto (tgt := 23) O dX3_feed_117 (by decide) ?_
        refine v_lv [2, 3, 4, 5, 6, 7, 0] rfl ?_
        exact ih (i + 1) _ _ _ (by omega) (by omega) hR10 (hf.trans (hf9.trans hf10)) rfl (fun j hj => by rw [vu, if_neg hj]; exact hI j hj) (fedF_s hF8 hby) (fun j hj => by funext z; rw [vu, if_neg hj]; exact congrFun (hF j hj) z)
theorem ModIs.fed {I I' : Nat → Int32} {F F' : Nat → Nat → Int32} {L : Nat → Nat → Int64} {S : SysM} {t : Nat} {a b c d e : Int32} (h : ModIs I F L S t Enc) (h5 : sTp S + 20 ≤ 500) (hI2 : I' 2 = nI (sTp S + 20)) (hI : ∀ j, j ≠ 2 → I' j = I j) (hF8 : ∀ j, j < 500 → F' 8 j = fedF (F 8) (sTp S) a b c d e 20 j) (hF : ∀ j, j ≠ 8 → F' j = F j) : ModIs I' F' L (opFeed S a b c d e).2 t Enc := by
  rw [opFeed, if_neg (by omega)]
  obtain ⟨h0, h2, h5, h12, h8, h1, h9, hk, hL⟩ := h
  refine ⟨(hI 0 (by omega)).trans h0, hI2, (hI 5 (by omega)).trans h5, (hI 12 (by omega)).trans h12, fun j hj => ?_, fun r hr => (congrFun (hF 1 (by omega)) r).trans (h1 r hr), by rw [hF 9 (by omega)]; exact h9, fun i M hi => by rw [hF _ (by omega)]; exact hk i M hi, ?_⟩
  · rw [hF8 j hj]
    unfold fedF
    show _ = nI (if sTp S ≤ j ∧ j < sTp S + 20 then feedB a b c d e (j - sTp S) else sTb S j)
    split
    · rfl
    · exact h8 j hj
  · rcases hL with h | ⟨h, h'⟩
    · exact Or.inl ((hI 19 (by omega)).trans h)
    · refine Or.inr ⟨(hI 19 (by omega)).trans h, fun s hs => ?_⟩
      have h6 := h' s hs
      rw [hF 15 (by omega), hF 16 (by omega), hF 17 (by omega)]
      exact h6
theorem c_X3_feed {G : vGC} (hG : vGok G) {σ : vSt} {m : Nat} {S : SysM} {t0 : Nat} (hA : ModAt σ m S t0) (hS : okS S) {a b c d e : Int32} : Ct G yX3_feed (ws_ yX3_feed cX3_feed 8 (some .int)) 1 0 0 σ [.ref m, .int a, .int b, .int c, .int d, .int e] (fun v σ9 => v = some (.int (opFeed S a b c d e).1) ∧ ModAt σ9 m (opFeed S a b c d e).2 0 ∧ FrL [m] σ σ9) vNo := by
  refine ct_of hG (by decide) (Nat.le_of_ble_eq_true rfl) fun X hN O hnm htb => ?_
  show V G X _ 0 0 σ 0 [(0, .ref m), (1, .int a), (2, .int b), (3, .int c), (4, .int d), (5, .int e)] []
  obtain ⟨ad, I, F, L, hR, hM⟩ := id hA
  have hd := okS.d S hS
  have hn1 : 1 ≤ (sN S).1 := hd.1
  have hn : (sN S).1 ≤ 12 := hd.2.1
  have htp := hS.1
  refine v_aload_n O dX3_feed_0 rfl 0 rfl ?_
  refine v_iconst (v := nI 0) O dX3_feed_1 (by decide) ?_
  refine r_puti (K := layM) (I' := (va_up I 0 (nI 0))) (ty0 := tyX3) O hR in_X3 tyX3_ok nmX3 (show vcl[2]? = some (RX3, TX3, 27) from rfl) 0 (by decide) rfl q1492 rfl (tyX3_ok 0 (by decide)) rfl rfl (Nat.le_of_ble_eq_true rfl) rfl dX3_feed_2 (fun σ1 hR1 hf1 => ?_)
  refine v_aload_n O dX3_feed_5 rfl 0 rfl ?_
  refine v_getf (C := RX3) (T := TX3) (N := 27) (v := .int (nI (sTp S))) O in_X3 hR1.ob rfl 2 (by decide) rfl q1494 (congrArg (fun z => some (Value.int z)) hM.2.1) dX3_feed_6 ?_
  refine v_bipush (v := nI 20) O dX3_feed_9 (by decide) ?_
  refine v_iadd (z := nI (sTp S + 20)) O dX3_feed_11 (nI_add (sTp S) 20) ?_
  refine v_sipush (v := nI 500) O dX3_feed_12 (by decide) ?_
  refine v_icmp_leN (tgt := 20) O dX3_feed_15 (by decide) (by omega) (by omega) (fun h_15 => ?_) (fun h_15 => ?_)
  · refine v_iconst (v := nI 0) O dX3_feed_20 (by decide) ?_
    refine v_istore (lv' := [(6, .int (nI 0)), (0, .ref m), (1, .int a), (2, .int b), (3, .int c), (4, .int d), (5, .int e)]) O hN dX3_feed_21 (by decide) rfl ?_
    refine v_lv [1, 2, 3, 4, 5, 6, 0] rfl ?_
    refine l_X3_feed hG O hN (by omega) (by omega) (tp := sTp S) (by omega) (fun σ6 I6 F6 hR6 hf6 h62 h6I h68 h6F => ?_) 21 0 _ _ _ (by omega) (by omega) hR1 FrL.rf hM.2.1 (fun _ _ => rfl) (fun j hj => by unfold fedF; rw [if_neg (by omega)]) (fun _ _ => rfl)
    refine v_aload_n O dX3_feed_120 rfl 0 rfl ?_
    refine v_getf (C := RX3) (T := TX3) (N := 27) (v := .int (nI (sTp S + 20))) O in_X3 hR6.ob rfl 2 (by decide) rfl q1494 (congrArg (fun z => some (Value.int z)) h62) dX3_feed_121 ?_
    exact v_iret O rfl dX3_feed_124 (by omega) (by omega) ⟨by rw [opFeed, if_neg (by omega)], ⟨ad, _, _, _, hR6, ((hM.thr 0)).fed (by omega) h62 h6I h68 h6F⟩, hf1.trans hf6⟩
  · refine v_iconst (v := (-1)) O dX3_feed_18 (by decide) ?_
    exact v_iret O rfl dX3_feed_19 (by omega) (by omega) (⟨by rw [opFeed, if_pos (by omega)], by rw [opFeed, if_pos (by omega)]; exact ⟨ad, _, _, _, hR1, (hM.thr 0)⟩, hf1⟩)
