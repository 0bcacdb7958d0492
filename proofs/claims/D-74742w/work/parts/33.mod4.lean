section MI
variable {I : Nat → Int32} {F : Nat → Nat → Int32} {L : Nat → Nat → Int64} {S : SysM} {t : Nat}
theorem ModIs.e9 (h : ModIs I F L S t Enc) : Enc (F 9) (sN S) := h.2.2.2.2.2.2.1
theorem ModIs.thr (h : ModIs I F L S t Enc) (k : Nat) : ModIs (va_up I 0 (nI k)) F L S k Enc := ⟨rfl, h.2⟩
theorem ModIs.rf (h : ModIs I F L S t Enc) {r : Nat} (hr : r < 3) : ModIs I (va_up F 1 (va_up (F 1) r (F 1 r + nI 1))) L (refS S r) t Enc := by
  obtain ⟨h0, h2, h5, h12, h8, h1, h9, hk, hL⟩ := h
  refine ⟨h0, h2, h5, h12, h8, fun j hj => ?_, h9, fun i M hi => ?_, hL⟩
  · show va_up (F 1) r (F 1 r + nI 1) j = va_up (sRf S) r (sRf S r + nI 1) j
    rw [vu, vu, h1 r hr, h1 j hj]
  · rw [vu, if_neg (by omega)]
    exact hk i M hi
theorem ModIs.nowc (h : ModIs I F L S t Enc) {f : Nat → Int32} {N : NetM} (hE : Enc f N) : ModIs (va_up I 19 (nI 0)) (va_up F 9 f) L (setN S N) t Enc := by
  obtain ⟨h0, h2, h5, h12, h8, h1, h9, hk, hL⟩ := h
  refine ⟨h0, h2, h5, h12, h8, h1, hE, fun i M hi => ?_, Or.inl rfl⟩
  rw [vu, if_neg (by omega)]
  exact hk i M hi
theorem ModIs.nowm (h : ModIs I F L S t Enc) {f : Nat → Int32} {N : NetM} (hE : Enc f N) (e1 : N.1 = (sN S).1) (e2 : N.2.1 = (sN S).2.1) : ModIs I (va_up F 9 f) L (setN S N) t Enc := by
  obtain ⟨h0, h2, h5, h12, h8, h1, h9, hk, hL⟩ := h
  refine ⟨h0, h2, h5, h12, h8, h1, hE, fun i M hi => ?_, ?_⟩
  · rw [vu, if_neg (by omega)]
    exact hk i M hi
  · rcases hL with h | ⟨h, h'⟩
    · exact Or.inl h
    · refine Or.inr ⟨h, ?_⟩
      show LaidOk N.1 N.2.1 _ L
      rw [e1, e2]
      exact h'
end MI
theorem okS.d (S : SysM) (h : okS S) : 1 ≤ (sN S).1 ∧ (sN S).1 ≤ 12 ∧ (sKs S).length ≤ 8 ∧ ∀ M ∈ sKs S, M.1 ≤ 12 := ⟨h.2.2.2.2.1, h.2.2.2.2.2.1, h.2.2.1, fun M hM => (h.2.2.2.1 M hM).2.1⟩
theorem nI_ne {b : Nat} (h : b < 2 ^ 31) : nI b ≠ -1 := fun e => by
  have h1 := nI_toInt h
  rw [e] at h1
  have h2 : (-1 : Int32).toInt = -1 := by decide
  omega
theorem mdX3_isNode : vMd yX3_isNode 1 := ⟨by decide +kernel, by decide +kernel, by decide +kernel⟩
theorem mdX3_bad : vMd yX3_bad 3 := ⟨by decide +kernel, by decide +kernel, by decide +kernel⟩
theorem mdX3_remembers : vMd yX3_remembers 0 := ⟨by decide +kernel, by decide +kernel, by decide +kernel⟩
theorem mdX3_parts : vMd yX3_parts 1 := ⟨by decide +kernel, by decide +kernel, by decide +kernel⟩
theorem c_X3_part {G : vGC} (hG : vGok G) {σ : vSt} {m : Nat} {S : SysM} {t0 : Nat} (hA : ModAt σ m S t0) (hS : okS S) {x : Int32} : Ct G yX3_part (ws_ yX3_part cX3_part 3 (some .int)) 4 0 0 σ [.ref m, .int x] (fun v σ9 => v = some (.int (opPart S x).2.1) ∧ ModAt σ9 m (opPart S x).2.2 (opPart S x).1 ∧ FrL [m] σ σ9) vNo := by
  refine ct_of hG (by decide) (Nat.le_of_ble_eq_true rfl) fun X hN O hnm htb => ?_
  show V G X _ 0 0 σ 0 [(0, .ref m), (1, .int x)] []
  obtain ⟨ad, I, F, L, hR, hM⟩ := id hA
  have hd := okS.d S hS
  have hn1 : 1 ≤ (sN S).1 := hd.1
  have hn : (sN S).1 ≤ 12 := hd.2.1
  refine v_aload_n O dX3_part_0 rfl 0 rfl ?_
  refine v_iconst (v := nI 0) O dX3_part_1 (by decide) ?_
  refine r_puti (K := layM) (I' := (va_up I 0 (nI 0))) (ty0 := tyX3) O hR in_X3 tyX3_ok nmX3 (show vcl[2]? = some (RX3, TX3, 27) from rfl) 0 (by decide) rfl q1492 rfl (tyX3_ok 0 (by decide)) rfl rfl (Nat.le_of_ble_eq_true rfl) rfl dX3_part_2 (fun σ1 hR1 hf1 => ?_)
  refine v_aload_n O dX3_part_5 rfl 0 rfl ?_
  refine v_aload_n O dX3_part_6 rfl 0 rfl ?_
  refine v_iload_n O dX3_part_7 rfl 1 rfl ?_
  refine v_callV (as := [.int x]) (rest := [.ref m]) O (c_X3_isNode hG hR1 (hM.thr 0).e9 (by first | omega | exact hn) (x := x) (by omega)) q1697 q1699 qs49 q77 q1700 hR1.ob (show vcl[2]? = some (RX3, TX3, 27) from rfl) rfl mdX3_isNode rfl (by decide) (by omega) (by omega) (by omega) (Nat.le_of_ble_eq_true rfl) rfl dX3_part_8 (fun v9 σ9 hp9 => ?_) (fun _ _ _ h => False.elim h)
  obtain ⟨rfl, hs9⟩ := hp9
  obtain rfl := hs9.symm
  refine v_if_neB (tgt := 18) O dX3_part_11 (by decide) (fun h_11 => ?_) (fun h_11 => ?_)
  · obtain ⟨a, ha, rfl⟩ := isNd_t hn1 hn h_11
    refine v_iconst (v := nI 0) O dX3_part_18 (by decide) ?_
    refine v_iconst (v := nI 1) O dX3_part_19 (by decide) ?_
    refine v_iconst (v := nI 0) O dX3_part_20 (by decide) ?_
    refine v_callV (as := [.int (nI 0), .int (nI 1), .int (nI 0)]) (rest := []) O (c_X3_bad hG (p := false) (w := 1) (r := 0) hR1 (by omega) (by omega) rfl) q1590 q1592 qs32 q77 q1593 hR1.ob (show vcl[2]? = some (RX3, TX3, 27) from rfl) rfl mdX3_bad rfl (by decide) (by omega) (by omega) (by omega) (Nat.le_of_ble_eq_true rfl) rfl dX3_part_21 (fun v9 σ3 hp9 => ?_) (fun _ _ _ h => False.elim h)
    obtain ⟨rfl, hR2, hf2⟩ := hp9
    replace hR2 : RecAt layM σ3 m ad (va_up I 0 (nI 0)) F L := hR2
    refine v_if_neB (tgt := 50) O dX3_part_24 (by decide) (fun h_24 => ?_) (fun h_24 => ?_)
    · exact absurd h_24 (by decide)
    · refine v_aload_n O dX3_part_27 rfl 0 rfl ?_
      refine v_aload_n O dX3_part_28 rfl 0 rfl ?_
      refine v_iload_n O dX3_part_29 rfl 1 rfl ?_
      refine v_callV (as := [.int (nI a)]) (rest := [.ref m]) O (c_X3_mate hG hR2 (hM.thr 0).e9 (by first | omega | exact hn) (a := a) (by omega)) q1705 q1707 qs50 q77 q1708 hR2.ob (show vcl[2]? = some (RX3, TX3, 27) from rfl) rfl mdX3_mate rfl (by decide) (by omega) (by omega) (by omega) (Nat.le_of_ble_eq_true rfl) rfl dX3_part_30 (fun v9 σ9 hp9 => ?_) (fun _ _ _ h => False.elim h)
      obtain ⟨rfl, hs9⟩ := hp9
      obtain rfl := hs9.symm
      refine v_iconst (v := (-1)) O dX3_part_33 (by decide) ?_
      refine v_icmp_ne (tgt := 41) O dX3_part_34 (by decide) (fun h_34 => ?_) (fun h_34 => ?_)
      · obtain ⟨b, hb, hab, hba, hw⟩ : ∃ b, b < (sN S).1 ∧ (sN S).2.2 a = nI b ∧ (sN S).2.2 b = nI a ∧ (sN S).2.1 a b ≠ -1 := (hS.2.2.2.2.2.2.2.2.2 a ha).resolve_left h_34
        refine v_iconst (v := nI 0) O dX3_part_41 (by decide) ?_
        refine v_iconst (v := nI 2) O dX3_part_42 (by decide) ?_
        refine v_iconst (v := nI 2) O dX3_part_43 (by decide) ?_
        refine v_callV (as := [.int (nI 0), .int (nI 2), .int (nI 2)]) (rest := []) O (c_X3_bad hG (p := false) (w := 2) (r := 2) hR2 (by omega) (by omega) rfl) q1590 q1592 qs32 q77 q1593 hR2.ob (show vcl[2]? = some (RX3, TX3, 27) from rfl) rfl mdX3_bad rfl (by decide) (by omega) (by omega) (by omega) (Nat.le_of_ble_eq_true rfl) rfl dX3_part_44 (fun v9 σ5 hp9 => ?_) (fun _ _ _ h => False.elim h)
        obtain ⟨rfl, hR4, hf4⟩ := hp9
        replace hR4 : RecAt layM σ5 m ad (va_up I 0 (nI 0)) F L := hR4
        refine v_if_eqB (tgt := 52) O dX3_part_47 (by decide) (fun h_47 => ?_) (fun h_47 => ?_)
        · refine v_aload_n O dX3_part_52 rfl 0 rfl ?_
          refine v_callV (as := []) (rest := []) O (c_X3_remembers hG hR4 (hM.thr 0) hd.2.2.1 hd.2.1 hd.2.2.2) q1666 q1668 qs45 q77 q1669 hR4.ob (show vcl[2]? = some (RX3, TX3, 27) from rfl) rfl mdX3_remembers rfl (by decide) (by omega) (by omega) (by omega) (Nat.le_of_ble_eq_true rfl) rfl dX3_part_53 (fun v9 σ7 hp9 => ?_) (fun _ _ _ h => False.elim h)
          obtain ⟨rfl, I6, F6, hR6, hM6, hF6, hf6, hK6⟩ := hp9
          have hE6 : Enc (F6 9) (sN S) := hM6.e9
          refine v_aload_n O dX3_part_56 rfl 0 rfl ?_
          refine v_iload_n O dX3_part_57 rfl 1 rfl ?_
          refine v_callV (as := [.int (nI a)]) (rest := []) O (c_X3_mate hG hR6 hE6 (by first | omega | exact hn) (a := a) (by omega)) q1705 q1707 qs50 q77 q1708 hR6.ob (show vcl[2]? = some (RX3, TX3, 27) from rfl) rfl mdX3_mate rfl (by decide) (by omega) (by omega) (by omega) (Nat.le_of_ble_eq_true rfl) rfl dX3_part_58 (fun v9 σ9 hp9 => ?_) (fun _ _ _ h => False.elim h)
          obtain ⟨rfl, hs9⟩ := hp9
          obtain rfl := hs9.symm
          rw [hab]
          refine v_istore_n (lv' := [(2, .int (nI b)), (0, .ref m), (1, .int (nI a))]) O hN dX3_part_61 rfl (by decide) rfl ?_
          refine v_aload_n O dX3_part_62 rfl 1 rfl ?_
          refine v_iload_n O dX3_part_63 rfl 2 rfl ?_
          refine v_callV (as := [.int (nI a)]) (rest := []) O (c_X3_parts hG hR6 hE6 (by first | omega | exact hn) (a := a) (b := b) (by omega) (by omega) hab) q1709 q1711 qs51 q77 q1712 hR6.ob (show vcl[2]? = some (RX3, TX3, 27) from rfl) rfl mdX3_parts rfl (by decide) (by omega) (by omega) (by omega) (Nat.le_of_ble_eq_true rfl) rfl dX3_part_64 (fun v9 σ9 hp9 => ?_) (fun _ _ _ h => False.elim h)
          obtain ⟨rfl, hR8, hf8⟩ := hp9
          refine v_iload_n O dX3_part_67 rfl 0 rfl ?_
          exact v_iret O rfl dX3_part_68 (by omega) (by omega) (by rw [show opPart S (nI a) = (0, nI b, keepS S (unM (sN S) a b)) from by simp [opPart, h_11, cl, nI_clamp (show a < 2 ^ 31 by omega), nI_clamp (show b < 2 ^ 31 by omega), hab, nI_ne (show b < 2 ^ 31 by omega)]]; exact ⟨rfl, ⟨ad, _, _, _, hR8, (hM6.nowm (hE6.mates (x := -1) (y := -1) (by omega) (a := a) (b := b) (by omega) (by omega)) rfl rfl)⟩, ((((hf1.trans hf2).trans hf4).trans hf6).trans hf8)⟩)
        · exact absurd h_47 (by decide)
      · refine v_iconst (v := nI 1) O dX3_part_37 (by decide) ?_
        refine v_goto (tgt := 42) O dX3_part_38 (by decide) ?_
        refine v_iconst (v := nI 2) O dX3_part_42 (by decide) ?_
        refine v_iconst (v := nI 2) O dX3_part_43 (by decide) ?_
        refine v_callV (as := [.int (nI 1), .int (nI 2), .int (nI 2)]) (rest := []) O (c_X3_bad hG (p := true) (w := 2) (r := 2) hR2 (by omega) (by omega) rfl) q1590 q1592 qs32 q77 q1593 hR2.ob (show vcl[2]? = some (RX3, TX3, 27) from rfl) rfl mdX3_bad rfl (by decide) (by omega) (by omega) (by omega) (Nat.le_of_ble_eq_true rfl) rfl dX3_part_44 (fun v9 σ11 hp9 => ?_) (fun _ _ _ h => False.elim h)
        obtain ⟨rfl, hR10, hf10⟩ := hp9
        replace hR10 : RecAt layM σ11 m ad (va_up (va_up I 0 (nI 0)) 0 (nI 2)) (va_up F 1 (va_up (F 1) 2 ((F 1) 2 + nI 1))) L := hR10
        refine v_if_eqB (tgt := 52) O dX3_part_47 (by decide) (fun h_47 => ?_) (fun h_47 => ?_)
        · exact absurd h_47 (by decide)
        · refine v_iconst (v := nI 0) O dX3_part_50 (by decide) ?_
          exact v_iret O rfl dX3_part_51 (by omega) (by omega) (by rw [show opPart S (nI a) = (2, nI 0, refS S 2) from by simp [opPart, h_11, cl, nI_clamp (show a < 2 ^ 31 by omega), h_34]]; exact ⟨rfl, ⟨ad, _, _, _, hR10, (((hM.thr 0).rf (r := 2) (by omega)).thr 2)⟩, ((hf1.trans hf2).trans hf10)⟩)
  · refine v_iconst (v := nI 1) O dX3_part_14 (by decide) ?_
    refine v_goto (tgt := 19) O dX3_part_15 (by decide) ?_
    refine v_iconst (v := nI 1) O dX3_part_19 (by decide) ?_
    refine v_iconst (v := nI 0) O dX3_part_20 (by decide) ?_
    refine v_callV (as := [.int (nI 1), .int (nI 1), .int (nI 0)]) (rest := []) O (c_X3_bad hG (p := true) (w := 1) (r := 0) hR1 (by omega) (by omega) rfl) q1590 q1592 qs32 q77 q1593 hR1.ob (show vcl[2]? = some (RX3, TX3, 27) from rfl) rfl mdX3_bad rfl (by decide) (by omega) (by omega) (by omega) (Nat.le_of_ble_eq_true rfl) rfl dX3_part_21 (fun v9 σ13 hp9 => ?_) (fun _ _ _ h => False.elim h)
    obtain ⟨rfl, hR12, hf12⟩ := hp9
    replace hR12 : RecAt layM σ13 m ad (va_up (va_up I 0 (nI 0)) 0 (nI 1)) (va_up F 1 (va_up (F 1) 0 ((F 1) 0 + nI 1))) L := hR12
    refine v_if_neB (tgt := 50) O dX3_part_24 (by decide) (fun h_24 => ?_) (fun h_24 => ?_)
    · refine v_iconst (v := nI 0) O dX3_part_50 (by decide) ?_
      exact v_iret O rfl dX3_part_51 (by omega) (by omega) (by rw [show opPart S x = (1, nI 0, refS S 0) from by simp [opPart, h_11]]; exact ⟨rfl, ⟨ad, _, _, _, hR12, (((hM.thr 0).rf (r := 0) (by omega)).thr 1)⟩, (hf1.trans hf12)⟩)
    · exact absurd h_24 (by decide)
theorem mdX3_mates : vMd yX3_mates 2 := ⟨by decide +kernel, by decide +kernel, by decide +kernel⟩
theorem mdX3_pairsNow : vMd yX3_pairsNow 0 := ⟨by decide +kernel, by decide +kernel, by decide +kernel⟩
theorem c_X3_pair {G : vGC} (hG : vGok G) {σ : vSt} {m : Nat} {S : SysM} {t0 : Nat} (hA : ModAt σ m S t0) (hS : okS S) {x y : Int32} : Ct G yX3_pair (ws_ yX3_pair cX3_pair 3 (some .int)) 4 0 0 σ [.ref m, .int x, .int y] (fun v σ9 => v = some (.int (opPair S x y).2.1) ∧ ModAt σ9 m (opPair S x y).2.2 (opPair S x y).1 ∧ FrL [m] σ σ9) vNo := by
  refine ct_of hG (by decide) (Nat.le_of_ble_eq_true rfl) fun X hN O hnm htb => ?_
  show V G X _ 0 0 σ 0 [(0, .ref m), (1, .int x), (2, .int y)] []
  obtain ⟨ad, I, F, L, hR, hM⟩ := id hA
  have hd := okS.d S hS
  have hn1 : 1 ≤ (sN S).1 := hd.1
  have hn : (sN S).1 ≤ 12 := hd.2.1
  refine v_aload_n O dX3_pair_0 rfl 0 rfl ?_
  refine v_iconst (v := nI 0) O dX3_pair_1 (by decide) ?_
  refine r_puti (K := layM) (I' := (va_up I 0 (nI 0))) (ty0 := tyX3) O hR in_X3 tyX3_ok nmX3 (show vcl[2]? = some (RX3, TX3, 27) from rfl) 0 (by decide) rfl q1492 rfl (tyX3_ok 0 (by decide)) rfl rfl (Nat.le_of_ble_eq_true rfl) rfl dX3_pair_2 (fun σ1 hR1 hf1 => ?_)
  refine v_aload_n O dX3_pair_5 rfl 0 rfl ?_
  refine v_aload_n O dX3_pair_6 rfl 0 rfl ?_
  refine v_iload_n O dX3_pair_7 rfl 1 rfl ?_
  refine v_callV (as := [.int x]) (rest := [.ref m]) O (c_X3_isNode hG hR1 (hM.thr 0).e9 (by first | omega | exact hn) (x := x) (by omega)) q1697 q1699 qs49 q77 q1700 hR1.ob (show vcl[2]? = some (RX3, TX3, 27) from rfl) rfl mdX3_isNode rfl (by decide) (by omega) (by omega) (by omega) (Nat.le_of_ble_eq_true rfl) rfl dX3_pair_8 (fun v9 σ9 hp9 => ?_) (fun _ _ _ h => False.elim h)
  obtain ⟨rfl, hs9⟩ := hp9
  obtain rfl := hs9.symm
  refine v_if_eqB (tgt := 22) O dX3_pair_11 (by decide) (fun h_11 => ?_) (fun h_11 => ?_)
  · refine v_iconst (v := nI 1) O dX3_pair_22 (by decide) ?_
    refine v_goto (tgt := 27) O dX3_pair_23 (by decide) ?_
    refine v_iconst (v := nI 1) O dX3_pair_27 (by decide) ?_
    refine v_iconst (v := nI 0) O dX3_pair_28 (by decide) ?_
    refine v_callV (as := [.int (nI 1), .int (nI 1), .int (nI 0)]) (rest := []) O (c_X3_bad hG (p := true) (w := 1) (r := 0) hR1 (by omega) (by omega) rfl) q1590 q1592 qs32 q77 q1593 hR1.ob (show vcl[2]? = some (RX3, TX3, 27) from rfl) rfl mdX3_bad rfl (by decide) (by omega) (by omega) (by omega) (Nat.le_of_ble_eq_true rfl) rfl dX3_pair_29 (fun v9 σ3 hp9 => ?_) (fun _ _ _ h => False.elim h)
    obtain ⟨rfl, hR2, hf2⟩ := hp9
    replace hR2 : RecAt layM σ3 m ad (va_up (va_up I 0 (nI 0)) 0 (nI 1)) (va_up F 1 (va_up (F 1) 0 ((F 1) 0 + nI 1))) L := hR2
    refine v_if_neB (tgt := 96) O dX3_pair_32 (by decide) (fun h_32 => ?_) (fun h_32 => ?_)
    · refine v_iconst (v := nI 0) O dX3_pair_96 (by decide) ?_
      exact v_iret O rfl dX3_pair_97 (by omega) (by omega) (by rw [show opPair S x y = (1, nI 0, refS S 0) from by simp [opPair, h_11]]; exact ⟨rfl, ⟨ad, _, _, _, hR2, (((hM.thr 0).rf (r := 0) (by omega)).thr 1)⟩, (hf1.trans hf2)⟩)
    · exact absurd h_32 (by decide)
  · obtain ⟨a, ha, rfl⟩ := isNd_t hn1 hn h_11
    refine v_aload_n O dX3_pair_14 rfl 0 rfl ?_
    refine v_iload_n O dX3_pair_15 rfl 2 rfl ?_
    refine v_callV (as := [.int y]) (rest := [.ref m]) O (c_X3_isNode hG hR1 (hM.thr 0).e9 (by first | omega | exact hn) (x := y) (by omega)) q1697 q1699 qs49 q77 q1700 hR1.ob (show vcl[2]? = some (RX3, TX3, 27) from rfl) rfl mdX3_isNode rfl (by decide) (by omega) (by omega) (by omega) (Nat.le_of_ble_eq_true rfl) rfl dX3_pair_16 (fun v9 σ9 hp9 => ?_) (fun _ _ _ h => False.elim h)
    obtain ⟨rfl, hs9⟩ := hp9
    obtain rfl := hs9.symm
    refine v_if_neB (tgt := 26) O dX3_pair_19 (by decide) (fun h_19 => ?_) (fun h_19 => ?_)
    · obtain ⟨b, hb, rfl⟩ := isNd_t hn1 hn h_19
      refine v_iconst (v := nI 0) O dX3_pair_26 (by decide) ?_
      refine v_iconst (v := nI 1) O dX3_pair_27 (by decide) ?_
      refine v_iconst (v := nI 0) O dX3_pair_28 (by decide) ?_
      refine v_callV (as := [.int (nI 0), .int (nI 1), .int (nI 0)]) (rest := []) O (c_X3_bad hG (p := false) (w := 1) (r := 0) hR1 (by omega) (by omega) rfl) q1590 q1592 qs32 q77 q1593 hR1.ob (show vcl[2]? = some (RX3, TX3, 27) from rfl) rfl mdX3_bad rfl (by decide) (by omega) (by omega) (by omega) (Nat.le_of_ble_eq_true rfl) rfl dX3_pair_29 (fun v9 σ5 hp9 => ?_) (fun _ _ _ h => False.elim h)
      obtain ⟨rfl, hR4, hf4⟩ := hp9
      replace hR4 : RecAt layM σ5 m ad (va_up I 0 (nI 0)) F L := hR4
      refine v_if_neB (tgt := 96) O dX3_pair_32 (by decide) (fun h_32 => ?_) (fun h_32 => ?_)
      · exact absurd h_32 (by decide)
      · refine v_aload_n O dX3_pair_35 rfl 0 rfl ?_
        refine v_iload_n O dX3_pair_36 rfl 1 rfl ?_
        refine v_iload_n O dX3_pair_37 rfl 2 rfl ?_
        refine v_icmp_neN (tgt := 45) O dX3_pair_38 (by decide) (by omega) (by omega) (fun h_38 => ?_) (fun h_38 => ?_)
        · refine v_iconst (v := nI 0) O dX3_pair_45 (by decide) ?_
          refine v_iconst (v := nI 2) O dX3_pair_46 (by decide) ?_
          refine v_iconst (v := nI 1) O dX3_pair_47 (by decide) ?_
          refine v_callV (as := [.int (nI 0), .int (nI 2), .int (nI 1)]) (rest := []) O (c_X3_bad hG (p := false) (w := 2) (r := 1) hR4 (by omega) (by omega) rfl) q1590 q1592 qs32 q77 q1593 hR4.ob (show vcl[2]? = some (RX3, TX3, 27) from rfl) rfl mdX3_bad rfl (by decide) (by omega) (by omega) (by omega) (Nat.le_of_ble_eq_true rfl) rfl dX3_pair_48 (fun v9 σ7 hp9 => ?_) (fun _ _ _ h => False.elim h)
          obtain ⟨rfl, hR6, hf6⟩ := hp9
          replace hR6 : RecAt layM σ7 m ad (va_up I 0 (nI 0)) F L := hR6
          refine v_if_neB (tgt := 96) O dX3_pair_51 (by decide) (fun h_51 => ?_) (fun h_51 => ?_)
          · exact absurd h_51 (by decide)
          · refine v_aload_n O dX3_pair_54 rfl 0 rfl ?_
            refine v_aload_n O dX3_pair_55 rfl 0 rfl ?_
            refine v_iload_n O dX3_pair_56 rfl 1 rfl ?_
            refine v_iload_n O dX3_pair_57 rfl 2 rfl ?_
            refine v_callV (as := [.int (nI a), .int (nI b)]) (rest := [.ref m]) O (c_X3_weight hG hR6 (hM.thr 0).e9 (by first | omega | exact hn) (a := a) (b := b) (by omega) (by omega)) q1681 q1683 qs48 q77 q1684 hR6.ob (show vcl[2]? = some (RX3, TX3, 27) from rfl) rfl mdX3_weight rfl (by decide) (by omega) (by omega) (by omega) (Nat.le_of_ble_eq_true rfl) rfl dX3_pair_58 (fun v9 σ9 hp9 => ?_) (fun _ _ _ h => False.elim h)
            obtain ⟨rfl, hs9⟩ := hp9
            obtain rfl := hs9.symm
            refine v_iconst (v := (-1)) O dX3_pair_61 (by decide) ?_
            refine v_icmp_eq (tgt := 83) O dX3_pair_62 (by decide) (fun h_62 => ?_) (fun h_62 => ?_)
            · refine v_iconst (v := nI 1) O dX3_pair_83 (by decide) ?_
              refine v_goto (tgt := 88) O dX3_pair_84 (by decide) ?_
              refine v_iconst (v := nI 3) O dX3_pair_88 (by decide) ?_
              refine v_iconst (v := nI 2) O dX3_pair_89 (by decide) ?_
              refine v_callV (as := [.int (nI 1), .int (nI 3), .int (nI 2)]) (rest := []) O (c_X3_bad hG (p := true) (w := 3) (r := 2) hR6 (by omega) (by omega) rfl) q1590 q1592 qs32 q77 q1593 hR6.ob (show vcl[2]? = some (RX3, TX3, 27) from rfl) rfl mdX3_bad rfl (by decide) (by omega) (by omega) (by omega) (Nat.le_of_ble_eq_true rfl) rfl dX3_pair_90 (fun v9 σ9 hp9 => ?_) (fun _ _ _ h => False.elim h)
              obtain ⟨rfl, hR8, hf8⟩ := hp9
              replace hR8 : RecAt layM σ9 m ad (va_up (va_up I 0 (nI 0)) 0 (nI 3)) (va_up F 1 (va_up (F 1) 2 ((F 1) 2 + nI 1))) L := hR8
              refine v_if_eqB (tgt := 98) O dX3_pair_93 (by decide) (fun h_93 => ?_) (fun h_93 => ?_)
              · exact absurd h_93 (by decide)
              · refine v_iconst (v := nI 0) O dX3_pair_96 (by decide) ?_
                exact v_iret O rfl dX3_pair_97 (by omega) (by omega) (by rw [show opPair S (nI a) (nI b) = (3, nI 0, refS S 2) from by simp [opPair, h_11, h_19, h_38, h_62, cl, nI_clamp (show a < 2 ^ 31 by omega), nI_clamp (show b < 2 ^ 31 by omega), nI_eq (show a < 2 ^ 31 by omega) (show b < 2 ^ 31 by omega)]]; exact ⟨rfl, ⟨ad, _, _, _, hR8, (((hM.thr 0).rf (r := 2) (by omega)).thr 3)⟩, (((hf1.trans hf4).trans hf6).trans hf8)⟩)
            · refine v_aload_n O dX3_pair_65 rfl 0 rfl ?_
              refine v_iload_n O dX3_pair_66 rfl 1 rfl ?_
              refine v_callV (as := [.int (nI a)]) (rest := [.ref m]) O (c_X3_mate hG hR6 (hM.thr 0).e9 (by first | omega | exact hn) (a := a) (by omega)) q1705 q1707 qs50 q77 q1708 hR6.ob (show vcl[2]? = some (RX3, TX3, 27) from rfl) rfl mdX3_mate rfl (by decide) (by omega) (by omega) (by omega) (Nat.le_of_ble_eq_true rfl) rfl dX3_pair_67 (fun v9 σ9 hp9 => ?_) (fun _ _ _ h => False.elim h)
              obtain ⟨rfl, hs9⟩ := hp9
              obtain rfl := hs9.symm
              refine v_iconst (v := (-1)) O dX3_pair_70 (by decide) ?_
              refine v_icmp_ne (tgt := 83) O dX3_pair_71 (by decide) (fun h_71 => ?_) (fun h_71 => ?_)
              · refine v_iconst (v := nI 1) O dX3_pair_83 (by decide) ?_
                refine v_goto (tgt := 88) O dX3_pair_84 (by decide) ?_
                refine v_iconst (v := nI 3) O dX3_pair_88 (by decide) ?_
                refine v_iconst (v := nI 2) O dX3_pair_89 (by decide) ?_
                refine v_callV (as := [.int (nI 1), .int (nI 3), .int (nI 2)]) (rest := []) O (c_X3_bad hG (p := true) (w := 3) (r := 2) hR6 (by omega) (by omega) rfl) q1590 q1592 qs32 q77 q1593 hR6.ob (show vcl[2]? = some (RX3, TX3, 27) from rfl) rfl mdX3_bad rfl (by decide) (by omega) (by omega) (by omega) (Nat.le_of_ble_eq_true rfl) rfl dX3_pair_90 (fun v9 σ11 hp9 => ?_) (fun _ _ _ h => False.elim h)
                obtain ⟨rfl, hR10, hf10⟩ := hp9
                replace hR10 : RecAt layM σ11 m ad (va_up (va_up I 0 (nI 0)) 0 (nI 3)) (va_up F 1 (va_up (F 1) 2 ((F 1) 2 + nI 1))) L := hR10
                refine v_if_eqB (tgt := 98) O dX3_pair_93 (by decide) (fun h_93 => ?_) (fun h_93 => ?_)
                · exact absurd h_93 (by decide)
                · refine v_iconst (v := nI 0) O dX3_pair_96 (by decide) ?_
                  exact v_iret O rfl dX3_pair_97 (by omega) (by omega) (by rw [show opPair S (nI a) (nI b) = (3, nI 0, refS S 2) from by simp [opPair, h_11, h_19, h_38, h_62, h_71, cl, nI_clamp (show a < 2 ^ 31 by omega), nI_clamp (show b < 2 ^ 31 by omega), nI_eq (show a < 2 ^ 31 by omega) (show b < 2 ^ 31 by omega)]]; exact ⟨rfl, ⟨ad, _, _, _, hR10, (((hM.thr 0).rf (r := 2) (by omega)).thr 3)⟩, (((hf1.trans hf4).trans hf6).trans hf10)⟩)
              · refine v_aload_n O dX3_pair_74 rfl 0 rfl ?_
                refine v_iload_n O dX3_pair_75 rfl 2 rfl ?_
                refine v_callV (as := [.int (nI b)]) (rest := [.ref m]) O (c_X3_mate hG hR6 (hM.thr 0).e9 (by first | omega | exact hn) (a := b) (by omega)) q1705 q1707 qs50 q77 q1708 hR6.ob (show vcl[2]? = some (RX3, TX3, 27) from rfl) rfl mdX3_mate rfl (by decide) (by omega) (by omega) (by omega) (Nat.le_of_ble_eq_true rfl) rfl dX3_pair_76 (fun v9 σ9 hp9 => ?_) (fun _ _ _ h => False.elim h)
                obtain ⟨rfl, hs9⟩ := hp9
                obtain rfl := hs9.symm
                refine v_iconst (v := (-1)) O dX3_pair_79 (by decide) ?_
                refine v_icmp_eq (tgt := 87) O dX3_pair_80 (by decide) (fun h_80 => ?_) (fun h_80 => ?_)
                · refine v_iconst (v := nI 0) O dX3_pair_87 (by decide) ?_
                  refine v_iconst (v := nI 3) O dX3_pair_88 (by decide) ?_
                  refine v_iconst (v := nI 2) O dX3_pair_89 (by decide) ?_
                  refine v_callV (as := [.int (nI 0), .int (nI 3), .int (nI 2)]) (rest := []) O (c_X3_bad hG (p := false) (w := 3) (r := 2) hR6 (by omega) (by omega) rfl) q1590 q1592 qs32 q77 q1593 hR6.ob (show vcl[2]? = some (RX3, TX3, 27) from rfl) rfl mdX3_bad rfl (by decide) (by omega) (by omega) (by omega) (Nat.le_of_ble_eq_true rfl) rfl dX3_pair_90 (fun v9 σ13 hp9 => ?_) (fun _ _ _ h => False.elim h)
                  obtain ⟨rfl, hR12, hf12⟩ := hp9
                  replace hR12 : RecAt layM σ13 m ad (va_up I 0 (nI 0)) F L := hR12
                  refine v_if_eqB (tgt := 98) O dX3_pair_93 (by decide) (fun h_93 => ?_) (fun h_93 => ?_)
                  · refine v_aload_n O dX3_pair_98 rfl 0 rfl ?_
                    refine v_callV (as := []) (rest := []) O (c_X3_remembers hG hR12 (hM.thr 0) hd.2.2.1 hd.2.1 hd.2.2.2) q1666 q1668 qs45 q77 q1669 hR12.ob (show vcl[2]? = some (RX3, TX3, 27) from rfl) rfl mdX3_remembers rfl (by decide) (by omega) (by omega) (by omega) (Nat.le_of_ble_eq_true rfl) rfl dX3_pair_99 (fun v9 σ15 hp9 => ?_) (fun _ _ _ h => False.elim h)
                    obtain ⟨rfl, I14, F14, hR14, hM14, hF14, hf14, hK14⟩ := hp9
                    have hE14 : Enc (F14 9) (sN S) := hM14.e9
                    refine v_aload_n O dX3_pair_102 rfl 0 rfl ?_
                    refine v_iload_n O dX3_pair_103 rfl 1 rfl ?_
                    refine v_iload_n O dX3_pair_104 rfl 2 rfl ?_
                    refine v_callV (as := [.int (nI a), .int (nI b)]) (rest := []) O (c_X3_mates hG hR14 hE14 (by first | omega | exact hn) (a := a) (b := b) (by omega) (by omega)) q1717 q1719 qs52 q77 q1720 hR14.ob (show vcl[2]? = some (RX3, TX3, 27) from rfl) rfl mdX3_mates rfl (by decide) (by omega) (by omega) (by omega) (Nat.le_of_ble_eq_true rfl) rfl dX3_pair_105 (fun v9 σ17 hp9 => ?_) (fun _ _ _ h => False.elim h)
                    obtain ⟨rfl, hR16, hf16⟩ := hp9
                    refine v_aload_n O dX3_pair_108 rfl 0 rfl ?_
                    refine v_callV (as := []) (rest := []) O (c_X3_pairsNow hG hR16 (hE14.mates (x := nI b) (y := nI a) (by omega) (a := a) (b := b) (by omega) (by omega)) (by first | omega | exact hn)) q1721 q1723 qs53 q77 q1724 hR16.ob (show vcl[2]? = some (RX3, TX3, 27) from rfl) rfl mdX3_pairsNow rfl (by decide) (by omega) (by omega) (by omega) (Nat.le_of_ble_eq_true rfl) rfl dX3_pair_109 (fun v9 σ9 hp9 => ?_) (fun _ _ _ h => False.elim h)
                    obtain ⟨rfl, hs9⟩ := hp9
                    obtain rfl := hs9.symm
                    exact v_iret O rfl dX3_pair_112 (by omega) (by omega) (by rw [show opPair S (nI a) (nI b) = (0, nI (pairsM (setM (sN S) a b)), keepS S (setM (sN S) a b)) from by simp [opPair, h_11, h_19, h_38, h_62, h_71, h_80, cl, nI_clamp (show a < 2 ^ 31 by omega), nI_clamp (show b < 2 ^ 31 by omega), nI_eq (show a < 2 ^ 31 by omega) (show b < 2 ^ 31 by omega)]]; exact ⟨rfl, ⟨ad, _, _, _, hR16, (hM14.nowm (hE14.mates (x := nI b) (y := nI a) (by omega) (a := a) (b := b) (by omega) (by omega)) rfl rfl)⟩, (((((hf1.trans hf4).trans hf6).trans hf12).trans hf14).trans hf16)⟩)
                  · exact absurd h_93 (by decide)
                · refine v_iconst (v := nI 1) O dX3_pair_83 (by decide) ?_
                  refine v_goto (tgt := 88) O dX3_pair_84 (by decide) ?_
                  refine v_iconst (v := nI 3) O dX3_pair_88 (by decide) ?_
                  refine v_iconst (v := nI 2) O dX3_pair_89 (by decide) ?_
                  refine v_callV (as := [.int (nI 1), .int (nI 3), .int (nI 2)]) (rest := []) O (c_X3_bad hG (p := true) (w := 3) (r := 2) hR6 (by omega) (by omega) rfl) q1590 q1592 qs32 q77 q1593 hR6.ob (show vcl[2]? = some (RX3, TX3, 27) from rfl) rfl mdX3_bad rfl (by decide) (by omega) (by omega) (by omega) (Nat.le_of_ble_eq_true rfl) rfl dX3_pair_90 (fun v9 σ19 hp9 => ?_) (fun _ _ _ h => False.elim h)
                  obtain ⟨rfl, hR18, hf18⟩ := hp9
                  replace hR18 : RecAt layM σ19 m ad (va_up (va_up I 0 (nI 0)) 0 (nI 3)) (va_up F 1 (va_up (F 1) 2 ((F 1) 2 + nI 1))) L := hR18
                  refine v_if_eqB (tgt := 98) O dX3_pair_93 (by decide) (fun h_93 => ?_) (fun h_93 => ?_)
                  · exact absurd h_93 (by decide)
                  · refine v_iconst (v := nI 0) O dX3_pair_96 (by decide) ?_
                    exact v_iret O rfl dX3_pair_97 (by omega) (by omega) (by rw [show opPair S (nI a) (nI b) = (3, nI 0, refS S 2) from by simp [opPair, h_11, h_19, h_38, h_62, h_71, h_80, cl, nI_clamp (show a < 2 ^ 31 by omega), nI_clamp (show b < 2 ^ 31 by omega), nI_eq (show a < 2 ^ 31 by omega) (show b < 2 ^ 31 by omega)]]; exact ⟨rfl, ⟨ad, _, _, _, hR18, (((hM.thr 0).rf (r := 2) (by omega)).thr 3)⟩, (((hf1.trans hf4).trans hf6).trans hf18)⟩)
        · refine v_iconst (v := nI 1) O dX3_pair_41 (by decide) ?_
          refine v_goto (tgt := 46) O dX3_pair_42 (by decide) ?_
          refine v_iconst (v := nI 2) O dX3_pair_46 (by decide) ?_
          refine v_iconst (v := nI 1) O dX3_pair_47 (by decide) ?_
          refine v_callV (as := [.int (nI 1), .int (nI 2), .int (nI 1)]) (rest := []) O (c_X3_bad hG (p := true) (w := 2) (r := 1) hR4 (by omega) (by omega) rfl) q1590 q1592 qs32 q77 q1593 hR4.ob (show vcl[2]? = some (RX3, TX3, 27) from rfl) rfl mdX3_bad rfl (by decide) (by omega) (by omega) (by omega) (Nat.le_of_ble_eq_true rfl) rfl dX3_pair_48 (fun v9 σ21 hp9 => ?_) (fun _ _ _ h => False.elim h)
          obtain ⟨rfl, hR20, hf20⟩ := hp9
          replace hR20 : RecAt layM σ21 m ad (va_up (va_up I 0 (nI 0)) 0 (nI 2)) (va_up F 1 (va_up (F 1) 1 ((F 1) 1 + nI 1))) L := hR20
          refine v_if_neB (tgt := 96) O dX3_pair_51 (by decide) (fun h_51 => ?_) (fun h_51 => ?_)
          · refine v_iconst (v := nI 0) O dX3_pair_96 (by decide) ?_
            exact v_iret O rfl dX3_pair_97 (by omega) (by omega) (by rw [show opPair S (nI a) (nI b) = (2, nI 0, refS S 1) from by simp [opPair, h_11, h_19, h_38, cl, nI_clamp (show a < 2 ^ 31 by omega), nI_clamp (show b < 2 ^ 31 by omega), nI_eq (show a < 2 ^ 31 by omega) (show b < 2 ^ 31 by omega)]]; exact ⟨rfl, ⟨ad, _, _, _, hR20, (((hM.thr 0).rf (r := 1) (by omega)).thr 2)⟩, ((hf1.trans hf4).trans hf20)⟩)
          · exact absurd h_51 (by decide)
    · refine v_iconst (v := nI 1) O dX3_pair_22 (by decide) ?_
      refine v_goto (tgt := 27) O dX3_pair_23 (by decide) ?_
      refine v_iconst (v := nI 1) O dX3_pair_27 (by decide) ?_
      refine v_iconst (v := nI 0) O dX3_pair_28 (by decide) ?_
      refine v_callV (as := [.int (nI 1), .int (nI 1), .int (nI 0)]) (rest := []) O (c_X3_bad hG (p := true) (w := 1) (r := 0) hR1 (by omega) (by omega) rfl) q1590 q1592 qs32 q77 q1593 hR1.ob (show vcl[2]? = some (RX3, TX3, 27) from rfl) rfl mdX3_bad rfl (by decide) (by omega) (by omega) (by omega) (Nat.le_of_ble_eq_true rfl) rfl dX3_pair_29 (fun v9 σ23 hp9 => ?_) (fun _ _ _ h => False.elim h)
      obtain ⟨rfl, hR22, hf22⟩ := hp9
      replace hR22 : RecAt layM σ23 m ad (va_up (va_up I 0 (nI 0)) 0 (nI 1)) (va_up F 1 (va_up (F 1) 0 ((F 1) 0 + nI 1))) L := hR22
      refine v_if_neB (tgt := 96) O dX3_pair_32 (by decide) (fun h_32 => ?_) (fun h_32 => ?_)
      · refine v_iconst (v := nI 0) O dX3_pair_96 (by decide) ?_
        exact v_iret O rfl dX3_pair_97 (by omega) (by omega) (by rw [show opPair S (nI a) y = (1, nI 0, refS S 0) from by simp [opPair, h_11, h_19]]; exact ⟨rfl, ⟨ad, _, _, _, hR22, (((hM.thr 0).rf (r := 0) (by omega)).thr 1)⟩, (hf1.trans hf22)⟩)
      · exact absurd h_32 (by decide)
theorem mdX3_joins : vMd yX3_joins 4 := ⟨by decide +kernel, by decide +kernel, by decide +kernel⟩
theorem mdX3_changes : vMd yX3_changes 0 := ⟨by decide +kernel, by decide +kernel, by decide +kernel⟩
theorem mdX3_lines : vMd yX3_lines 0 := ⟨by decide +kernel, by decide +kernel, by decide +kernel⟩
theorem c_X3_join {G : vGC} (hG : vGok G) {σ : vSt} {m : Nat} {S : SysM} {t0 : Nat} (hA : ModAt σ m S t0) (hS : okS S) {x y w : Int32} : Ct G yX3_join (ws_ yX3_join cX3_join 4 (some .int)) 4 0 0 σ [.ref m, .int x, .int y, .int w] (fun v σ9 => v = some (.int (opJoin S x y w).2.1) ∧ ModAt σ9 m (opJoin S x y w).2.2 (opJoin S x y w).1 ∧ FrL [m] σ σ9) vNo := by
  refine ct_of hG (by decide) (Nat.le_of_ble_eq_true rfl) fun X hN O hnm htb => ?_
  show V G X _ 0 0 σ 0 [(0, .ref m), (1, .int x), (2, .int y), (3, .int w)] []
  obtain ⟨ad, I, F, L, hR, hM⟩ := id hA
  have hd := okS.d S hS
  have hn1 : 1 ≤ (sN S).1 := hd.1
  have hn : (sN S).1 ≤ 12 := hd.2.1
  refine v_aload_n O dX3_join_0 rfl 0 rfl ?_
  refine v_iconst (v := nI 0) O dX3_join_1 (by decide) ?_
  refine r_puti (K := layM) (I' := (va_up I 0 (nI 0))) (ty0 := tyX3) O hR in_X3 tyX3_ok nmX3 (show vcl[2]? = some (RX3, TX3, 27) from rfl) 0 (by decide) rfl q1492 rfl (tyX3_ok 0 (by decide)) rfl rfl (Nat.le_of_ble_eq_true rfl) rfl dX3_join_2 (fun σ1 hR1 hf1 => ?_)
  refine v_aload_n O dX3_join_5 rfl 0 rfl ?_
  refine v_aload_n O dX3_join_6 rfl 0 rfl ?_
  refine v_iload_n O dX3_join_7 rfl 1 rfl ?_
  refine v_callV (as := [.int x]) (rest := [.ref m]) O (c_X3_isNode hG hR1 (hM.thr 0).e9 (by first | omega | exact hn) (x := x) (by omega)) q1697 q1699 qs49 q77 q1700 hR1.ob (show vcl[2]? = some (RX3, TX3, 27) from rfl) rfl mdX3_isNode rfl (by decide) (by omega) (by omega) (by omega) (Nat.le_of_ble_eq_true rfl) rfl dX3_join_8 (fun v9 σ9 hp9 => ?_) (fun _ _ _ h => False.elim h)
  obtain ⟨rfl, hs9⟩ := hp9
  obtain rfl := hs9.symm
  refine v_if_eqB (tgt := 22) O dX3_join_11 (by decide) (fun h_11 => ?_) (fun h_11 => ?_)
  · refine v_iconst (v := nI 1) O dX3_join_22 (by decide) ?_
    refine v_goto (tgt := 27) O dX3_join_23 (by decide) ?_
    refine v_iconst (v := nI 1) O dX3_join_27 (by decide) ?_
    refine v_iconst (v := nI 0) O dX3_join_28 (by decide) ?_
    refine v_callV (as := [.int (nI 1), .int (nI 1), .int (nI 0)]) (rest := []) O (c_X3_bad hG (p := true) (w := 1) (r := 0) hR1 (by omega) (by omega) rfl) q1590 q1592 qs32 q77 q1593 hR1.ob (show vcl[2]? = some (RX3, TX3, 27) from rfl) rfl mdX3_bad rfl (by decide) (by omega) (by omega) (by omega) (Nat.le_of_ble_eq_true rfl) rfl dX3_join_29 (fun v9 σ3 hp9 => ?_) (fun _ _ _ h => False.elim h)
    obtain ⟨rfl, hR2, hf2⟩ := hp9
    replace hR2 : RecAt layM σ3 m ad (va_up (va_up I 0 (nI 0)) 0 (nI 1)) (va_up F 1 (va_up (F 1) 0 ((F 1) 0 + nI 1))) L := hR2
    refine v_if_neB (tgt := 65) O dX3_join_32 (by decide) (fun h_32 => ?_) (fun h_32 => ?_)
    · refine v_iconst (v := nI 0) O dX3_join_65 (by decide) ?_
      exact v_iret O rfl dX3_join_66 (by omega) (by omega) (by rw [show opJoin S x y w = (1, nI 0, refS S 0) from by simp [opJoin, h_11]]; exact ⟨rfl, ⟨ad, _, _, _, hR2, (((hM.thr 0).rf (r := 0) (by omega)).thr 1)⟩, (hf1.trans hf2)⟩)
    · exact absurd h_32 (by decide)
  · obtain ⟨a, ha, rfl⟩ := isNd_t hn1 hn h_11
    refine v_aload_n O dX3_join_14 rfl 0 rfl ?_
    refine v_iload_n O dX3_join_15 rfl 2 rfl ?_
    refine v_callV (as := [.int y]) (rest := [.ref m]) O (c_X3_isNode hG hR1 (hM.thr 0).e9 (by first | omega | exact hn) (x := y) (by omega)) q1697 q1699 qs49 q77 q1700 hR1.ob (show vcl[2]? = some (RX3, TX3, 27) from rfl) rfl mdX3_isNode rfl (by decide) (by omega) (by omega) (by omega) (Nat.le_of_ble_eq_true rfl) rfl dX3_join_16 (fun v9 σ9 hp9 => ?_) (fun _ _ _ h => False.elim h)
    obtain ⟨rfl, hs9⟩ := hp9
    obtain rfl := hs9.symm
    refine v_if_neB (tgt := 26) O dX3_join_19 (by decide) (fun h_19 => ?_) (fun h_19 => ?_)
    · obtain ⟨b, hb, rfl⟩ := isNd_t hn1 hn h_19
      refine v_iconst (v := nI 0) O dX3_join_26 (by decide) ?_
      refine v_iconst (v := nI 1) O dX3_join_27 (by decide) ?_
      refine v_iconst (v := nI 0) O dX3_join_28 (by decide) ?_
      refine v_callV (as := [.int (nI 0), .int (nI 1), .int (nI 0)]) (rest := []) O (c_X3_bad hG (p := false) (w := 1) (r := 0) hR1 (by omega) (by omega) rfl) q1590 q1592 qs32 q77 q1593 hR1.ob (show vcl[2]? = some (RX3, TX3, 27) from rfl) rfl mdX3_bad rfl (by decide) (by omega) (by omega) (by omega) (Nat.le_of_ble_eq_true rfl) rfl dX3_join_29 (fun v9 σ5 hp9 => ?_) (fun _ _ _ h => False.elim h)
      obtain ⟨rfl, hR4, hf4⟩ := hp9
      replace hR4 : RecAt layM σ5 m ad (va_up I 0 (nI 0)) F L := hR4
      refine v_if_neB (tgt := 65) O dX3_join_32 (by decide) (fun h_32 => ?_) (fun h_32 => ?_)
      · exact absurd h_32 (by decide)
      · refine v_aload_n O dX3_join_35 rfl 0 rfl ?_
        refine v_iload_n O dX3_join_36 rfl 1 rfl ?_
        refine v_iload_n O dX3_join_37 rfl 2 rfl ?_
        refine v_icmp_eqN (tgt := 52) O dX3_join_38 (by decide) (by omega) (by omega) (fun h_38 => ?_) (fun h_38 => ?_)
        · refine v_iconst (v := nI 1) O dX3_join_52 (by decide) ?_
          refine v_goto (tgt := 57) O dX3_join_53 (by decide) ?_
          refine v_iconst (v := nI 2) O dX3_join_57 (by decide) ?_
          refine v_iconst (v := nI 1) O dX3_join_58 (by decide) ?_
          refine v_callV (as := [.int (nI 1), .int (nI 2), .int (nI 1)]) (rest := []) O (c_X3_bad hG (p := true) (w := 2) (r := 1) hR4 (by omega) (by omega) rfl) q1590 q1592 qs32 q77 q1593 hR4.ob (show vcl[2]? = some (RX3, TX3, 27) from rfl) rfl mdX3_bad rfl (by decide) (by omega) (by omega) (by omega) (Nat.le_of_ble_eq_true rfl) rfl dX3_join_59 (fun v9 σ7 hp9 => ?_) (fun _ _ _ h => False.elim h)
          obtain ⟨rfl, hR6, hf6⟩ := hp9
          replace hR6 : RecAt layM σ7 m ad (va_up (va_up I 0 (nI 0)) 0 (nI 2)) (va_up F 1 (va_up (F 1) 1 ((F 1) 1 + nI 1))) L := hR6
          refine v_if_eqB (tgt := 67) O dX3_join_62 (by decide) (fun h_62 => ?_) (fun h_62 => ?_)
          · exact absurd h_62 (by decide)
          · refine v_iconst (v := nI 0) O dX3_join_65 (by decide) ?_
            exact v_iret O rfl dX3_join_66 (by omega) (by omega) (by rw [show opJoin S (nI a) (nI b) w = (2, nI 0, refS S 1) from by simp [opJoin, h_11, h_19, h_38, cl, nI_clamp (show a < 2 ^ 31 by omega), nI_clamp (show b < 2 ^ 31 by omega), nI_eq (show a < 2 ^ 31 by omega) (show b < 2 ^ 31 by omega)]]; exact ⟨rfl, ⟨ad, _, _, _, hR6, (((hM.thr 0).rf (r := 1) (by omega)).thr 2)⟩, ((hf1.trans hf4).trans hf6)⟩)
        · refine v_iload_n O dX3_join_41 rfl 3 rfl ?_
          refine v_iconst (v := nI 0) O dX3_join_42 (by decide) ?_
          refine v_sipush (v := nI 999) O dX3_join_43 (by decide) ?_
          refine v_callS (as := [.int w, .int (nI 0), .int (nI 999)]) (rest := [.ref m]) O (c_X3_in hG (x := w) (lo := nI 0) (hi := nI 999)) q1587 q1588 q77 q1589 mdX3_in rfl (by decide) (by omega) (by omega) (by omega) (Nat.le_of_ble_eq_true rfl) rfl dX3_join_46 (fun v9 σ9 hp9 => ?_) (fun _ _ _ h => False.elim h)
          obtain ⟨rfl, hs9⟩ := hp9
          obtain rfl := hs9.symm
          refine v_if_neB (tgt := 56) O dX3_join_49 (by decide) (fun h_49 => ?_) (fun h_49 => ?_)
          · refine v_iconst (v := nI 0) O dX3_join_56 (by decide) ?_
            refine v_iconst (v := nI 2) O dX3_join_57 (by decide) ?_
            refine v_iconst (v := nI 1) O dX3_join_58 (by decide) ?_
            refine v_callV (as := [.int (nI 0), .int (nI 2), .int (nI 1)]) (rest := []) O (c_X3_bad hG (p := false) (w := 2) (r := 1) hR4 (by omega) (by omega) rfl) q1590 q1592 qs32 q77 q1593 hR4.ob (show vcl[2]? = some (RX3, TX3, 27) from rfl) rfl mdX3_bad rfl (by decide) (by omega) (by omega) (by omega) (Nat.le_of_ble_eq_true rfl) rfl dX3_join_59 (fun v9 σ9 hp9 => ?_) (fun _ _ _ h => False.elim h)
            obtain ⟨rfl, hR8, hf8⟩ := hp9
            replace hR8 : RecAt layM σ9 m ad (va_up I 0 (nI 0)) F L := hR8
            refine v_if_eqB (tgt := 67) O dX3_join_62 (by decide) (fun h_62 => ?_) (fun h_62 => ?_)
            · refine v_aload_n O dX3_join_67 rfl 0 rfl ?_
              refine v_callV (as := []) (rest := []) O (c_X3_remembers hG hR8 (hM.thr 0) hd.2.2.1 hd.2.1 hd.2.2.2) q1666 q1668 qs45 q77 q1669 hR8.ob (show vcl[2]? = some (RX3, TX3, 27) from rfl) rfl mdX3_remembers rfl (by decide) (by omega) (by omega) (by omega) (Nat.le_of_ble_eq_true rfl) rfl dX3_join_68 (fun v9 σ11 hp9 => ?_) (fun _ _ _ h => False.elim h)
              obtain ⟨rfl, I10, F10, hR10, hM10, hF10, hf10, hK10⟩ := hp9
              have hE10 : Enc (F10 9) (sN S) := hM10.e9
              refine v_aload_n O dX3_join_71 rfl 0 rfl ?_
              refine v_getf (C := RX3) (T := TX3) (N := 27) (v := .ref (ad 9)) O in_X3 hR10.ob rfl 9 (by decide) rfl q1501 rfl dX3_join_72 ?_
              refine v_iload_n O dX3_join_75 rfl 1 rfl ?_
              refine v_iload_n O dX3_join_76 rfl 2 rfl ?_
              refine v_iload_n O dX3_join_77 rfl 3 rfl ?_
              refine v_callS (as := [.ref (ad 9), .int (nI a), .int (nI b), .int w]) (rest := []) O (c_X3_joins hG (f := F10 9) (a := a) (b := b) (w := w) hR10.nz (hR10.ar 9 rfl) (by omega) (by omega)) q1485 q1486 q77 q1487 mdX3_joins rfl (by decide) (by omega) (by omega) (by omega) (Nat.le_of_ble_eq_true rfl) rfl dX3_join_78 (fun v9 σ9 hp9 => ?_) (fun _ _ _ h => False.elim h)
              obtain ⟨rfl, rfl⟩ := hp9
              have hR12 := hR10.sa (9) rfl (va_up (va_up (F10 9) (13 + 12 * a + b) w) (13 + 12 * b + a) w)
              have hf12 := FrL.up (L := [m]) (e' := (m, .inl (0, 157, .inl (va_up (va_up (F10 9) (13 + 12 * a + b) w) (13 + 12 * b + a) w)))) (hR10.ar 9 rfl) (by simp)
              generalize vUp σ11 (ad (9)) (m, .inl (0, 157, .inl (va_up (va_up (F10 9) (13 + 12 * a + b) w) (13 + 12 * b + a) w))) = σ12 at hR12 hf12 ⊢
              refine v_aload_n O dX3_join_81 rfl 0 rfl ?_
              refine v_callV (as := []) (rest := []) O (c_X3_changes hG hR12 ) q1488 q1490 qs31 q77 q1491 hR12.ob (show vcl[2]? = some (RX3, TX3, 27) from rfl) rfl mdX3_changes rfl (by decide) (by omega) (by omega) (by omega) (Nat.le_of_ble_eq_true rfl) rfl dX3_join_82 (fun v9 σ14 hp9 => ?_) (fun _ _ _ h => False.elim h)
              obtain ⟨rfl, hR13, hf13⟩ := hp9
              refine v_aload_n O dX3_join_85 rfl 0 rfl ?_
              refine v_callV (as := []) (rest := []) O (c_X3_lines hG hR13 (hE10.setW (a := a) (b := b) (w := w) (by omega) (by omega) (by omega)) (by first | omega | exact hn)) q1673 q1675 qs46 q77 q1676 hR13.ob (show vcl[2]? = some (RX3, TX3, 27) from rfl) rfl mdX3_lines rfl (by decide) (by omega) (by omega) (by omega) (Nat.le_of_ble_eq_true rfl) rfl dX3_join_86 (fun v9 σ9 hp9 => ?_) (fun _ _ _ h => False.elim h)
              obtain ⟨rfl, hs9⟩ := hp9
              obtain rfl := hs9.symm
              exact v_iret O rfl dX3_join_89 (by omega) (by omega) (by rw [show opJoin S (nI a) (nI b) w = (0, nI (linesM (setW (sN S) a b w)), keepS S (setW (sN S) a b w)) from by simp [opJoin, h_11, h_19, h_38, h_49, cl, nI_clamp (show a < 2 ^ 31 by omega), nI_clamp (show b < 2 ^ 31 by omega), nI_eq (show a < 2 ^ 31 by omega) (show b < 2 ^ 31 by omega)]]; exact ⟨rfl, ⟨ad, _, _, _, hR13, (hM10.nowc (hE10.setW (a := a) (b := b) (w := w) (by omega) (by omega) (by omega)))⟩, (((((hf1.trans hf4).trans hf8).trans hf10).trans hf12).trans hf13)⟩)
            · exact absurd h_62 (by decide)
          · refine v_iconst (v := nI 1) O dX3_join_52 (by decide) ?_
            refine v_goto (tgt := 57) O dX3_join_53 (by decide) ?_
            refine v_iconst (v := nI 2) O dX3_join_57 (by decide) ?_
            refine v_iconst (v := nI 1) O dX3_join_58 (by decide) ?_
            refine v_callV (as := [.int (nI 1), .int (nI 2), .int (nI 1)]) (rest := []) O (c_X3_bad hG (p := true) (w := 2) (r := 1) hR4 (by omega) (by omega) rfl) q1590 q1592 qs32 q77 q1593 hR4.ob (show vcl[2]? = some (RX3, TX3, 27) from rfl) rfl mdX3_bad rfl (by decide) (by omega) (by omega) (by omega) (Nat.le_of_ble_eq_true rfl) rfl dX3_join_59 (fun v9 σ16 hp9 => ?_) (fun _ _ _ h => False.elim h)
            obtain ⟨rfl, hR15, hf15⟩ := hp9
            replace hR15 : RecAt layM σ16 m ad (va_up (va_up I 0 (nI 0)) 0 (nI 2)) (va_up F 1 (va_up (F 1) 1 ((F 1) 1 + nI 1))) L := hR15
            refine v_if_eqB (tgt := 67) O dX3_join_62 (by decide) (fun h_62 => ?_) (fun h_62 => ?_)
            · exact absurd h_62 (by decide)
            · refine v_iconst (v := nI 0) O dX3_join_65 (by decide) ?_
              exact v_iret O rfl dX3_join_66 (by omega) (by omega) (by rw [show opJoin S (nI a) (nI b) w = (2, nI 0, refS S 1) from by simp [opJoin, h_11, h_19, h_38, h_49, cl, nI_clamp (show a < 2 ^ 31 by omega), nI_clamp (show b < 2 ^ 31 by omega), nI_eq (show a < 2 ^ 31 by omega) (show b < 2 ^ 31 by omega)]]; exact ⟨rfl, ⟨ad, _, _, _, hR15, (((hM.thr 0).rf (r := 1) (by omega)).thr 2)⟩, ((hf1.trans hf4).trans hf15)⟩)
    · refine v_iconst (v := nI 1) O dX3_join_22 (by decide) ?_
      refine v_goto (tgt := 27) O dX3_join_23 (by decide) ?_
      refine v_iconst (v := nI 1) O dX3_join_27 (by decide) ?_
      refine v_iconst (v := nI 0) O dX3_join_28 (by decide) ?_
      refine v_callV (as := [.int (nI 1), .int (nI 1), .int (nI 0)]) (rest := []) O (c_X3_bad hG (p := true) (w := 1) (r := 0) hR1 (by omega) (by omega) rfl) q1590 q1592 qs32 q77 q1593 hR1.ob (show vcl[2]? = some (RX3, TX3, 27) from rfl) rfl mdX3_bad rfl (by decide) (by omega) (by omega) (by omega) (Nat.le_of_ble_eq_true rfl) rfl dX3_join_29 (fun v9 σ18 hp9 => ?_) (fun _ _ _ h => False.elim h)
      obtain ⟨rfl, hR17, hf17⟩ := hp9
      replace hR17 : RecAt layM σ18 m ad (va_up (va_up I 0 (nI 0)) 0 (nI 1)) (va_up F 1 (va_up (F 1) 0 ((F 1) 0 + nI 1))) L := hR17
      refine v_if_neB (tgt := 65) O dX3_join_32 (by decide) (fun h_32 => ?_) (fun h_32 => ?_)
      · refine v_iconst (v := nI 0) O dX3_join_65 (by decide) ?_
        exact v_iret O rfl dX3_join_66 (by omega) (by omega) (by rw [show opJoin S (nI a) y w = (1, nI 0, refS S 0) from by simp [opJoin, h_11, h_19]]; exact ⟨rfl, ⟨ad, _, _, _, hR17, (((hM.thr 0).rf (r := 0) (by omega)).thr 1)⟩, (hf1.trans hf17)⟩)
      · exact absurd h_32 (by decide)
theorem c_X3_cut {G : vGC} (hG : vGok G) {σ : vSt} {m : Nat} {S : SysM} {t0 : Nat} (hA : ModAt σ m S t0) (hS : okS S) {x y : Int32} : Ct G yX3_cut (ws_ yX3_cut cX3_cut 3 (some .int)) 4 0 0 σ [.ref m, .int x, .int y] (fun v σ9 => v = some (.int (opCut S x y).2.1) ∧ ModAt σ9 m (opCut S x y).2.2 (opCut S x y).1 ∧ FrL [m] σ σ9) vNo := by
  refine ct_of hG (by decide) (Nat.le_of_ble_eq_true rfl) fun X hN O hnm htb => ?_
  show V G X _ 0 0 σ 0 [(0, .ref m), (1, .int x), (2, .int y)] []
  obtain ⟨ad, I, F, L, hR, hM⟩ := id hA
  have hd := okS.d S hS
  have hn1 : 1 ≤ (sN S).1 := hd.1
  have hn : (sN S).1 ≤ 12 := hd.2.1
  refine v_aload_n O dX3_cut_0 rfl 0 rfl ?_
  refine v_iconst (v := nI 0) O dX3_cut_1 (by decide) ?_
  refine r_puti (K := layM) (I' := (va_up I 0 (nI 0))) (ty0 := tyX3) O hR in_X3 tyX3_ok nmX3 (show vcl[2]? = some (RX3, TX3, 27) from rfl) 0 (by decide) rfl q1492 rfl (tyX3_ok 0 (by decide)) rfl rfl (Nat.le_of_ble_eq_true rfl) rfl dX3_cut_2 (fun σ1 hR1 hf1 => ?_)
  refine v_aload_n O dX3_cut_5 rfl 0 rfl ?_
  refine v_aload_n O dX3_cut_6 rfl 0 rfl ?_
  refine v_iload_n O dX3_cut_7 rfl 1 rfl ?_
  refine v_callV (as := [.int x]) (rest := [.ref m]) O (c_X3_isNode hG hR1 (hM.thr 0).e9 (by first | omega | exact hn) (x := x) (by omega)) q1697 q1699 qs49 q77 q1700 hR1.ob (show vcl[2]? = some (RX3, TX3, 27) from rfl) rfl mdX3_isNode rfl (by decide) (by omega) (by omega) (by omega) (Nat.le_of_ble_eq_true rfl) rfl dX3_cut_8 (fun v9 σ9 hp9 => ?_) (fun _ _ _ h => False.elim h)
  obtain ⟨rfl, hs9⟩ := hp9
  obtain rfl := hs9.symm
  refine v_if_eqB (tgt := 22) O dX3_cut_11 (by decide) (fun h_11 => ?_) (fun h_11 => ?_)
  · refine v_iconst (v := nI 1) O dX3_cut_22 (by decide) ?_
    refine v_goto (tgt := 27) O dX3_cut_23 (by decide) ?_
    refine v_iconst (v := nI 1) O dX3_cut_27 (by decide) ?_
    refine v_iconst (v := nI 0) O dX3_cut_28 (by decide) ?_
    refine v_callV (as := [.int (nI 1), .int (nI 1), .int (nI 0)]) (rest := []) O (c_X3_bad hG (p := true) (w := 1) (r := 0) hR1 (by omega) (by omega) rfl) q1590 q1592 qs32 q77 q1593 hR1.ob (show vcl[2]? = some (RX3, TX3, 27) from rfl) rfl mdX3_bad rfl (by decide) (by omega) (by omega) (by omega) (Nat.le_of_ble_eq_true rfl) rfl dX3_cut_29 (fun v9 σ3 hp9 => ?_) (fun _ _ _ h => False.elim h)
    obtain ⟨rfl, hR2, hf2⟩ := hp9
    replace hR2 : RecAt layM σ3 m ad (va_up (va_up I 0 (nI 0)) 0 (nI 1)) (va_up F 1 (va_up (F 1) 0 ((F 1) 0 + nI 1))) L := hR2
    refine v_if_neB (tgt := 78) O dX3_cut_32 (by decide) (fun h_32 => ?_) (fun h_32 => ?_)
    · refine v_iconst (v := nI 0) O dX3_cut_78 (by decide) ?_
      exact v_iret O rfl dX3_cut_79 (by omega) (by omega) (by rw [show opCut S x y = (1, nI 0, refS S 0) from by simp [opCut, h_11]]; exact ⟨rfl, ⟨ad, _, _, _, hR2, (((hM.thr 0).rf (r := 0) (by omega)).thr 1)⟩, (hf1.trans hf2)⟩)
    · exact absurd h_32 (by decide)
  · obtain ⟨a, ha, rfl⟩ := isNd_t hn1 hn h_11
    refine v_aload_n O dX3_cut_14 rfl 0 rfl ?_
    refine v_iload_n O dX3_cut_15 rfl 2 rfl ?_
    refine v_callV (as := [.int y]) (rest := [.ref m]) O (c_X3_isNode hG hR1 (hM.thr 0).e9 (by first | omega | exact hn) (x := y) (by omega)) q1697 q1699 qs49 q77 q1700 hR1.ob (show vcl[2]? = some (RX3, TX3, 27) from rfl) rfl mdX3_isNode rfl (by decide) (by omega) (by omega) (by omega) (Nat.le_of_ble_eq_true rfl) rfl dX3_cut_16 (fun v9 σ9 hp9 => ?_) (fun _ _ _ h => False.elim h)
    obtain ⟨rfl, hs9⟩ := hp9
    obtain rfl := hs9.symm
    refine v_if_neB (tgt := 26) O dX3_cut_19 (by decide) (fun h_19 => ?_) (fun h_19 => ?_)
    · obtain ⟨b, hb, rfl⟩ := isNd_t hn1 hn h_19
      refine v_iconst (v := nI 0) O dX3_cut_26 (by decide) ?_
      refine v_iconst (v := nI 1) O dX3_cut_27 (by decide) ?_
      refine v_iconst (v := nI 0) O dX3_cut_28 (by decide) ?_
      refine v_callV (as := [.int (nI 0), .int (nI 1), .int (nI 0)]) (rest := []) O (c_X3_bad hG (p := false) (w := 1) (r := 0) hR1 (by omega) (by omega) rfl) q1590 q1592 qs32 q77 q1593 hR1.ob (show vcl[2]? = some (RX3, TX3, 27) from rfl) rfl mdX3_bad rfl (by decide) (by omega) (by omega) (by omega) (Nat.le_of_ble_eq_true rfl) rfl dX3_cut_29 (fun v9 σ5 hp9 => ?_) (fun _ _ _ h => False.elim h)
      obtain ⟨rfl, hR4, hf4⟩ := hp9
      replace hR4 : RecAt layM σ5 m ad (va_up I 0 (nI 0)) F L := hR4
      refine v_if_neB (tgt := 78) O dX3_cut_32 (by decide) (fun h_32 => ?_) (fun h_32 => ?_)
      · exact absurd h_32 (by decide)
      · refine v_aload_n O dX3_cut_35 rfl 0 rfl ?_
        refine v_iload_n O dX3_cut_36 rfl 1 rfl ?_
        refine v_iload_n O dX3_cut_37 rfl 2 rfl ?_
        refine v_icmp_neN (tgt := 45) O dX3_cut_38 (by decide) (by omega) (by omega) (fun h_38 => ?_) (fun h_38 => ?_)
        · refine v_iconst (v := nI 0) O dX3_cut_45 (by decide) ?_
          refine v_iconst (v := nI 2) O dX3_cut_46 (by decide) ?_
          refine v_iconst (v := nI 1) O dX3_cut_47 (by decide) ?_
          refine v_callV (as := [.int (nI 0), .int (nI 2), .int (nI 1)]) (rest := []) O (c_X3_bad hG (p := false) (w := 2) (r := 1) hR4 (by omega) (by omega) rfl) q1590 q1592 qs32 q77 q1593 hR4.ob (show vcl[2]? = some (RX3, TX3, 27) from rfl) rfl mdX3_bad rfl (by decide) (by omega) (by omega) (by omega) (Nat.le_of_ble_eq_true rfl) rfl dX3_cut_48 (fun v9 σ7 hp9 => ?_) (fun _ _ _ h => False.elim h)
          obtain ⟨rfl, hR6, hf6⟩ := hp9
          replace hR6 : RecAt layM σ7 m ad (va_up I 0 (nI 0)) F L := hR6
          refine v_if_neB (tgt := 78) O dX3_cut_51 (by decide) (fun h_51 => ?_) (fun h_51 => ?_)
          · exact absurd h_51 (by decide)
          · refine v_aload_n O dX3_cut_54 rfl 0 rfl ?_
            refine v_aload_n O dX3_cut_55 rfl 0 rfl ?_
            refine v_iload_n O dX3_cut_56 rfl 1 rfl ?_
            refine v_iload_n O dX3_cut_57 rfl 2 rfl ?_
            refine v_callV (as := [.int (nI a), .int (nI b)]) (rest := [.ref m]) O (c_X3_weight hG hR6 (hM.thr 0).e9 (by first | omega | exact hn) (a := a) (b := b) (by omega) (by omega)) q1681 q1683 qs48 q77 q1684 hR6.ob (show vcl[2]? = some (RX3, TX3, 27) from rfl) rfl mdX3_weight rfl (by decide) (by omega) (by omega) (by omega) (Nat.le_of_ble_eq_true rfl) rfl dX3_cut_58 (fun v9 σ9 hp9 => ?_) (fun _ _ _ h => False.elim h)
            obtain ⟨rfl, hs9⟩ := hp9
            obtain rfl := hs9.symm
            refine v_iconst (v := (-1)) O dX3_cut_61 (by decide) ?_
            refine v_icmp_ne (tgt := 69) O dX3_cut_62 (by decide) (fun h_62 => ?_) (fun h_62 => ?_)
            · refine v_iconst (v := nI 0) O dX3_cut_69 (by decide) ?_
              refine v_iconst (v := nI 3) O dX3_cut_70 (by decide) ?_
              refine v_iconst (v := nI 2) O dX3_cut_71 (by decide) ?_
              refine v_callV (as := [.int (nI 0), .int (nI 3), .int (nI 2)]) (rest := []) O (c_X3_bad hG (p := false) (w := 3) (r := 2) hR6 (by omega) (by omega) rfl) q1590 q1592 qs32 q77 q1593 hR6.ob (show vcl[2]? = some (RX3, TX3, 27) from rfl) rfl mdX3_bad rfl (by decide) (by omega) (by omega) (by omega) (Nat.le_of_ble_eq_true rfl) rfl dX3_cut_72 (fun v9 σ9 hp9 => ?_) (fun _ _ _ h => False.elim h)
              obtain ⟨rfl, hR8, hf8⟩ := hp9
              replace hR8 : RecAt layM σ9 m ad (va_up I 0 (nI 0)) F L := hR8
              refine v_if_eqB (tgt := 80) O dX3_cut_75 (by decide) (fun h_75 => ?_) (fun h_75 => ?_)
              · refine v_aload_n O dX3_cut_80 rfl 0 rfl ?_
                refine v_callV (as := []) (rest := []) O (c_X3_remembers hG hR8 (hM.thr 0) hd.2.2.1 hd.2.1 hd.2.2.2) q1666 q1668 qs45 q77 q1669 hR8.ob (show vcl[2]? = some (RX3, TX3, 27) from rfl) rfl mdX3_remembers rfl (by decide) (by omega) (by omega) (by omega) (Nat.le_of_ble_eq_true rfl) rfl dX3_cut_81 (fun v9 σ11 hp9 => ?_) (fun _ _ _ h => False.elim h)
                obtain ⟨rfl, I10, F10, hR10, hM10, hF10, hf10, hK10⟩ := hp9
                have hE10 : Enc (F10 9) (sN S) := hM10.e9
                refine v_aload_n O dX3_cut_84 rfl 0 rfl ?_
                refine v_iload_n O dX3_cut_85 rfl 1 rfl ?_
                refine v_callV (as := [.int (nI a)]) (rest := []) O (c_X3_mate hG hR10 hE10 (by first | omega | exact hn) (a := a) (by omega)) q1705 q1707 qs50 q77 q1708 hR10.ob (show vcl[2]? = some (RX3, TX3, 27) from rfl) rfl mdX3_mate rfl (by decide) (by omega) (by omega) (by omega) (Nat.le_of_ble_eq_true rfl) rfl dX3_cut_86 (fun v9 σ9 hp9 => ?_) (fun _ _ _ h => False.elim h)
                obtain ⟨rfl, hs9⟩ := hp9
                obtain rfl := hs9.symm
                refine v_iload_n O dX3_cut_89 rfl 2 rfl ?_
                refine v_icmp_ne (tgt := 98) O dX3_cut_90 (by decide) (fun h_90 => ?_) (fun h_90 => ?_)
                · refine v_aload_n O dX3_cut_98 rfl 0 rfl ?_
                  refine v_getf (C := RX3) (T := TX3) (N := 27) (v := .ref (ad 9)) O in_X3 hR10.ob rfl 9 (by decide) rfl q1501 rfl dX3_cut_99 ?_
                  refine v_iload_n O dX3_cut_102 rfl 1 rfl ?_
                  refine v_iload_n O dX3_cut_103 rfl 2 rfl ?_
                  refine v_iconst (v := (-1)) O dX3_cut_104 (by decide) ?_
                  refine v_callS (as := [.ref (ad 9), .int (nI a), .int (nI b), .int (-1)]) (rest := []) O (c_X3_joins hG (f := F10 9) (a := a) (b := b) (w := (-1)) hR10.nz (hR10.ar 9 rfl) (by omega) (by omega)) q1485 q1486 q77 q1487 mdX3_joins rfl (by decide) (by omega) (by omega) (by omega) (Nat.le_of_ble_eq_true rfl) rfl dX3_cut_105 (fun v9 σ9 hp9 => ?_) (fun _ _ _ h => False.elim h)
                  obtain ⟨rfl, rfl⟩ := hp9
                  have hR12 := hR10.sa (9) rfl (va_up (va_up (F10 9) (13 + 12 * a + b) (-1)) (13 + 12 * b + a) (-1))
                  have hf12 := FrL.up (L := [m]) (e' := (m, .inl (0, 157, .inl (va_up (va_up (F10 9) (13 + 12 * a + b) (-1)) (13 + 12 * b + a) (-1))))) (hR10.ar 9 rfl) (by simp)
                  generalize vUp σ11 (ad (9)) (m, .inl (0, 157, .inl (va_up (va_up (F10 9) (13 + 12 * a + b) (-1)) (13 + 12 * b + a) (-1)))) = σ12 at hR12 hf12 ⊢
                  refine v_aload_n O dX3_cut_108 rfl 0 rfl ?_
                  refine v_callV (as := []) (rest := []) O (c_X3_changes hG hR12 ) q1488 q1490 qs31 q77 q1491 hR12.ob (show vcl[2]? = some (RX3, TX3, 27) from rfl) rfl mdX3_changes rfl (by decide) (by omega) (by omega) (by omega) (Nat.le_of_ble_eq_true rfl) rfl dX3_cut_109 (fun v9 σ14 hp9 => ?_) (fun _ _ _ h => False.elim h)
                  obtain ⟨rfl, hR13, hf13⟩ := hp9
                  refine v_aload_n O dX3_cut_112 rfl 0 rfl ?_
                  refine v_callV (as := []) (rest := []) O (c_X3_lines hG hR13 (hE10.setW (a := a) (b := b) (w := (-1)) (by omega) (by omega) (by omega)) (by first | omega | exact hn)) q1673 q1675 qs46 q77 q1676 hR13.ob (show vcl[2]? = some (RX3, TX3, 27) from rfl) rfl mdX3_lines rfl (by decide) (by omega) (by omega) (by omega) (Nat.le_of_ble_eq_true rfl) rfl dX3_cut_113 (fun v9 σ9 hp9 => ?_) (fun _ _ _ h => False.elim h)
                  obtain ⟨rfl, hs9⟩ := hp9
                  obtain rfl := hs9.symm
                  exact v_iret O rfl dX3_cut_116 (by omega) (by omega) (by rw [show opCut S (nI a) (nI b) = (0, nI (linesM (setW (sN S) a b (-1))), keepS S (setW (sN S) a b (-1))) from by simp [opCut, h_11, h_19, h_38, h_62, cl, nI_clamp (show a < 2 ^ 31 by omega), nI_clamp (show b < 2 ^ 31 by omega), nI_eq (show a < 2 ^ 31 by omega) (show b < 2 ^ 31 by omega), cutN, h_90]]; exact ⟨rfl, ⟨ad, _, _, _, hR13, (hM10.nowc (hE10.setW (a := a) (b := b) (w := (-1)) (by omega) (by omega) (by omega)))⟩, ((((((hf1.trans hf4).trans hf6).trans hf8).trans hf10).trans hf12).trans hf13)⟩)
                · have h90 := h_90
                  refine v_aload_n O dX3_cut_93 rfl 0 rfl ?_
                  refine v_iload_n O dX3_cut_94 rfl 1 rfl ?_
                  refine v_callV (as := [.int (nI a)]) (rest := []) O (c_X3_parts hG hR10 hE10 (by first | omega | exact hn) (a := a) (b := b) (by omega) (by omega) h_90) q1709 q1711 qs51 q77 q1712 hR10.ob (show vcl[2]? = some (RX3, TX3, 27) from rfl) rfl mdX3_parts rfl (by decide) (by omega) (by omega) (by omega) (Nat.le_of_ble_eq_true rfl) rfl dX3_cut_95 (fun v9 σ16 hp9 => ?_) (fun _ _ _ h => False.elim h)
                  obtain ⟨rfl, hR15, hf15⟩ := hp9
                  refine v_aload_n O dX3_cut_98 rfl 0 rfl ?_
                  refine v_getf (C := RX3) (T := TX3) (N := 27) (v := .ref (ad 9)) O in_X3 hR15.ob rfl 9 (by decide) rfl q1501 rfl dX3_cut_99 ?_
                  refine v_iload_n O dX3_cut_102 rfl 1 rfl ?_
                  refine v_iload_n O dX3_cut_103 rfl 2 rfl ?_
                  refine v_iconst (v := (-1)) O dX3_cut_104 (by decide) ?_
                  refine v_callS (as := [.ref (ad 9), .int (nI a), .int (nI b), .int (-1)]) (rest := []) O (c_X3_joins hG (f := (va_up (va_up (F10 9) (1 + a) (-1)) (1 + b) (-1))) (a := a) (b := b) (w := (-1)) hR15.nz (hR15.ar 9 rfl) (by omega) (by omega)) q1485 q1486 q77 q1487 mdX3_joins rfl (by decide) (by omega) (by omega) (by omega) (Nat.le_of_ble_eq_true rfl) rfl dX3_cut_105 (fun v9 σ9 hp9 => ?_) (fun _ _ _ h => False.elim h)
                  obtain ⟨rfl, rfl⟩ := hp9
                  have hR17 := hR15.sa (9) rfl (va_up (va_up ((va_up (va_up (F10 9) (1 + a) (-1)) (1 + b) (-1))) (13 + 12 * a + b) (-1)) (13 + 12 * b + a) (-1))
                  have hf17 := FrL.up (L := [m]) (e' := (m, .inl (0, 157, .inl (va_up (va_up ((va_up (va_up (F10 9) (1 + a) (-1)) (1 + b) (-1))) (13 + 12 * a + b) (-1)) (13 + 12 * b + a) (-1))))) (hR15.ar 9 rfl) (by simp)
                  generalize vUp σ16 (ad (9)) (m, .inl (0, 157, .inl (va_up (va_up ((va_up (va_up (F10 9) (1 + a) (-1)) (1 + b) (-1))) (13 + 12 * a + b) (-1)) (13 + 12 * b + a) (-1)))) = σ17 at hR17 hf17 ⊢
                  refine v_aload_n O dX3_cut_108 rfl 0 rfl ?_
                  refine v_callV (as := []) (rest := []) O (c_X3_changes hG hR17 ) q1488 q1490 qs31 q77 q1491 hR17.ob (show vcl[2]? = some (RX3, TX3, 27) from rfl) rfl mdX3_changes rfl (by decide) (by omega) (by omega) (by omega) (Nat.le_of_ble_eq_true rfl) rfl dX3_cut_109 (fun v9 σ19 hp9 => ?_) (fun _ _ _ h => False.elim h)
                  obtain ⟨rfl, hR18, hf18⟩ := hp9
                  refine v_aload_n O dX3_cut_112 rfl 0 rfl ?_
                  refine v_callV (as := []) (rest := []) O (c_X3_lines hG hR18 ((hE10.mates (x := -1) (y := -1) (by omega) (a := a) (b := b) (by omega) (by omega)).setW (a := a) (b := b) (w := (-1)) (by omega) (by omega) (by omega)) (by first | omega | exact hn)) q1673 q1675 qs46 q77 q1676 hR18.ob (show vcl[2]? = some (RX3, TX3, 27) from rfl) rfl mdX3_lines rfl (by decide) (by omega) (by omega) (by omega) (Nat.le_of_ble_eq_true rfl) rfl dX3_cut_113 (fun v9 σ9 hp9 => ?_) (fun _ _ _ h => False.elim h)
                  obtain ⟨rfl, hs9⟩ := hp9
                  obtain rfl := hs9.symm
                  exact v_iret O rfl dX3_cut_116 (by omega) (by omega) (by rw [show opCut S (nI a) (nI b) = (0, nI (linesM (setW (unM (sN S) a b) a b (-1))), keepS S (setW (unM (sN S) a b) a b (-1))) from by simp [opCut, h_11, h_19, h_38, h_62, cl, nI_clamp (show a < 2 ^ 31 by omega), nI_clamp (show b < 2 ^ 31 by omega), nI_eq (show a < 2 ^ 31 by omega) (show b < 2 ^ 31 by omega), cutN, h_90]]; exact ⟨rfl, ⟨ad, _, _, _, hR18, ((hM10.nowm (hE10.mates (x := -1) (y := -1) (by omega) (a := a) (b := b) (by omega) (by omega)) rfl rfl).nowc ((hE10.mates (x := -1) (y := -1) (by omega) (a := a) (b := b) (by omega) (by omega)).setW (a := a) (b := b) (w := (-1)) (by omega) (by omega) (by omega)))⟩, (((((((hf1.trans hf4).trans hf6).trans hf8).trans hf10).trans hf15).trans hf17).trans hf18)⟩)
              · exact absurd h_75 (by decide)
            · refine v_iconst (v := nI 1) O dX3_cut_65 (by decide) ?_
              refine v_goto (tgt := 70) O dX3_cut_66 (by decide) ?_
              refine v_iconst (v := nI 3) O dX3_cut_70 (by decide) ?_
              refine v_iconst (v := nI 2) O dX3_cut_71 (by decide) ?_
              refine v_callV (as := [.int (nI 1), .int (nI 3), .int (nI 2)]) (rest := []) O (c_X3_bad hG (p := true) (w := 3) (r := 2) hR6 (by omega) (by omega) rfl) q1590 q1592 qs32 q77 q1593 hR6.ob (show vcl[2]? = some (RX3, TX3, 27) from rfl) rfl mdX3_bad rfl (by decide) (by omega) (by omega) (by omega) (Nat.le_of_ble_eq_true rfl) rfl dX3_cut_72 (fun v9 σ21 hp9 => ?_) (fun _ _ _ h => False.elim h)
              obtain ⟨rfl, hR20, hf20⟩ := hp9
              replace hR20 : RecAt layM σ21 m ad (va_up (va_up I 0 (nI 0)) 0 (nI 3)) (va_up F 1 (va_up (F 1) 2 ((F 1) 2 + nI 1))) L := hR20
              refine v_if_eqB (tgt := 80) O dX3_cut_75 (by decide) (fun h_75 => ?_) (fun h_75 => ?_)
              · exact absurd h_75 (by decide)
              · refine v_iconst (v := nI 0) O dX3_cut_78 (by decide) ?_
                exact v_iret O rfl dX3_cut_79 (by omega) (by omega) (by rw [show opCut S (nI a) (nI b) = (3, nI 0, refS S 2) from by simp [opCut, h_11, h_19, h_38, h_62, cl, nI_clamp (show a < 2 ^ 31 by omega), nI_clamp (show b < 2 ^ 31 by omega), nI_eq (show a < 2 ^ 31 by omega) (show b < 2 ^ 31 by omega)]]; exact ⟨rfl, ⟨ad, _, _, _, hR20, (((hM.thr 0).rf (r := 2) (by omega)).thr 3)⟩, (((hf1.trans hf4).trans hf6).trans hf20)⟩)
        · refine v_iconst (v := nI 1) O dX3_cut_41 (by decide) ?_
          refine v_goto (tgt := 46) O dX3_cut_42 (by decide) ?_
          refine v_iconst (v := nI 2) O dX3_cut_46 (by decide) ?_
          refine v_iconst (v := nI 1) O dX3_cut_47 (by decide) ?_
          refine v_callV (as := [.int (nI 1), .int (nI 2), .int (nI 1)]) (rest := []) O (c_X3_bad hG (p := true) (w := 2) (r := 1) hR4 (by omega) (by omega) rfl) q1590 q1592 qs32 q77 q1593 hR4.ob (show vcl[2]? = some (RX3, TX3, 27) from rfl) rfl mdX3_bad rfl (by decide) (by omega) (by omega) (by omega) (Nat.le_of_ble_eq_true rfl) rfl dX3_cut_48 (fun v9 σ23 hp9 => ?_) (fun _ _ _ h => False.elim h)
          obtain ⟨rfl, hR22, hf22⟩ := hp9
          replace hR22 : RecAt layM σ23 m ad (va_up (va_up I 0 (nI 0)) 0 (nI 2)) (va_up F 1 (va_up (F 1) 1 ((F 1) 1 + nI 1))) L := hR22
          refine v_if_neB (tgt := 78) O dX3_cut_51 (by decide) (fun h_51 => ?_) (fun h_51 => ?_)
          · refine v_iconst (v := nI 0) O dX3_cut_78 (by decide) ?_
            exact v_iret O rfl dX3_cut_79 (by omega) (by omega) (by rw [show opCut S (nI a) (nI b) = (2, nI 0, refS S 1) from by simp [opCut, h_11, h_19, h_38, cl, nI_clamp (show a < 2 ^ 31 by omega), nI_clamp (show b < 2 ^ 31 by omega), nI_eq (show a < 2 ^ 31 by omega) (show b < 2 ^ 31 by omega)]]; exact ⟨rfl, ⟨ad, _, _, _, hR22, (((hM.thr 0).rf (r := 1) (by omega)).thr 2)⟩, ((hf1.trans hf4).trans hf22)⟩)
          · exact absurd h_51 (by decide)
    · refine v_iconst (v := nI 1) O dX3_cut_22 (by decide) ?_
      refine v_goto (tgt := 27) O dX3_cut_23 (by decide) ?_
      refine v_iconst (v := nI 1) O dX3_cut_27 (by decide) ?_
      refine v_iconst (v := nI 0) O dX3_cut_28 (by decide) ?_
      refine v_callV (as := [.int (nI 1), .int (nI 1), .int (nI 0)]) (rest := []) O (c_X3_bad hG (p := true) (w := 1) (r := 0) hR1 (by omega) (by omega) rfl) q1590 q1592 qs32 q77 q1593 hR1.ob (show vcl[2]? = some (RX3, TX3, 27) from rfl) rfl mdX3_bad rfl (by decide) (by omega) (by omega) (by omega) (Nat.le_of_ble_eq_true rfl) rfl dX3_cut_29 (fun v9 σ25 hp9 => ?_) (fun _ _ _ h => False.elim h)
      obtain ⟨rfl, hR24, hf24⟩ := hp9
      replace hR24 : RecAt layM σ25 m ad (va_up (va_up I 0 (nI 0)) 0 (nI 1)) (va_up F 1 (va_up (F 1) 0 ((F 1) 0 + nI 1))) L := hR24
      refine v_if_neB (tgt := 78) O dX3_cut_32 (by decide) (fun h_32 => ?_) (fun h_32 => ?_)
      · refine v_iconst (v := nI 0) O dX3_cut_78 (by decide) ?_
        exact v_iret O rfl dX3_cut_79 (by omega) (by omega) (by rw [show opCut S (nI a) y = (1, nI 0, refS S 0) from by simp [opCut, h_11, h_19]]; exact ⟨rfl, ⟨ad, _, _, _, hR24, (((hM.thr 0).rf (r := 0) (by omega)).thr 1)⟩, (hf1.trans hf24)⟩)
      · exact absurd h_32 (by decide)
theorem a_X3_thrown {G : vGC} (hG : vGok G) {σ : vSt} {m : Nat} {S : SysM} {t0 : Nat} (hA : ModAt σ m S t0) (hS : okS S) : Ct G yX3_thrown (ws_ yX3_thrown cX3_thrown 1 (some .int)) 1 0 0 σ [.ref m] (fun v σ9 => v = some (.int (nI t0)) ∧ σ9 = σ) vNo := by
  refine ct_of hG (by decide) (Nat.le_of_ble_eq_true rfl) fun X hN O hnm htb => ?_
  show V G X _ 0 0 σ 0 [(0, .ref m)] []
  obtain ⟨ad, I, F, L, hR, hM⟩ := id hA
  have hd := okS.d S hS
  have hn1 : 1 ≤ (sN S).1 := hd.1
  have hn : (sN S).1 ≤ 12 := hd.2.1
  refine v_aload_n O dX3_thrown_0 rfl 0 rfl ?_
  refine v_getf (C := RX3) (T := TX3) (N := 27) (v := .int (nI t0)) O in_X3 hR.ob rfl 0 (by decide) rfl q1492 (congrArg (fun z => some (Value.int z)) hM.1) dX3_thrown_1 ?_
  exact v_iret O rfl dX3_thrown_4 (by omega) (by omega) (⟨rfl, rfl⟩)
theorem a_X3_fault {G : vGC} (hG : vGok G) {σ : vSt} {m : Nat} {S : SysM} {t0 : Nat} (hA : ModAt σ m S t0) (hS : okS S) : Ct G yX3_fault (ws_ yX3_fault cX3_fault 1 (some .int)) 1 0 0 σ [.ref m] (fun v σ9 => v = some (.int (sPl S)) ∧ ModAt σ9 m S 0 ∧ FrL [m] σ σ9) vNo := by
  refine ct_of hG (by decide) (Nat.le_of_ble_eq_true rfl) fun X hN O hnm htb => ?_
  show V G X _ 0 0 σ 0 [(0, .ref m)] []
  obtain ⟨ad, I, F, L, hR, hM⟩ := id hA
  have hd := okS.d S hS
  have hn1 : 1 ≤ (sN S).1 := hd.1
  have hn : (sN S).1 ≤ 12 := hd.2.1
  refine v_aload_n O dX3_fault_0 rfl 0 rfl ?_
  refine v_iconst (v := nI 0) O dX3_fault_1 (by decide) ?_
  refine r_puti (K := layM) (I' := (va_up I 0 (nI 0))) (ty0 := tyX3) O hR in_X3 tyX3_ok nmX3 (show vcl[2]? = some (RX3, TX3, 27) from rfl) 0 (by decide) rfl q1492 rfl (tyX3_ok 0 (by decide)) rfl rfl (Nat.le_of_ble_eq_true rfl) rfl dX3_fault_2 (fun σ1 hR1 hf1 => ?_)
  refine v_aload_n O dX3_fault_5 rfl 0 rfl ?_
  refine v_getf (C := RX3) (T := TX3) (N := 27) (v := .int (sPl S)) O in_X3 hR1.ob rfl 5 (by decide) rfl q1497 (congrArg (fun z => some (Value.int z)) hM.2.2.1) dX3_fault_6 ?_
  exact v_iret O rfl dX3_fault_9 (by omega) (by omega) (⟨rfl, ⟨ad, _, _, _, hR1, (hM.thr 0)⟩, hf1⟩)
