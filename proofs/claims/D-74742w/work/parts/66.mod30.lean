theorem sg_bet {c : Nat} (hc : c ≤ 256) : (nI 97 ≤ sgI c ∧ sgI c ≤ nI 122) ↔ 97 ≤ c ∧ c ≤ 122 := by
  unfold sgI
  by_cases e : c = 256
  · rw [if_pos e, Int32.le_iff_toInt_le, Int32.le_iff_toInt_le, m1_int, nI_toInt (by omega), nI_toInt (by omega)]
    omega
  · rw [if_neg e, Int32.le_iff_toInt_le, Int32.le_iff_toInt_le, nI_toInt (by omega), nI_toInt (by omega), nI_toInt (by omega)]
    omega
theorem c_X3_takes_k {G : vGC} (hG : vGok G) {σ : vSt} {m : Nat} {ad : Nat → Nat} {I : Nat → Int32} {F : Nat → Nat → Int32} {L : Nat → Nat → Int64} (hR : RecAt layM σ m ad I F L) {b : Nat → Nat} {n : Nat} (hT : TxIs I F b n) (hCm : vCom G) (hF : vFmt G) {sa : Nat} {w : List Nat} (hS : StrIs σ sa w) (hw : w.length ≤ 100) (hwc : ∀ i, i < w.length → w.getD i 0 < 256) (hw1 : 1 ≤ w.length) {p : Nat} (hs : RdSt I n (.ok p)) : Ct G yX3_takes (ws_ yX3_takes cX3_takes 3 (some .boolean)) 5 0 0 σ [.ref m, .ref sa] (fun v σ9 => v = some (.int (bI (takB b n w (skp b n p)))) ∧ ∃ I' : Nat → Int32, RecAt layM σ9 m ad I' F L ∧ FrL [m] σ σ9 ∧ RdSt I' n (.ok (if takB b n w (skp b n p) then skp b n p + w.length else skp b n p)) ∧ ∀ j, j ≠ 4 → j ≠ 6 → j ≠ 7 → I' j = I j) vNo := by
  refine ct_of hG (by decide) (Nat.le_of_ble_eq_true rfl) fun X hN O hnm htb => ?_
  show V G X _ 0 0 σ 0 [(0, .ref m), (1, .ref sa)] []
  obtain ⟨hT3, hTn, hTb, hTl⟩ := id hT
  obtain ⟨h4, h6, h7, hpn⟩ := hs
  have hsk := skp_ok (b := b) hpn
  refine v_aload_n O dX3_takes_0 rfl 0 rfl ?_
  refine v_callV (as := []) (rest := []) O (c_X3_fine hG hR ) q1599 q1601 qs34 q77 q1602 hR.ob (show vcl[2]? = some (RX3, TX3, 27) from rfl) rfl mdX3_fine rfl (by decide) (by omega) (by omega) (by omega) (Nat.le_of_ble_eq_true rfl) rfl dX3_takes_1 (fun v9 σ9 hp9 => ?_) (fun _ _ _ h => False.elim h)
  obtain ⟨rfl, hs9⟩ := hp9
  obtain rfl := hs9.symm
  refine v_if_neB (tgt := 9) O dX3_takes_4 (by decide) (fun h_4 => ?_) (fun h_4 => ?_)
  · refine v_aload_n O dX3_takes_9 rfl 0 rfl ?_
    refine v_callV (as := []) (rest := []) O (c_X3_here hG hR hT (p := p) h4 (by omega)) q1603 q1605 qs35 q77 q1606 hR.ob (show vcl[2]? = some (RX3, TX3, 27) from rfl) rfl mdX3_here rfl (by decide) (by omega) (by omega) (by omega) (Nat.le_of_ble_eq_true rfl) rfl dX3_takes_10 (fun v9 σ2 hp9 => ?_) (fun _ _ _ h => False.elim h)
    obtain ⟨rfl, I1, hR1, hf1, h41, hI1⟩ := hp9
    have hT1 : TxIs I1 F b n := TxIs.of hT (hI1 3 (by omega)) rfl
    refine v_pop O dX3_takes_13 rfl ?_
    refine v_iconst (v := nI 0) O dX3_takes_14 (by decide) ?_
    refine v_istore_n (lv' := [(2, .int (nI 0)), (0, .ref m), (1, .ref sa)]) O hN dX3_takes_15 rfl (by decide) rfl ?_
    refine v_lv [1, 2, 0] rfl ?_
    have hSs := hS.fr hf1 (by simpa using Ne.symm hR.nz)
    refine l_X3_takes hG O hN (by omega) (by omega) hR1 hT1 hCm hF hSs hw hwc (q := skp b n p) h41 (by omega) (fun hall => ?_) (fun i hi0 hne => ?_) (w.length + 1) 0 (by omega) (by omega) (fun j hj => absurd hj (by omega))
    · have hend : skp b n p + w.length ≤ n := by
        have h9 := hall (w.length - 1) (by omega)
        have h8 := hwc (w.length - 1) (by omega)
        have := byt_in (b := b) (n := n) (k := skp b n p + (w.length - 1)) (by omega)
        omega
      obtain ⟨ba, hh, hz, hSo, har⟩ := id hSs
      refine v_iload_n O dX3_takes_48 rfl 2 rfl ?_
      refine v_aload_n O dX3_takes_49 rfl 1 rfl ?_
      refine v_callV (as := []) (rest := [.int (nI w.length)]) O (c_J11_length hG hCm hSs hw) q1611 q849 q850 q87 q851 hSo (show vcl[13]? = some (RJ11, TJ11, 4) from rfl) rfl mdJ11_length rfl (by decide) (by omega) (by omega) (by omega) (Nat.le_of_ble_eq_true rfl) rfl dX3_takes_50 (fun v9 σ9 hp9 => ?_) (fun _ _ _ h => False.elim h)
      obtain ⟨rfl, hs9⟩ := hp9
      obtain rfl := hs9.symm
      refine v_icmp_ltN (tgt := 76) O dX3_takes_53 (by decide) (by omega) (by omega) (fun h_53 => ?_) (fun h_53 => ?_)
      · exact absurd h_53 (by omega)
      · refine v_aload_n O dX3_takes_56 rfl 0 rfl ?_
        refine v_aload_n O dX3_takes_57 rfl 0 rfl ?_
        refine v_getf (C := RX3) (T := TX3) (N := 27) (v := .int (nI (skp b n p))) O in_X3 hR1.ob rfl 4 (by decide) rfl q1496 (congrArg (fun z => some (Value.int z)) h41) dX3_takes_58 ?_
        refine v_iload_n O dX3_takes_61 rfl 2 rfl ?_
        refine v_iadd (z := nI (skp b n p + w.length)) O dX3_takes_62 (nI_add (skp b n p) w.length) ?_
        refine v_callV (as := [.int (nI (skp b n p + w.length))]) (rest := []) O (c_X3_byteAt hG hR1 hT1 (k := skp b n p + w.length) (by omega)) q1607 q1609 qs36 q77 q1610 hR1.ob (show vcl[2]? = some (RX3, TX3, 27) from rfl) rfl mdX3_byteAt rfl (by decide) (by omega) (by omega) (by omega) (Nat.le_of_ble_eq_true rfl) rfl dX3_takes_63 (fun v9 σ9 hp9 => ?_) (fun _ _ _ h => False.elim h)
        obtain ⟨rfl, hs9⟩ := hp9
        obtain rfl := hs9.symm
        refine v_bipush (v := nI 97) O dX3_takes_66 (by decide) ?_
        refine v_bipush (v := nI 122) O dX3_takes_68 (by decide) ?_
        refine v_callS (as := [.int (sgI (byt b n (skp b n p + w.length))), .int (nI 97), .int (nI 122)]) (rest := []) O (c_X3_in hG (x := (sgI (byt b n (skp b n p + w.length)))) (lo := nI 97) (hi := nI 122)) q1587 q1588 q77 q1589 mdX3_in rfl (by decide) (by omega) (by omega) (by omega) (Nat.le_of_ble_eq_true rfl) rfl dX3_takes_70 (fun v9 σ9 hp9 => ?_) (fun _ _ _ h => False.elim h)
        obtain ⟨rfl, hs9⟩ := hp9
        obtain rfl := hs9.symm
        refine v_if_eqB (tgt := 78) O dX3_takes_73 (by decide) (fun h_73 => ?_) (fun h_73 => ?_)
        · have hlt := mt (sg_bet (byt_lt hTl hTn)).mpr (of_decide_eq_false h_73)
          have htk : takB b n w (skp b n p) = true := by unfold takB; rw [takB_in hall, decide_eq_false hlt]; rfl
          refine v_aload_n O dX3_takes_78 rfl 0 rfl ?_
          refine v_dup O dX3_takes_79 rfl ?_
          refine v_getf (C := RX3) (T := TX3) (N := 27) (v := .int (nI (skp b n p))) O in_X3 hR1.ob rfl 4 (by decide) rfl q1496 (congrArg (fun z => some (Value.int z)) h41) dX3_takes_80 ?_
          refine v_iload_n O dX3_takes_83 rfl 2 rfl ?_
          refine v_iadd (z := nI (skp b n p + w.length)) O dX3_takes_84 (nI_add (skp b n p) w.length) ?_
          refine r_puti (K := layM) (I' := (va_up I1 4 (nI (skp b n p + w.length)))) (ty0 := tyX3) O hR1 in_X3 tyX3_ok nmX3 (show vcl[2]? = some (RX3, TX3, 27) from rfl) 4 (by decide) rfl q1496 rfl (tyX3_ok 4 (by decide)) rfl rfl (Nat.le_of_ble_eq_true rfl) rfl dX3_takes_85 (fun σ61 hR61 hf61 => ?_)
          refine v_iconst (v := nI 1) O dX3_takes_88 (by decide) ?_
          exact v_zret (ty := .boolean) O rfl rfl dX3_takes_89 (by omega) (by omega) (⟨by rw [htk]; rfl, _, hR61, (hf1.trans hf61), by rw [htk]; exact ⟨rfl, by simp [va_up]; exact ((hI1 6 (by omega)).trans h6), by simp [va_up]; exact ((hI1 7 (by omega)).trans h7), hend⟩, fun j h1 _ _ => by rw [← hI1 j h1]; simp [va_up, h1]⟩)
        · have hlt := (sg_bet (byt_lt hTl hTn)).mp (of_decide_eq_true h_73)
          have htk : takB b n w (skp b n p) = false := by unfold takB; rw [takB_in hall, decide_eq_true hlt]; rfl
          refine v_iconst (v := nI 0) O dX3_takes_76 (by decide) ?_
          exact v_zret (ty := .boolean) O rfl rfl dX3_takes_77 (by omega) (by omega) (⟨by rw [htk]; rfl, _, hR1, hf1, by rw [htk]; exact ⟨h41, ((hI1 6 (by omega)).trans h6), ((hI1 7 (by omega)).trans h7), by simp; omega⟩, fun j h1 _ _ => hI1 j h1⟩)
    · obtain ⟨ba, hh, hz, hSo, har⟩ := id hSs
      refine v_iload_n O dX3_takes_48 rfl 2 rfl ?_
      refine v_aload_n O dX3_takes_49 rfl 1 rfl ?_
      refine v_callV (as := []) (rest := [.int (nI i)]) O (c_J11_length hG hCm hSs hw) q1611 q849 q850 q87 q851 hSo (show vcl[13]? = some (RJ11, TJ11, 4) from rfl) rfl mdJ11_length rfl (by decide) (by omega) (by omega) (by omega) (Nat.le_of_ble_eq_true rfl) rfl dX3_takes_50 (fun v9 σ9 hp9 => ?_) (fun _ _ _ h => False.elim h)
      obtain ⟨rfl, hs9⟩ := hp9
      obtain rfl := hs9.symm
      refine v_icmp_ltN (tgt := 76) O dX3_takes_53 (by decide) (by omega) (by omega) (fun h_53 => ?_) (fun h_53 => ?_)
      · refine v_iconst (v := nI 0) O dX3_takes_76 (by decide) ?_
        exact v_zret (ty := .boolean) O rfl rfl dX3_takes_77 (by omega) (by omega) (⟨by rw [takB_no hi0 hne]; rfl, _, hR1, hf1, by rw [takB_no hi0 hne]; exact ⟨h41, ((hI1 6 (by omega)).trans h6), ((hI1 7 (by omega)).trans h7), by simp; omega⟩, fun j h1 _ _ => hI1 j h1⟩)
      · exact absurd h_53 (by omega)
  · exact absurd h_4 (by rw [show I 6 = 0 from h6]; decide)
