theorem TxIs.of {I I' : Nat → Int32} {F F' : Nat → Nat → Int32} {b : Nat → Nat} {n : Nat} (h : TxIs I F b n) (hi : I' 3 = I 3) (hf : F' 8 = F 8) : TxIs I' F' b n := ⟨hi.trans h.1, h.2.1, by rw [hf]; exact h.2.2.1, h.2.2.2⟩
theorem mdX3_fine : vMd yX3_fine 0 := ⟨by decide +kernel, by decide +kernel, by decide +kernel⟩
theorem mdX3_here : vMd yX3_here 0 := ⟨by decide +kernel, by decide +kernel, by decide +kernel⟩
theorem mdX3_wrong : vMd yX3_wrong 2 := ⟨by decide +kernel, by decide +kernel, by decide +kernel⟩
theorem c_X3_must_k {G : vGC} (hG : vGok G) {σ : vSt} {m : Nat} {ad : Nat → Nat} {I : Nat → Int32} {F : Nat → Nat → Int32} {L : Nat → Nat → Int64} (hR : RecAt layM σ m ad I F L) {b : Nat → Nat} {n : Nat} (hT : TxIs I F b n) {c p : Nat} (hc : c < 256) (hs : RdSt I n (.ok p)) : Ct G yX3_must (ws_ yX3_must cX3_must 2 none) 3 0 0 σ [.ref m, .int (nI c)] (fun v σ9 => v = none ∧ ∃ I' : Nat → Int32, RecAt layM σ9 m ad I' F L ∧ FrL [m] σ σ9 ∧ RdSt I' n (mustR b n c p) ∧ ∀ j, j ≠ 4 → j ≠ 6 → j ≠ 7 → I' j = I j) vNo := by
  refine ct_of hG (by decide) (Nat.le_of_ble_eq_true rfl) fun X hN O hnm htb => ?_
  show V G X _ 0 0 σ 0 [(0, .ref m), (1, .int (nI c))] []
  obtain ⟨hT3, hTn, hTb, hTl⟩ := id hT
  obtain ⟨h4, h6, h7, hpn⟩ := hs
  have hsk := skp_ok (b := b) hpn
  refine v_aload_n O dX3_must_0 rfl 0 rfl ?_
  refine v_callV (as := []) (rest := []) O (c_X3_fine hG hR ) q1599 q1601 qs34 q77 q1602 hR.ob (show vcl[2]? = some (RX3, TX3, 27) from rfl) rfl mdX3_fine rfl (by decide) (by omega) (by omega) (by omega) (Nat.le_of_ble_eq_true rfl) rfl dX3_must_1 (fun v9 σ9 hp9 => ?_) (fun _ _ _ h => False.elim h)
  obtain ⟨rfl, hs9⟩ := hp9
  obtain rfl := hs9.symm
  refine v_if_neB (tgt := 8) O dX3_must_4 (by decide) (fun h_4 => ?_) (fun h_4 => ?_)
  · refine v_aload_n O dX3_must_8 rfl 0 rfl ?_
    refine v_callV (as := []) (rest := []) O (c_X3_here hG hR hT (p := p) h4 (by omega)) q1603 q1605 qs35 q77 q1606 hR.ob (show vcl[2]? = some (RX3, TX3, 27) from rfl) rfl mdX3_here rfl (by decide) (by omega) (by omega) (by omega) (Nat.le_of_ble_eq_true rfl) rfl dX3_must_9 (fun v9 σ2 hp9 => ?_) (fun _ _ _ h => False.elim h)
    obtain ⟨rfl, I1, hR1, hf1, h41, hI1⟩ := hp9
    have hT1 : TxIs I1 F b n := TxIs.of hT (hI1 3 (by omega)) rfl
    refine v_iload_n O dX3_must_12 rfl 1 rfl ?_
    refine v_icmp_ne (tgt := 29) O dX3_must_13 (by decide) (fun h_13 => ?_) (fun h_13 => ?_)
    · refine v_aload_n O dX3_must_29 rfl 0 rfl ?_
      refine v_iconst (v := nI 1) O dX3_must_30 (by decide) ?_
      refine v_aload_n O dX3_must_31 rfl 0 rfl ?_
      refine v_getf (C := RX3) (T := TX3) (N := 27) (v := .int (nI (skp b n p))) O in_X3 hR1.ob rfl 4 (by decide) rfl q1496 (congrArg (fun z => some (Value.int z)) h41) dX3_must_32 ?_
      refine v_callV (as := [.int (nI 1), .int (nI (skp b n p))]) (rest := []) O (c_X3_wrong hG hR1 (x := nI 1) (y := nI (skp b n p))) q1623 q1625 qs37 q77 q1626 hR1.ob (show vcl[2]? = some (RX3, TX3, 27) from rfl) rfl mdX3_wrong rfl (by decide) (by omega) (by omega) (by omega) (Nat.le_of_ble_eq_true rfl) rfl dX3_must_35 (fun v9 σ4 hp9 => ?_) (fun _ _ _ h => False.elim h)
      obtain ⟨rfl, hR3, hf3⟩ := hp9
      rw [if_pos (show I1 6 = 0 from ((hI1 6 (by omega)).trans h6))] at hR3
      exact v_vret O rfl dX3_must_38 (by omega) (by omega) (⟨rfl, _, hR3, (hf1.trans hf3), by rw [mustR, if_neg (fun e => h_13 ((sg_eq (byt_lt hTl hTn) (by omega)).mpr e))]; exact ⟨rfl, rfl, by omega, by omega, by omega⟩, fun j h1 h2 h3 => by rw [← hI1 j h1]; simp [va_up, h1, h2, h3]⟩)
    · have hc13 := (sg_eq (byt_lt hTl hTn) (by omega)).mp h_13
      have hlt : skp b n p < n := byt_in (by rw [hc13]; omega)
      refine v_aload_n O dX3_must_16 rfl 0 rfl ?_
      refine v_dup O dX3_must_17 rfl ?_
      refine v_getf (C := RX3) (T := TX3) (N := 27) (v := .int (nI (skp b n p))) O in_X3 hR1.ob rfl 4 (by decide) rfl q1496 (congrArg (fun z => some (Value.int z)) h41) dX3_must_18 ?_
      refine v_iconst (v := nI 1) O dX3_must_21 (by decide) ?_
      refine v_iadd (z := nI (skp b n p + 1)) O dX3_must_22 (nI_add (skp b n p) 1) ?_
      refine r_puti (K := layM) (I' := (va_up I1 4 (nI (skp b n p + 1)))) (ty0 := tyX3) O hR1 in_X3 tyX3_ok nmX3 (show vcl[2]? = some (RX3, TX3, 27) from rfl) 4 (by decide) rfl q1496 rfl (tyX3_ok 4 (by decide)) rfl rfl (Nat.le_of_ble_eq_true rfl) rfl dX3_must_23 (fun σ5 hR5 hf5 => ?_)
      refine v_goto (tgt := 38) O dX3_must_26 (by decide) ?_
      exact v_vret O rfl dX3_must_38 (by omega) (by omega) (⟨rfl, _, hR5, (hf1.trans hf5), by rw [mustR, if_pos hc13]; exact ⟨rfl, by simp [va_up]; exact ((hI1 6 (by omega)).trans h6), by simp [va_up]; exact ((hI1 7 (by omega)).trans h7), by omega⟩, fun j h1 h2 h3 => by rw [← hI1 j h1]; simp [va_up, h1, h2, h3]⟩)
  · exact absurd h_4 (by rw [show I 6 = 0 from h6]; decide)
theorem c_X3_must_e {G : vGC} (hG : vGok G) {σ : vSt} {m : Nat} {ad : Nat → Nat} {I : Nat → Int32} {F : Nat → Nat → Int32} {L : Nat → Nat → Int64} (hR : RecAt layM σ m ad I F L) {b : Nat → Nat} {n : Nat} (hT : TxIs I F b n) {c : Nat} {e : Nat × Nat} (hs : RdSt I n (.error e)) : Ct G yX3_must (ws_ yX3_must cX3_must 2 none) 3 0 0 σ [.ref m, .int (nI c)] (fun v σ9 => v = none ∧ ∃ I' : Nat → Int32, RecAt layM σ9 m ad I' F L ∧ FrL [m] σ σ9 ∧ RdSt I' n (.error e) ∧ ∀ j, j ≠ 4 → j ≠ 6 → j ≠ 7 → I' j = I j) vNo := by
  refine ct_of hG (by decide) (Nat.le_of_ble_eq_true rfl) fun X hN O hnm htb => ?_
  show V G X _ 0 0 σ 0 [(0, .ref m), (1, .int (nI c))] []
  have h6 : ¬ I 6 = 0 := by rw [hs.1]; exact fun e9 => by have := nI_inj (a := e.1) (b := 0) (by have := hs.2.2.2.1; omega) (by omega) e9; have := hs.2.2.1; omega
  refine v_aload_n O dX3_must_0 rfl 0 rfl ?_
  refine v_callV (as := []) (rest := []) O (c_X3_fine hG hR ) q1599 q1601 qs34 q77 q1602 hR.ob (show vcl[2]? = some (RX3, TX3, 27) from rfl) rfl mdX3_fine rfl (by decide) (by omega) (by omega) (by omega) (Nat.le_of_ble_eq_true rfl) rfl dX3_must_1 (fun v9 σ9 hp9 => ?_) (fun _ _ _ h => False.elim h)
  obtain ⟨rfl, hs9⟩ := hp9
  obtain rfl := hs9.symm
  refine v_if_neB (tgt := 8) O dX3_must_4 (by decide) (fun h_4 => ?_) (fun h_4 => ?_)
  · exact absurd h_4 (by simp [h6])
  · exact v_vret O rfl dX3_must_7 (by omega) (by omega) (⟨rfl, I, hR, FrL.rf, hs, fun _ _ _ _ => rfl⟩)
theorem c_X3_must {G : vGC} (hG : vGok G) {σ : vSt} {m : Nat} {ad : Nat → Nat} {I : Nat → Int32} {F : Nat → Nat → Int32} {L : Nat → Nat → Int64} (hR : RecAt layM σ m ad I F L) {b : Nat → Nat} {n : Nat} (hT : TxIs I F b n) {c : Nat} {s : Rst} (hc : c < 256) (hs : RdSt I n s) : Ct G yX3_must (ws_ yX3_must cX3_must 2 none) 3 0 0 σ [.ref m, .int (nI c)] (fun v σ9 => v = none ∧ ∃ I' : Nat → Int32, RecAt layM σ9 m ad I' F L ∧ FrL [m] σ σ9 ∧ RdSt I' n (s.bind (mustR b n c)) ∧ ∀ j, j ≠ 4 → j ≠ 6 → j ≠ 7 → I' j = I j) vNo := by
  cases s with
  | ok p => exact c_X3_must_k hG hR hT hc hs
  | error e => exact c_X3_must_e hG hR hT hs
