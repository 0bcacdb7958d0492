theorem digF_n {b : Nat → Nat} {n f p v : Nat} (h : isDg (byt b n p) = false) : digF b n f p v = (v, p) := by
  cases f with
  | zero => rfl
  | succ f => rw [digF, if_neg (by rw [h]; decide)]
theorem digF_y {b : Nat → Nat} {n p v : Nat} (hp : p < n) (h : isDg (byt b n p) = true) : digF b n (n - p) p v = digF b n (n - (p + 1)) (p + 1) (min 100000 (10 * v + byt b n p - 48)) := by
  rw [show n - p = (n - (p + 1)) + 1 by omega, digF, if_pos h]
theorem sg_n {c : Nat} (h : c ≠ 256) : sgI c = nI c := if_neg h
theorem mdX3_isDigit : vMd yX3_isDigit 1 := ⟨by decide +kernel, by decide +kernel, by decide +kernel⟩
theorem l_X3_number {G : vGC} (hG : vGok G) {X : vCX} {Q : State → Prop} {c0 n0 : Nat} (O : vOk G X yX3_number.cls cX3_number (some .int) 3 0 0) (hN : xn X = 6) (hcm0 : c0 ≤ 0) (hsm0 : n0 ≤ 0) {σ0 : vSt} {m : Nat} {ad : Nat → Nat} {I : Nat → Int32} {F : Nat → Nat → Int32} {L : Nat → Nat → Int64} {b : Nat → Nat} {n : Nat} (hT0 : TxIs I F b n) {lo hi but beg : Nat} {r : Nat × Nat} (kx : ∀ (σ : vSt) (I' : Nat → Int32), RecAt layM σ m ad I' F L → FrL [m] σ0 σ → I' 4 = nI r.2 → (∀ j, j ≠ 4 → I' j = I j) → V G X Q c0 n0 σ 90 [(0, .ref m), (1, .int (nI lo)), (2, .int (nI hi)), (3, .int (nI but)), (4, .int (nI beg)), (5, .int (nI r.1))] []) : ∀ (k : Nat) (q : Nat) (v : Nat) (σ : vSt) (I' : Nat → Int32), (n < q + k) → (q ≤ n ∧ v ≤ 100000) → (RecAt layM σ m ad I' F L) → (FrL [m] σ0 σ) → (I' 4 = nI q) → (∀ j, j ≠ 4 → I' j = I j) → (digF b n (n - q) q v = r) → V G X Q c0 n0 σ 39 [(0, .ref m), (1, .int (nI lo)), (2, .int (nI hi)), (3, .int (nI but)), (4, .int (nI beg)), (5, .int (nI v))] [] := by
  intro k
  induction k with
  | zero => intro q v σ I' h0 h1 hR hf h4 hI h2; exact absurd h0 (by omega)
  | succ k ih =>
    intro q v σ I' h0 h1 hR hf h4 hI h2
    have hT : TxIs I' F b n := ⟨by rw [hI 3 (by omega)]; exact hT0.1, hT0.2⟩
    obtain ⟨hT3, hTn, hTb, hTl⟩ := id hT
    refine v_aload_n O dX3_number_39 rfl 0 rfl ?_
    refine v_aload_n O dX3_number_40 rfl 0 rfl ?_
    refine v_getf (C := RX3) (T := TX3) (N := 27) (v := .int (nI q)) O in_X3 hR.ob rfl 4 (by decide) rfl q1496 (congrArg (fun z => some (Value.int z)) h4) dX3_number_41 ?_
    refine v_callV (as := [.int (nI q)]) (rest := []) O (c_X3_byteAt hG hR hT (k := q) (by omega)) q1607 q1609 qs36 q77 q1610 hR.ob (show vcl[2]? = some (RX3, TX3, 27) from rfl) rfl mdX3_byteAt rfl (by decide) (by omega) (by omega) (by omega) (Nat.le_of_ble_eq_true rfl) rfl dX3_number_44 (fun v9 σ9 hp9 => ?_) (fun _ _ _ h => False.elim h)
    obtain ⟨rfl, hs9⟩ := hp9
    obtain rfl := hs9.symm
    refine v_callS (as := [.int (sgI (byt b n q))]) (rest := []) O (c_X3_isDigit hG (c := (byt b n q)) (byt_lt hTl hTn)) q1631 q1632 q77 q1633 mdX3_isDigit rfl (by decide) (by omega) (by omega) (by omega) (Nat.le_of_ble_eq_true rfl) rfl dX3_number_47 (fun v9 σ9 hp9 => ?_) (fun _ _ _ h => False.elim h)
    obtain ⟨rfl, hs9⟩ := hp9
    obtain rfl := hs9.symm
    refine v_if_eqB (tgt := 90) O dX3_number_50 (by decide) (fun h_50 => ?_) (fun h_50 => ?_)
    · rw [digF_n h_50] at h2
      subst h2
      exact v_lv [0, 1, 2, 3, 4, 5] rfl (kx σ I' hR hf h4 hI)
    · have hdg := isDg_n h_50
      have hqn : q < n := byt_in (b := b) (by omega)
      refine v_ldc O q1634 dX3_number_53 ?_
      rw [show (100000 : Int32) = nI 100000 from rfl]
      refine v_bipush (v := nI 10) O dX3_number_55 (by decide) ?_
      refine v_iload O dX3_number_57 5 rfl ?_
      refine v_imul (z := nI (10 * v)) O dX3_number_59 (pk_mul 10 v) ?_
      refine v_aload_n O dX3_number_60 rfl 0 rfl ?_
      refine v_aload_n O dX3_number_61 rfl 0 rfl ?_
      refine v_getf (C := RX3) (T := TX3) (N := 27) (v := .int (nI q)) O in_X3 hR.ob rfl 4 (by decide) rfl q1496 (congrArg (fun z => some (Value.int z)) h4) dX3_number_62 ?_
      refine v_callV (as := [.int (nI q)]) (rest := [.int (nI (10 * v)), .int (nI 100000)]) O (c_X3_byteAt hG hR hT (k := q) (by omega)) q1607 q1609 qs36 q77 q1610 hR.ob (show vcl[2]? = some (RX3, TX3, 27) from rfl) rfl mdX3_byteAt rfl (by decide) (by omega) (by omega) (by omega) (Nat.le_of_ble_eq_true rfl) rfl dX3_number_65 (fun v9 σ9 hp9 => ?_) (fun _ _ _ h => False.elim h)
      obtain ⟨rfl, hs9⟩ := hp9
      obtain rfl := hs9.symm
      rw [sg_n (show byt b n q ≠ 256 by omega)]
      refine v_iadd (z := nI ((10 * v) + (byt b n q))) O dX3_number_68 (nI_add (10 * v) (byt b n q)) ?_
      refine v_bipush (v := nI 48) O dX3_number_69 (by decide) ?_
      refine v_isub (z := nI (((10 * v) + (byt b n q)) - 48)) O dX3_number_71 (pk_sub (by omega)) ?_
      refine v_callS (as := [.int (nI 100000), .int (nI (((10 * v) + (byt b n q)) - 48))]) (rest := []) O (c_X3_less hG (a := 100000) (b := ((10 * v) + (byt b n q)) - 48) (by omega) (by omega)) q1635 q1636 q77 q1637 mdX3_less rfl (by decide) (by omega) (by omega) (by omega) (Nat.le_of_ble_eq_true rfl) rfl dX3_number_72 (fun v9 σ9 hp9 => ?_) (fun _ _ _ h => False.elim h)
      obtain ⟨rfl, hs9⟩ := hp9
      obtain rfl := hs9.symm
      refine v_istore (lv' := [(5, .int (nI (min 100000 (((10 * v) + (byt b n q)) - 48)))), (0, .ref m), (1, .int (nI lo)), (2, .int (nI hi)), (3, .int (nI but)), (4, .int (nI beg))]) O hN dX3_number_75 (by decide) rfl ?_
      refine v_aload_n O dX3_number_77 rfl 1 rfl ?_
      refine v_dup O dX3_number_78 rfl ?_
      refine v_getf (C := RX3) (T := TX3) (N := 27) (v := .int (nI q)) O in_X3 hR.ob rfl 4 (by decide) rfl q1496 (congrArg (fun z => some (Value.int z)) h4) dX3_number_79 ?_
      refine v_iconst (v := nI 1) O dX3_number_82 (by decide) ?_
      refine v_iadd (z := nI (q + 1)) O dX3_number_83 (nI_add q 1) ?_
      refine r_puti (K := layM) (I' := (va_up I' 4 (nI (q + 1)))) (ty0 := tyX3) O hR in_X3 tyX3_ok nmX3 (show vcl[2]? = some (RX3, TX3, 27) from rfl) 4 (by decide) rfl q1496 rfl (tyX3_ok 4 (by decide)) rfl rfl (Nat.le_of_ble_eq_true rfl) rfl dX3_number_84 (fun σ1 hR1 hf1 => ?_)
      refine v_goto (tgt := 39) O dX3_number_87 (by decide) ?_
      refine v_lv [1, 2, 3, 4, 5, 0] rfl ?_
      exact ih (q + 1) _ _ _ (by omega) (by omega) hR1 (hf.trans hf1) rfl (fun j hj => by rw [← hI j hj]; simp [va_up, hj]) (by rw [← h2]; exact (digF_y hqn h_50).symm)
theorem nI_bet {a v c : Nat} (ha : a < 2 ^ 31) (hv : v < 2 ^ 31) (hc : c < 2 ^ 31) (h : nI a ≤ nI v ∧ nI v ≤ nI c) : a ≤ v ∧ v ≤ c := by
  rw [Int32.le_iff_toInt_le, Int32.le_iff_toInt_le, nI_toInt ha, nI_toInt hv, nI_toInt hc] at h
  omega
theorem bet_nI {a v c : Nat} (ha : a < 2 ^ 31) (hv : v < 2 ^ 31) (hc : c < 2 ^ 31) (h : a ≤ v ∧ v ≤ c) : nI a ≤ nI v ∧ nI v ≤ nI c := by
  rw [Int32.le_iff_toInt_le, Int32.le_iff_toInt_le, nI_toInt ha, nI_toInt hv, nI_toInt hc]
  omega
theorem c_X3_number_k {G : vGC} (hG : vGok G) {σ : vSt} {m : Nat} {ad : Nat → Nat} {I : Nat → Int32} {F : Nat → Nat → Int32} {L : Nat → Nat → Int64} (hR : RecAt layM σ m ad I F L) {b : Nat → Nat} {n : Nat} (hT : TxIs I F b n) {lo hi but p : Nat} (hlh : lo < 4096 ∧ hi < 4096 ∧ but < 4096) (hs : RdSt I n (.ok p)) : Ct G yX3_number (ws_ yX3_number cX3_number 6 (some .int)) 3 0 0 σ [.ref m, .int (nI lo), .int (nI hi), .int (nI but)] (fun v σ9 => ∃ x : Nat, v = some (.int (nI x)) ∧ (∀ w q, numR b n lo hi but p = .ok (w, q) → nI x = nI w) ∧ ∃ I' : Nat → Int32, RecAt layM σ9 m ad I' F L ∧ FrL [m] σ σ9 ∧ RdSt I' n ((numR b n lo hi but p).map Prod.snd) ∧ ∀ j, j ≠ 4 → j ≠ 6 → j ≠ 7 → I' j = I j) vNo := by
  refine ct_of hG (by decide) (Nat.le_of_ble_eq_true rfl) fun X hN O hnm htb => ?_
  show V G X _ 0 0 σ 0 [(0, .ref m), (1, .int (nI lo)), (2, .int (nI hi)), (3, .int (nI but))] []
  obtain ⟨hT3, hTn, hTb, hTl⟩ := id hT
  obtain ⟨h4, h6, h7, hpn⟩ := hs
  have hsk := skp_ok (b := b) hpn
  refine v_aload_n O dX3_number_0 rfl 0 rfl ?_
  refine v_callV (as := []) (rest := []) O (c_X3_fine hG hR ) q1599 q1601 qs34 q77 q1602 hR.ob (show vcl[2]? = some (RX3, TX3, 27) from rfl) rfl mdX3_fine rfl (by decide) (by omega) (by omega) (by omega) (Nat.le_of_ble_eq_true rfl) rfl dX3_number_1 (fun v9 σ9 hp9 => ?_) (fun _ _ _ h => False.elim h)
  obtain ⟨rfl, hs9⟩ := hp9
  obtain rfl := hs9.symm
  refine v_if_neB (tgt := 9) O dX3_number_4 (by decide) (fun h_4 => ?_) (fun h_4 => ?_)
  · refine v_aload_n O dX3_number_9 rfl 0 rfl ?_
    refine v_callV (as := []) (rest := []) O (c_X3_here hG hR hT (p := p) h4 (by omega)) q1603 q1605 qs35 q77 q1606 hR.ob (show vcl[2]? = some (RX3, TX3, 27) from rfl) rfl mdX3_here rfl (by decide) (by omega) (by omega) (by omega) (Nat.le_of_ble_eq_true rfl) rfl dX3_number_10 (fun v9 σ2 hp9 => ?_) (fun _ _ _ h => False.elim h)
    obtain ⟨rfl, I1, hR1, hf1, h41, hI1⟩ := hp9
    have hT1 : TxIs I1 F b n := TxIs.of hT (hI1 3 (by omega)) rfl
    refine v_callS (as := [.int (sgI (byt b n (skp b n p)))]) (rest := []) O (c_X3_isDigit hG (c := (byt b n (skp b n p))) (byt_lt hTl hTn)) q1631 q1632 q77 q1633 mdX3_isDigit rfl (by decide) (by omega) (by omega) (by omega) (Nat.le_of_ble_eq_true rfl) rfl dX3_number_13 (fun v9 σ9 hp9 => ?_) (fun _ _ _ h => False.elim h)
    obtain ⟨rfl, hs9⟩ := hp9
    obtain rfl := hs9.symm
    refine v_if_neB (tgt := 30) O dX3_number_16 (by decide) (fun h_16 => ?_) (fun h_16 => ?_)
    · 
      refine v_aload_n O dX3_number_30 rfl 0 rfl ?_
      refine v_getf (C := RX3) (T := TX3) (N := 27) (v := .int (nI (skp b n p))) O in_X3 hR1.ob rfl 4 (by decide) rfl q1496 (congrArg (fun z => some (Value.int z)) h41) dX3_number_31 ?_
      refine v_istore (lv' := [(4, .int (nI (skp b n p))), (0, .ref m), (1, .int (nI lo)), (2, .int (nI hi)), (3, .int (nI but))]) O hN dX3_number_34 (by decide) rfl ?_
      refine v_iconst (v := nI 0) O dX3_number_36 (by decide) ?_
      refine v_istore (lv' := [(5, .int (nI 0)), (4, .int (nI (skp b n p))), (0, .ref m), (1, .int (nI lo)), (2, .int (nI hi)), (3, .int (nI but))]) O hN dX3_number_37 (by decide) rfl ?_
      refine v_lv [2, 3, 4, 5, 1, 0] rfl ?_
      have hdk := digF_ok (b := b) (n := n) (n - skp b n p) (skp b n p) 0 (by omega) (by omega)
      refine l_X3_number hG O hN (by omega) (by omega) hT1 (r := digF b n (n - skp b n p) (skp b n p) 0) (fun σZ IZ hRZ hfZ hz4 hz => ?_) (n + 1) (skp b n p) 0 _ _ (by omega) (by omega) hR1 FrL.rf h41 (fun _ _ => rfl) rfl
      generalize hD : digF b n (n - skp b n p) (skp b n p) 0 = D at hz4 hdk ⊢
      obtain ⟨v, e⟩ := D
      refine v_iload O dX3_number_90 5 rfl ?_
      have hv1 : v ≤ 100000 := hdk.2.2
      refine v_iload_n O dX3_number_92 rfl 1 rfl ?_
      refine v_iload_n O dX3_number_93 rfl 2 rfl ?_
      refine v_callS (as := [.int (nI v), .int (nI lo), .int (nI hi)]) (rest := []) O (c_X3_in hG (x := nI v) (lo := nI lo) (hi := nI hi)) q1587 q1588 q77 q1589 mdX3_in rfl (by decide) (by omega) (by omega) (by omega) (Nat.le_of_ble_eq_true rfl) rfl dX3_number_94 (fun v9 σ9 hp9 => ?_) (fun _ _ _ h => False.elim h)
      obtain ⟨rfl, hs9⟩ := hp9
      obtain rfl := hs9.symm
      refine v_if_eqB (tgt := 117) O dX3_number_97 (by decide) (fun h_97 => ?_) (fun h_97 => ?_)
      · have hin : ¬ (lo ≤ v ∧ v ≤ hi) := fun h9 => (of_decide_eq_false h_97) (bet_nI (by omega) (by omega) (by omega) h9)
        have hgood : ¬ (decide (lo ≤ (digF b n (n - skp b n p) (skp b n p) 0).1 ∧ (digF b n (n - skp b n p) (skp b n p) 0).1 ≤ hi) && !(decide ((digF b n (n - skp b n p) (skp b n p) 0).1 < 12) && but.testBit (digF b n (n - skp b n p) (skp b n p) 0).1)) = true := by simp [hD, hin]
        refine v_aload_n O dX3_number_117 rfl 0 rfl ?_
        refine v_iconst (v := nI 2) O dX3_number_118 (by decide) ?_
        refine v_iload O dX3_number_119 4 rfl ?_
        refine v_callV (as := [.int (nI 2), .int (nI (skp b n p))]) (rest := []) O (c_X3_wrong hG hRZ (x := nI 2) (y := nI (skp b n p))) q1623 q1625 qs37 q77 q1626 hRZ.ob (show vcl[2]? = some (RX3, TX3, 27) from rfl) rfl mdX3_wrong rfl (by decide) (by omega) (by omega) (by omega) (Nat.le_of_ble_eq_true rfl) rfl dX3_number_121 (fun v9 σ62 hp9 => ?_) (fun _ _ _ h => False.elim h)
        obtain ⟨rfl, hR61, hf61⟩ := hp9
        rw [if_pos (show IZ 6 = 0 from ((hz 6 (by omega)).trans ((hI1 6 (by omega)).trans h6)))] at hR61
        refine v_iload O dX3_number_124 5 rfl ?_
        exact v_iret O rfl dX3_number_126 (by omega) (by omega) (⟨_, rfl, (fun w q h => by rw [numR, if_pos h_16, if_neg hgood] at h; cases h), _, hR61, ((hf1.trans hfZ).trans hf61), by rw [numR, if_pos h_16, if_neg hgood]; exact ⟨rfl, rfl, by omega, by omega, by omega⟩, fun j h1 h2 h3 => by simp [va_up, h2, h3]; exact (hz j h1).trans (hI1 j h1)⟩)
      · have hin := nI_bet (by omega) (by omega) (by omega) (of_decide_eq_true h_97)
        refine v_iload O dX3_number_100 5 rfl ?_
        refine v_bipush (v := nI 12) O dX3_number_102 (by decide) ?_
        refine v_icmp_geN (tgt := 124) O dX3_number_104 (by decide) (by omega) (by omega) (fun h_104 => ?_) (fun h_104 => ?_)
        · have hgood : (decide (lo ≤ (digF b n (n - skp b n p) (skp b n p) 0).1 ∧ (digF b n (n - skp b n p) (skp b n p) 0).1 ≤ hi) && !(decide ((digF b n (n - skp b n p) (skp b n p) 0).1 < 12) && but.testBit (digF b n (n - skp b n p) (skp b n p) 0).1)) = true := by simp [hD, hin, show ¬ v < 12 by omega]
          refine v_iload O dX3_number_124 5 rfl ?_
          exact v_iret O rfl dX3_number_126 (by omega) (by omega) (⟨_, rfl, (fun w q h => by rw [numR, if_pos h_16, if_pos hgood, hD] at h; have h9 := Except.ok.inj h; exact congrArg (fun z => nI z.1) h9), _, hRZ, (hf1.trans hfZ), by rw [numR, if_pos h_16, if_pos hgood, hD]; exact ⟨hz4, ((hz 6 (by omega)).trans ((hI1 6 (by omega)).trans h6)), ((hz 7 (by omega)).trans ((hI1 7 (by omega)).trans h7)), hdk.2.1⟩, fun j h1 h2 h3 => (hz j h1).trans (hI1 j h1)⟩)
        · refine v_iload_n O dX3_number_107 rfl 3 rfl ?_
          refine v_iload O dX3_number_108 5 rfl ?_
          refine v_ishr (z := nI (but >>> v)) O dX3_number_110 (bx_shr (by omega) (by omega)) ?_
          refine v_iconst (v := nI 1) O dX3_number_111 (by decide) ?_
          refine v_iand (z := bI (but.testBit v)) O dX3_number_112 bx_has ?_
          refine v_iconst (v := nI 1) O dX3_number_113 (by decide) ?_
          refine v_icmp_ne (tgt := 124) O dX3_number_114 (by decide) (fun h_114 => ?_) (fun h_114 => ?_)
          · have htb : but.testBit v = false := by
              cases hx : but.testBit v with
              | false => rfl
              | true => exact absurd (bI_1.mpr hx) h_114
            have hgood : (decide (lo ≤ (digF b n (n - skp b n p) (skp b n p) 0).1 ∧ (digF b n (n - skp b n p) (skp b n p) 0).1 ≤ hi) && !(decide ((digF b n (n - skp b n p) (skp b n p) 0).1 < 12) && but.testBit (digF b n (n - skp b n p) (skp b n p) 0).1)) = true := by simp [hD, hin, htb]
            refine v_iload O dX3_number_124 5 rfl ?_
            exact v_iret O rfl dX3_number_126 (by omega) (by omega) (⟨_, rfl, (fun w q h => by rw [numR, if_pos h_16, if_pos hgood, hD] at h; have h9 := Except.ok.inj h; exact congrArg (fun z => nI z.1) h9), _, hRZ, (hf1.trans hfZ), by rw [numR, if_pos h_16, if_pos hgood, hD]; exact ⟨hz4, ((hz 6 (by omega)).trans ((hI1 6 (by omega)).trans h6)), ((hz 7 (by omega)).trans ((hI1 7 (by omega)).trans h7)), hdk.2.1⟩, fun j h1 h2 h3 => (hz j h1).trans (hI1 j h1)⟩)
          · have htb : but.testBit v = true := bI_1.mp h_114
            have hgood : ¬ (decide (lo ≤ (digF b n (n - skp b n p) (skp b n p) 0).1 ∧ (digF b n (n - skp b n p) (skp b n p) 0).1 ≤ hi) && !(decide ((digF b n (n - skp b n p) (skp b n p) 0).1 < 12) && but.testBit (digF b n (n - skp b n p) (skp b n p) 0).1)) = true := by simp [hD, hin, htb, show v < 12 by omega]
            refine v_aload_n O dX3_number_117 rfl 0 rfl ?_
            refine v_iconst (v := nI 2) O dX3_number_118 (by decide) ?_
            refine v_iload O dX3_number_119 4 rfl ?_
            refine v_callV (as := [.int (nI 2), .int (nI (skp b n p))]) (rest := []) O (c_X3_wrong hG hRZ (x := nI 2) (y := nI (skp b n p))) q1623 q1625 qs37 q77 q1626 hRZ.ob (show vcl[2]? = some (RX3, TX3, 27) from rfl) rfl mdX3_wrong rfl (by decide) (by omega) (by omega) (by omega) (Nat.le_of_ble_eq_true rfl) rfl dX3_number_121 (fun v9 σ64 hp9 => ?_) (fun _ _ _ h => False.elim h)
            obtain ⟨rfl, hR63, hf63⟩ := hp9
            rw [if_pos (show IZ 6 = 0 from ((hz 6 (by omega)).trans ((hI1 6 (by omega)).trans h6)))] at hR63
            refine v_iload O dX3_number_124 5 rfl ?_
            exact v_iret O rfl dX3_number_126 (by omega) (by omega) (⟨_, rfl, (fun w q h => by rw [numR, if_pos h_16, if_neg hgood] at h; cases h), _, hR63, ((hf1.trans hfZ).trans hf63), by rw [numR, if_pos h_16, if_neg hgood]; exact ⟨rfl, rfl, by omega, by omega, by omega⟩, fun j h1 h2 h3 => by simp [va_up, h2, h3]; exact (hz j h1).trans (hI1 j h1)⟩)
    · refine v_aload_n O dX3_number_19 rfl 0 rfl ?_
      refine v_iconst (v := nI 1) O dX3_number_20 (by decide) ?_
      refine v_aload_n O dX3_number_21 rfl 0 rfl ?_
      refine v_getf (C := RX3) (T := TX3) (N := 27) (v := .int (nI (skp b n p))) O in_X3 hR1.ob rfl 4 (by decide) rfl q1496 (congrArg (fun z => some (Value.int z)) h41) dX3_number_22 ?_
      refine v_callV (as := [.int (nI 1), .int (nI (skp b n p))]) (rest := []) O (c_X3_wrong hG hR1 (x := nI 1) (y := nI (skp b n p))) q1623 q1625 qs37 q77 q1626 hR1.ob (show vcl[2]? = some (RX3, TX3, 27) from rfl) rfl mdX3_wrong rfl (by decide) (by omega) (by omega) (by omega) (Nat.le_of_ble_eq_true rfl) rfl dX3_number_25 (fun v9 σ4 hp9 => ?_) (fun _ _ _ h => False.elim h)
      obtain ⟨rfl, hR3, hf3⟩ := hp9
      rw [if_pos (show I1 6 = 0 from ((hI1 6 (by omega)).trans h6))] at hR3
      refine v_iconst (v := nI 0) O dX3_number_28 (by decide) ?_
      exact v_iret O rfl dX3_number_29 (by omega) (by omega) (⟨0, rfl, (fun w q h => by rw [numR, if_neg (by rw [h_16]; decide)] at h; cases h), _, hR3, (hf1.trans hf3), by rw [numR, if_neg (by rw [h_16]; decide)]; exact ⟨rfl, rfl, by omega, by omega, by omega⟩, fun j h1 h2 h3 => by rw [← hI1 j h1]; simp [va_up, h1, h2, h3]⟩)
  · exact absurd h_4 (by rw [show I 6 = 0 from h6]; decide)
theorem c_X3_number_e {G : vGC} (hG : vGok G) {σ : vSt} {m : Nat} {ad : Nat → Nat} {I : Nat → Int32} {F : Nat → Nat → Int32} {L : Nat → Nat → Int64} (hR : RecAt layM σ m ad I F L) {b : Nat → Nat} {n : Nat} (hT : TxIs I F b n) {lo hi but : Nat} {e : Nat × Nat} (hs : RdSt I n (.error e)) : Ct G yX3_number (ws_ yX3_number cX3_number 6 (some .int)) 3 0 0 σ [.ref m, .int (nI lo), .int (nI hi), .int (nI but)] (fun v σ9 => ∃ x : Nat, v = some (.int (nI x)) ∧ (∀ w q, Except.bind (Except.error e) (numR b n lo hi but) = .ok (w, q) → nI x = nI w) ∧ ∃ I' : Nat → Int32, RecAt layM σ9 m ad I' F L ∧ FrL [m] σ σ9 ∧ RdSt I' n (Except.bind (Except.error e) fun p => (numR b n lo hi but p).map Prod.snd) ∧ ∀ j, j ≠ 4 → j ≠ 6 → j ≠ 7 → I' j = I j) vNo := by
  refine ct_of hG (by decide) (Nat.le_of_ble_eq_true rfl) fun X hN O hnm htb => ?_
  show V G X _ 0 0 σ 0 [(0, .ref m), (1, .int (nI lo)), (2, .int (nI hi)), (3, .int (nI but))] []
  have h6 : ¬ I 6 = 0 := by rw [hs.1]; exact fun e9 => by have := nI_inj (a := e.1) (b := 0) (by have := hs.2.2.2.1; omega) (by omega) e9; have := hs.2.2.1; omega
  refine v_aload_n O dX3_number_0 rfl 0 rfl ?_
  refine v_callV (as := []) (rest := []) O (c_X3_fine hG hR ) q1599 q1601 qs34 q77 q1602 hR.ob (show vcl[2]? = some (RX3, TX3, 27) from rfl) rfl mdX3_fine rfl (by decide) (by omega) (by omega) (by omega) (Nat.le_of_ble_eq_true rfl) rfl dX3_number_1 (fun v9 σ9 hp9 => ?_) (fun _ _ _ h => False.elim h)
  obtain ⟨rfl, hs9⟩ := hp9
  obtain rfl := hs9.symm
  refine v_if_neB (tgt := 9) O dX3_number_4 (by decide) (fun h_4 => ?_) (fun h_4 => ?_)
  · exact absurd h_4 (by simp [h6])
  · refine v_iconst (v := nI 0) O dX3_number_7 (by decide) ?_
    exact v_iret O rfl dX3_number_8 (by omega) (by omega) (⟨0, rfl, (fun w q h => by cases h), I, hR, FrL.rf, hs, fun _ _ _ _ => rfl⟩)
