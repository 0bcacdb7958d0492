theorem m1_int : (-1 : Int32).toInt = -1 := by decide
theorem sg_eq {c d : Nat} (hc : c ≤ 256) (hd : d < 256) : sgI c = nI d ↔ c = d := by
  unfold sgI
  by_cases e : c = 256
  · rw [if_pos e]
    exact ⟨fun h => absurd h.symm (nI_ne (by omega)), fun h => by omega⟩
  · rw [if_neg e]
    exact nI_eq (by omega) (by omega)
theorem sg_lt {c : Nat} (hc : c ≤ 256) : sgI c < nI 48 ↔ c = 256 ∨ c < 48 := by
  unfold sgI
  by_cases e : c = 256
  · rw [if_pos e, Int32.lt_iff_toInt_lt, m1_int, nI_toInt (by omega)]
    omega
  · rw [if_neg e, Int32.lt_iff_toInt_lt, nI_toInt (by omega), nI_toInt (by omega)]
    omega
theorem sg_gt {c : Nat} (hc : c ≤ 256) : nI 57 < sgI c ↔ c ≠ 256 ∧ 57 < c := by
  unfold sgI
  by_cases e : c = 256
  · rw [if_pos e, Int32.lt_iff_toInt_lt, m1_int, nI_toInt (by omega)]
    omega
  · rw [if_neg e, Int32.lt_iff_toInt_lt, nI_toInt (by omega), nI_toInt (by omega)]
    omega
theorem c_X3_byteAt {G : vGC} (hG : vGok G) {σ : vSt} {m : Nat} {ad : Nat → Nat} {I : Nat → Int32} {F : Nat → Nat → Int32} {L : Nat → Nat → Int64} (hR : RecAt layM σ m ad I F L) {b : Nat → Nat} {n : Nat} (hT : TxIs I F b n) {k : Nat} (hk : k < 2 ^ 31) : Ct G yX3_byteAt (ws_ yX3_byteAt cX3_byteAt 2 (some .int)) 1 0 0 σ [.ref m, .int (nI k)] (fun v σ9 => v = some (.int (sgI (byt b n k))) ∧ σ9 = σ) vNo := by
  refine ct_of hG (by decide) (Nat.le_of_ble_eq_true rfl) fun X hN O hnm htb => ?_
  show V G X _ 0 0 σ 0 [(0, .ref m), (1, .int (nI k))] []
  obtain ⟨hT3, hTn, hTb, hTl⟩ := id hT
  refine v_iload_n O dX3_byteAt_0 rfl 1 rfl ?_
  refine v_aload_n O dX3_byteAt_1 rfl 0 rfl ?_
  refine v_getf (C := RX3) (T := TX3) (N := 27) (v := .int (nI n)) O in_X3 hR.ob rfl 3 (by decide) rfl q1495 (congrArg (fun z => some (Value.int z)) hT3) dX3_byteAt_2 ?_
  refine v_icmp_ltN (tgt := 12) O dX3_byteAt_5 (by decide) (by omega) (by omega) (fun h_5 => ?_) (fun h_5 => ?_)
  · refine v_aload_n O dX3_byteAt_12 rfl 0 rfl ?_
    refine v_getf (C := RX3) (T := TX3) (N := 27) (v := .ref (ad 8)) O in_X3 hR.ob rfl 8 (by decide) rfl q1500 rfl dX3_byteAt_13 ?_
    refine v_iload_n O dX3_byteAt_16 rfl 1 rfl ?_
    refine v_iald (f := F 8) O (hR.ar 8 rfl) (by omega) (by omega) dX3_byteAt_17 ?_
    refine v_top (y := nI (b k)) (hTb k (by omega)) ?_
    exact v_iret O rfl dX3_byteAt_18 (by omega) (by omega) (⟨by rw [byt, if_neg (by omega), sgI, if_neg (by have := hTl k (by omega); omega)], rfl⟩)
  · refine v_iconst (v := (-1)) O dX3_byteAt_8 (by decide) ?_
    refine v_goto (tgt := 18) O dX3_byteAt_9 (by decide) ?_
    exact v_iret O rfl dX3_byteAt_18 (by omega) (by omega) (⟨by rw [byt_end (by omega)]; rfl, rfl⟩)
theorem c_X3_isDigit {G : vGC} (hG : vGok G) {σ : vSt} {c : Nat} (hc : c ≤ 256) : Ct G yX3_isDigit (ws_ yX3_isDigit cX3_isDigit 1 (some .boolean)) 1 0 0 σ [.int (sgI c)] (fun v σ9 => v = some (.int (bI (isDg c))) ∧ σ9 = σ) vNo := by
  refine ct_of hG (by decide) (Nat.le_of_ble_eq_true rfl) fun X hN O hnm htb => ?_
  show V G X _ 0 0 σ 0 [(0, .int (sgI c))] []
  refine v_iload_n O dX3_isDigit_0 rfl 0 rfl ?_
  refine v_bipush (v := nI 48) O dX3_isDigit_1 (by decide) ?_
  refine v_icmp_lt (tgt := 16) O dX3_isDigit_3 (by decide) (fun h_3 => ?_) (fun h_3 => ?_)
  · refine v_iconst (v := nI 0) O dX3_isDigit_16 (by decide) ?_
    exact v_zret (ty := .boolean) O rfl rfl dX3_isDigit_17 (by omega) (by omega) (⟨bIF (by have h1 := (sg_lt hc).mp h_3; exact decide_eq_false (by omega)), rfl⟩)
  · refine v_iload_n O dX3_isDigit_6 rfl 0 rfl ?_
    refine v_bipush (v := nI 57) O dX3_isDigit_7 (by decide) ?_
    refine v_icmp_gt (tgt := 16) O dX3_isDigit_9 (by decide) (fun h_9 => ?_) (fun h_9 => ?_)
    · refine v_iconst (v := nI 0) O dX3_isDigit_16 (by decide) ?_
      exact v_zret (ty := .boolean) O rfl rfl dX3_isDigit_17 (by omega) (by omega) (⟨bIF (by have h2 := (sg_gt hc).mp h_9; exact decide_eq_false (by omega)), rfl⟩)
    · refine v_iconst (v := nI 1) O dX3_isDigit_12 (by decide) ?_
      refine v_goto (tgt := 17) O dX3_isDigit_13 (by decide) ?_
      exact v_zret (ty := .boolean) O rfl rfl dX3_isDigit_17 (by omega) (by omega) (⟨bIT (by have h1 := mt (sg_lt hc).mpr h_3; have h2 := mt (sg_gt hc).mpr h_9; exact decide_eq_true (by omega)), rfl⟩)
theorem mdX3_byteAt : vMd yX3_byteAt 1 := ⟨by decide +kernel, by decide +kernel, by decide +kernel⟩
theorem l_X3_here {G : vGC} (hG : vGok G) {X : vCX} {Q : State → Prop} {c0 n0 : Nat} (O : vOk G X yX3_here.cls cX3_here (some .int) 2 0 0) (hN : xn X = 1) (hcm0 : c0 ≤ 0) (hsm0 : n0 ≤ 0) {σ0 : vSt} {m : Nat} {ad : Nat → Nat} {I : Nat → Int32} {F : Nat → Nat → Int32} {L : Nat → Nat → Int64} {b : Nat → Nat} {n : Nat} (hT0 : TxIs I F b n) {p : Nat} (kx : ∀ (σ : vSt) (I' : Nat → Int32), RecAt layM σ m ad I' F L → FrL [m] σ0 σ → I' 4 = nI (skp b n p) → (∀ j, j ≠ 4 → I' j = I j) → V G X Q c0 n0 σ 26 [(0, .ref m)] []) : ∀ (k : Nat) (q : Nat) (σ : vSt) (I' : Nat → Int32), (n < q + k) → (q ≤ n) → (RecAt layM σ m ad I' F L) → (FrL [m] σ0 σ) → (I' 4 = nI q) → (∀ j, j ≠ 4 → I' j = I j) → (skp b n q = skp b n p) → V G X Q c0 n0 σ 0 [(0, .ref m)] [] := by
  intro k
  induction k with
  | zero => intro q σ I' h0 h1 hR hf h4 hI h2; exact absurd h0 (by omega)
  | succ k ih =>
    intro q σ I' h0 h1 hR hf h4 hI h2
    have hT : TxIs I' F b n := ⟨by rw [hI 3 (by omega)]; exact hT0.1, hT0.2⟩
    obtain ⟨hT3, hTn, hTb, hTl⟩ := id hT
    refine v_aload_n O dX3_here_0 rfl 0 rfl ?_
    refine v_aload_n O dX3_here_1 rfl 0 rfl ?_
    refine v_getf (C := RX3) (T := TX3) (N := 27) (v := .int (nI q)) O in_X3 hR.ob rfl 4 (by decide) rfl q1496 (congrArg (fun z => some (Value.int z)) h4) dX3_here_2 ?_
    refine v_callV (as := [.int (nI q)]) (rest := []) O (c_X3_byteAt hG hR hT (k := q) (by omega)) q1607 q1609 qs36 q77 q1610 hR.ob (show vcl[2]? = some (RX3, TX3, 27) from rfl) rfl mdX3_byteAt rfl (by decide) (by omega) (by omega) (by omega) (Nat.le_of_ble_eq_true rfl) rfl dX3_here_5 (fun v9 σ9 hp9 => ?_) (fun _ _ _ h => False.elim h)
    obtain ⟨rfl, hs9⟩ := hp9
    obtain rfl := hs9.symm
    refine v_bipush (v := nI 32) O dX3_here_8 (by decide) ?_
    refine v_icmp_ne (tgt := 26) O dX3_here_10 (by decide) (fun h_10 => ?_) (fun h_10 => ?_)
    · have h32 : byt b n q ≠ 32 := fun e => h_10 ((sg_eq (byt_lt hTl hTn) (by omega)).mpr e)
      exact v_lv [0] rfl (kx σ I' hR hf (by rw [← h2, skp_n h32]; exact h4) hI)
    · have h32 : byt b n q = 32 := (sg_eq (byt_lt hTl hTn) (by omega)).mp h_10
      have hqn : q < n := byt_in (by rw [h32]; decide)
      refine v_aload_n O dX3_here_13 rfl 0 rfl ?_
      refine v_dup O dX3_here_14 rfl ?_
      refine v_getf (C := RX3) (T := TX3) (N := 27) (v := .int (nI q)) O in_X3 hR.ob rfl 4 (by decide) rfl q1496 (congrArg (fun z => some (Value.int z)) h4) dX3_here_15 ?_
      refine v_iconst (v := nI 1) O dX3_here_18 (by decide) ?_
      refine v_iadd (z := nI (q + 1)) O dX3_here_19 (nI_add q 1) ?_
      refine r_puti (K := layM) (I' := (va_up I' 4 (nI (q + 1)))) (ty0 := tyX3) O hR in_X3 tyX3_ok nmX3 (show vcl[2]? = some (RX3, TX3, 27) from rfl) 4 (by decide) rfl q1496 rfl (tyX3_ok 4 (by decide)) rfl rfl (Nat.le_of_ble_eq_true rfl) rfl dX3_here_20 (fun σ1 hR1 hf1 => ?_)
      refine v_goto (tgt := 0) O dX3_here_23 (by decide) ?_
      exact ih (q + 1) _ _ (by omega) (by omega) hR1 (hf.trans hf1) rfl (fun j hj => by rw [← hI j hj]; simp [va_up, hj]) (by rw [← h2]; exact (skp_s hqn h32).symm)
theorem c_X3_here {G : vGC} (hG : vGok G) {σ : vSt} {m : Nat} {ad : Nat → Nat} {I : Nat → Int32} {F : Nat → Nat → Int32} {L : Nat → Nat → Int64} (hR : RecAt layM σ m ad I F L) {b : Nat → Nat} {n : Nat} (hT : TxIs I F b n) {p : Nat} (h4 : I 4 = nI p) (hp : p ≤ n) : Ct G yX3_here (ws_ yX3_here cX3_here 1 (some .int)) 2 0 0 σ [.ref m] (fun v σ9 => v = some (.int (sgI (byt b n (skp b n p)))) ∧ ∃ I' : Nat → Int32, RecAt layM σ9 m ad I' F L ∧ FrL [m] σ σ9 ∧ I' 4 = nI (skp b n p) ∧ ∀ j, j ≠ 4 → I' j = I j) vNo := by
  refine ct_of hG (by decide) (Nat.le_of_ble_eq_true rfl) fun X hN O hnm htb => ?_
  show V G X _ 0 0 σ 0 [(0, .ref m)] []
  obtain ⟨hT3, hTn, hTb, hTl⟩ := id hT
  have hsk := skp_ok (b := b) hp
  refine l_X3_here hG O hN (by omega) (by omega) hT (p := p) (fun σ6 I6 hR6 hf6 h64 hI6 => ?_) (n + 1) p σ I (by omega) hp hR FrL.rf h4 (fun _ _ => rfl) rfl
  have hT6 : TxIs I6 F b n := ⟨by rw [hI6 3 (by omega)]; exact hT3, hT.2⟩
  refine v_aload_n O dX3_here_26 rfl 0 rfl ?_
  refine v_aload_n O dX3_here_27 rfl 0 rfl ?_
  refine v_getf (C := RX3) (T := TX3) (N := 27) (v := .int (nI (skp b n p))) O in_X3 hR6.ob rfl 4 (by decide) rfl q1496 (congrArg (fun z => some (Value.int z)) h64) dX3_here_28 ?_
  refine v_callV (as := [.int (nI (skp b n p))]) (rest := []) O (c_X3_byteAt hG hR6 hT6 (k := skp b n p) (by omega)) q1607 q1609 qs36 q77 q1610 hR6.ob (show vcl[2]? = some (RX3, TX3, 27) from rfl) rfl mdX3_byteAt rfl (by decide) (by omega) (by omega) (by omega) (Nat.le_of_ble_eq_true rfl) rfl dX3_here_31 (fun v9 σ9 hp9 => ?_) (fun _ _ _ h => False.elim h)
  obtain ⟨rfl, hs9⟩ := hp9
  obtain rfl := hs9.symm
  exact v_iret O rfl dX3_here_34 (by omega) (by omega) (⟨rfl, I6, hR6, hf6, h64, hI6⟩)
