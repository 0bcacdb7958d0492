/-- a row of the model holds a network -/
def Enc (f : Nat → Int32) (N : NetM) : Prop := f 0 = nI N.1 ∧ (∀ a, a < N.1 → f (1 + a) = N.2.2 a) ∧ ∀ a b, a < N.1 → b < N.1 → f (13 + 12 * a + b) = N.2.1 a b
theorem fit_bI (b : Bool) : fits .boolean (.int (bI b)) = true := by cases b <;> rfl
theorem c_X3_nodes {G : vGC} (hG : vGok G) {σ : vSt} {m : Nat} {ad : Nat → Nat} {I : Nat → Int32} {F : Nat → Nat → Int32} {L : Nat → Nat → Int64} (hR : RecAt layM σ m ad I F L) {N : NetM} (hE : Enc (F 9) N) (hn : N.1 ≤ 12) : Ct G yX3_nodes (ws_ yX3_nodes cX3_nodes 1 (some .int)) 1 0 0 σ [.ref m] (fun v σ9 => v = some (.int (nI N.1)) ∧ σ9 = σ) vNo := by
  refine ct_of hG (by decide) (Nat.le_of_ble_eq_true rfl) fun X hN O hnm htb => ?_
  show V G X _ 0 0 σ 0 [(0, .ref m)] []
  obtain ⟨hE0, hE1, hE2⟩ := id hE
  refine v_aload_n O dX3_nodes_0 rfl 0 rfl ?_
  refine v_getf (C := RX3) (T := TX3) (N := 27) (v := .ref (ad 9)) O in_X3 hR.ob rfl 9 (by decide) rfl q1501 rfl dX3_nodes_1 ?_
  refine v_iconst (v := nI 0) O dX3_nodes_4 (by decide) ?_
  refine v_iald (f := F 9) O (hR.ar 9 rfl) (by omega) (by omega) dX3_nodes_5 ?_
  refine v_top (y := nI N.1) hE0 ?_
  exact v_iret O rfl dX3_nodes_6 (by omega) (by omega) (⟨rfl, rfl⟩)
theorem mdX3_nodes : vMd yX3_nodes 0 := ⟨by decide +kernel, by decide +kernel, by decide +kernel⟩
theorem c_X3_all {G : vGC} (hG : vGok G) {σ : vSt} {m : Nat} {ad : Nat → Nat} {I : Nat → Int32} {F : Nat → Nat → Int32} {L : Nat → Nat → Int64} (hR : RecAt layM σ m ad I F L) {N : NetM} (hE : Enc (F 9) N) (hn : N.1 ≤ 12) : Ct G yX3_all (ws_ yX3_all cX3_all 1 (some .int)) 2 0 0 σ [.ref m] (fun v σ9 => v = some (.int (nI (allN N))) ∧ σ9 = σ) vNo := by
  refine ct_of hG (by decide) (Nat.le_of_ble_eq_true rfl) fun X hN O hnm htb => ?_
  show V G X _ 0 0 σ 0 [(0, .ref m)] []
  have h2 : 1 ≤ 2 ^ N.1 := Nat.one_le_two_pow
  refine v_iconst (v := nI 1) O dX3_all_0 (by decide) ?_
  refine v_aload_n O dX3_all_1 rfl 0 rfl ?_
  refine v_callV (as := []) (rest := [.int (nI 1)]) O (c_X3_nodes hG hR hE (by omega)) q1677 q1679 qs47 q77 q1680 hR.ob (show vcl[2]? = some (RX3, TX3, 27) from rfl) rfl mdX3_nodes rfl (by decide) (by omega) (by omega) (by omega) (Nat.le_of_ble_eq_true rfl) rfl dX3_all_2 (fun v9 σ9 hp9 => ?_) (fun _ _ _ h => False.elim h)
  obtain ⟨rfl, rfl⟩ := hp9
  refine v_ishl (z := nI (2 ^ N.1)) O dX3_all_5 (bx_shl1 (by omega)) ?_
  refine v_iconst (v := nI 1) O dX3_all_6 (by decide) ?_
  refine v_isub (z := nI ((2 ^ N.1) - 1)) O dX3_all_7 (pk_sub (by omega)) ?_
  exact v_iret O rfl dX3_all_8 (by omega) (by omega) (⟨rfl, rfl⟩)
theorem c_X3_mate {G : vGC} (hG : vGok G) {σ : vSt} {m : Nat} {ad : Nat → Nat} {I : Nat → Int32} {F : Nat → Nat → Int32} {L : Nat → Nat → Int64} (hR : RecAt layM σ m ad I F L) {N : NetM} (hE : Enc (F 9) N) (hn : N.1 ≤ 12) {a : Nat} (ha : a < N.1) : Ct G yX3_mate (ws_ yX3_mate cX3_mate 2 (some .int)) 1 0 0 σ [.ref m, .int (nI a)] (fun v σ9 => v = some (.int (N.2.2 a)) ∧ σ9 = σ) vNo := by
  refine ct_of hG (by decide) (Nat.le_of_ble_eq_true rfl) fun X hN O hnm htb => ?_
  show V G X _ 0 0 σ 0 [(0, .ref m), (1, .int (nI a))] []
  obtain ⟨hE0, hE1, hE2⟩ := id hE
  refine v_aload_n O dX3_mate_0 rfl 0 rfl ?_
  refine v_getf (C := RX3) (T := TX3) (N := 27) (v := .ref (ad 9)) O in_X3 hR.ob rfl 9 (by decide) rfl q1501 rfl dX3_mate_1 ?_
  refine v_iconst (v := nI 1) O dX3_mate_4 (by decide) ?_
  refine v_iload_n O dX3_mate_5 rfl 1 rfl ?_
  refine v_iadd (z := nI (1 + a)) O dX3_mate_6 (nI_add 1 a) ?_
  refine v_iald (f := F 9) O (hR.ar 9 rfl) (by omega) (by omega) dX3_mate_7 ?_
  refine v_top (y := (N.2.2 a)) (hE1 a ha) ?_
  exact v_iret O rfl dX3_mate_8 (by omega) (by omega) (⟨rfl, rfl⟩)
theorem c_X3_weight {G : vGC} (hG : vGok G) {σ : vSt} {m : Nat} {ad : Nat → Nat} {I : Nat → Int32} {F : Nat → Nat → Int32} {L : Nat → Nat → Int64} (hR : RecAt layM σ m ad I F L) {N : NetM} (hE : Enc (F 9) N) (hn : N.1 ≤ 12) {a b : Nat} (ha : a < N.1) (hb : b < N.1) : Ct G yX3_weight (ws_ yX3_weight cX3_weight 3 (some .int)) 1 0 0 σ [.ref m, .int (nI a), .int (nI b)] (fun v σ9 => v = some (.int (N.2.1 a b)) ∧ σ9 = σ) vNo := by
  refine ct_of hG (by decide) (Nat.le_of_ble_eq_true rfl) fun X hN O hnm htb => ?_
  show V G X _ 0 0 σ 0 [(0, .ref m), (1, .int (nI a)), (2, .int (nI b))] []
  obtain ⟨hE0, hE1, hE2⟩ := id hE
  refine v_aload_n O dX3_weight_0 rfl 0 rfl ?_
  refine v_getf (C := RX3) (T := TX3) (N := 27) (v := .ref (ad 9)) O in_X3 hR.ob rfl 9 (by decide) rfl q1501 rfl dX3_weight_1 ?_
  refine v_bipush (v := nI 13) O dX3_weight_4 (by decide) ?_
  refine v_bipush (v := nI 12) O dX3_weight_6 (by decide) ?_
  refine v_iload_n O dX3_weight_8 rfl 1 rfl ?_
  refine v_imul (z := nI (12 * a)) O dX3_weight_9 (pk_mul 12 a) ?_
  refine v_iadd (z := nI (13 + (12 * a))) O dX3_weight_10 (nI_add 13 (12 * a)) ?_
  refine v_iload_n O dX3_weight_11 rfl 2 rfl ?_
  refine v_iadd (z := nI ((13 + (12 * a)) + b)) O dX3_weight_12 (nI_add (13 + (12 * a)) b) ?_
  refine v_iald (f := F 9) O (hR.ar 9 rfl) (by omega) (by omega) dX3_weight_13 ?_
  refine v_top (y := (N.2.1 a b)) (hE2 a b ha hb) ?_
  exact v_iret O rfl dX3_weight_14 (by omega) (by omega) (⟨rfl, rfl⟩)
theorem c_X3_has {G : vGC} (hG : vGok G) {σ : vSt} {s k : Nat} (hs : s < 2 ^ 31) (hk : k < 31) : Ct G yX3_has (ws_ yX3_has cX3_has 2 (some .boolean)) 1 0 0 σ [.int (nI s), .int (nI k)] (fun v σ9 => v = some (.int (bI (s.testBit k))) ∧ σ9 = σ) vNo := by
  refine ct_of hG (by decide) (Nat.le_of_ble_eq_true rfl) fun X hN O hnm htb => ?_
  show V G X _ 0 0 σ 0 [(0, .int (nI s)), (1, .int (nI k))] []
  refine v_iload_n O dX3_has_0 rfl 0 rfl ?_
  refine v_iload_n O dX3_has_1 rfl 1 rfl ?_
  refine v_ishr (z := nI (s >>> k)) O dX3_has_2 (bx_shr (by omega) (by omega)) ?_
  refine v_iconst (v := nI 1) O dX3_has_3 (by decide) ?_
  refine v_iand (z := bI (s.testBit k)) O dX3_has_4 bx_has ?_
  refine v_iconst (v := nI 1) O dX3_has_5 (by decide) ?_
  refine v_icmp_ne (tgt := 13) O dX3_has_6 (by decide) (fun h_6 => ?_) (fun h_6 => ?_)
  · refine v_iconst (v := nI 0) O dX3_has_13 (by decide) ?_
    exact v_zret (ty := .boolean) O rfl rfl dX3_has_14 (by omega) (by omega) (⟨bIF (by simpa [bI_1] using h_6), rfl⟩)
  · refine v_iconst (v := nI 1) O dX3_has_9 (by decide) ?_
    refine v_goto (tgt := 14) O dX3_has_10 (by decide) ?_
    exact v_zret (ty := .boolean) O rfl rfl dX3_has_14 (by omega) (by omega) (⟨bIT (bI_1.mp h_6), rfl⟩)
theorem c_X3_in {G : vGC} (hG : vGok G) {σ : vSt} {x lo hi : Int32} : Ct G yX3_in (ws_ yX3_in cX3_in 3 (some .boolean)) 1 0 0 σ [.int x, .int lo, .int hi] (fun v σ9 => v = some (.int (bI (decide (lo ≤ x ∧ x ≤ hi)))) ∧ σ9 = σ) vNo := by
  refine ct_of hG (by decide) (Nat.le_of_ble_eq_true rfl) fun X hN O hnm htb => ?_
  show V G X _ 0 0 σ 0 [(0, .int x), (1, .int lo), (2, .int hi)] []
  refine v_iload_n O dX3_in_0 rfl 0 rfl ?_
  refine v_iload_n O dX3_in_1 rfl 1 rfl ?_
  refine v_icmp_lt (tgt := 14) O dX3_in_2 (by decide) (fun h_2 => ?_) (fun h_2 => ?_)
  · refine v_iconst (v := nI 0) O dX3_in_14 (by decide) ?_
    exact v_zret (ty := .boolean) O rfl rfl dX3_in_15 (by omega) (by omega) (⟨bIF (decide_eq_false (fun h => absurd h_2 (Int32.not_lt.mpr h.1))), rfl⟩)
  · 
    refine v_iload_n O dX3_in_5 rfl 0 rfl ?_
    refine v_iload_n O dX3_in_6 rfl 2 rfl ?_
    refine v_icmp_gt (tgt := 14) O dX3_in_7 (by decide) (fun h_7 => ?_) (fun h_7 => ?_)
    · refine v_iconst (v := nI 0) O dX3_in_14 (by decide) ?_
      exact v_zret (ty := .boolean) O rfl rfl dX3_in_15 (by omega) (by omega) (⟨bIF (decide_eq_false (fun h => absurd h_7 (Int32.not_lt.mpr h.2))), rfl⟩)
    · refine v_iconst (v := nI 1) O dX3_in_10 (by decide) ?_
      refine v_goto (tgt := 15) O dX3_in_11 (by decide) ?_
      exact v_zret (ty := .boolean) O rfl rfl dX3_in_15 (by omega) (by omega) (⟨bIT (decide_eq_true ⟨Int32.not_lt.mp h_2, Int32.not_lt.mp h_7⟩), rfl⟩)
theorem c_X3_less {G : vGC} (hG : vGok G) {σ : vSt} {a b : Nat} (ha : a < 2 ^ 31) (hb : b < 2 ^ 31) : Ct G yX3_less (ws_ yX3_less cX3_less 2 (some .int)) 1 0 0 σ [.int (nI a), .int (nI b)] (fun v σ9 => v = some (.int (nI (min a b))) ∧ σ9 = σ) vNo := by
  refine ct_of hG (by decide) (Nat.le_of_ble_eq_true rfl) fun X hN O hnm htb => ?_
  show V G X _ 0 0 σ 0 [(0, .int (nI a)), (1, .int (nI b))] []
  refine v_iload_n O dX3_less_0 rfl 0 rfl ?_
  refine v_iload_n O dX3_less_1 rfl 1 rfl ?_
  refine v_icmp_geN (tgt := 9) O dX3_less_2 (by decide) (by omega) (by omega) (fun h_2 => ?_) (fun h_2 => ?_)
  · refine v_iload_n O dX3_less_9 rfl 1 rfl ?_
    exact v_iret O rfl dX3_less_10 (by omega) (by omega) (⟨by rw [Nat.min_eq_right (by omega)], rfl⟩)
  · refine v_iload_n O dX3_less_5 rfl 0 rfl ?_
    refine v_goto (tgt := 10) O dX3_less_6 (by decide) ?_
    exact v_iret O rfl dX3_less_10 (by omega) (by omega) (⟨by rw [Nat.min_eq_left (by omega)], rfl⟩)
theorem c_X3_lessR {G : vGC} (hG : vGok G) {σ : vSt} {x y : Int32} : Ct G yX3_less (ws_ yX3_less cX3_less 2 (some .int)) 1 0 0 σ [.int x, .int y] (fun v σ9 => v = some (.int (if x < y then x else y)) ∧ σ9 = σ) vNo := by
  refine ct_of hG (by decide) (Nat.le_of_ble_eq_true rfl) fun X hN O hnm htb => ?_
  show V G X _ 0 0 σ 0 [(0, .int x), (1, .int y)] []
  refine v_iload_n O dX3_less_0 rfl 0 rfl ?_
  refine v_iload_n O dX3_less_1 rfl 1 rfl ?_
  refine v_icmp_ge (tgt := 9) O dX3_less_2 (by decide) (fun h_2 => ?_) (fun h_2 => ?_)
  · refine v_iload_n O dX3_less_9 rfl 1 rfl ?_
    exact v_iret O rfl dX3_less_10 (by omega) (by omega) (⟨by rw [if_neg (Int32.not_lt.mpr h_2)], rfl⟩)
  · refine v_iload_n O dX3_less_5 rfl 0 rfl ?_
    refine v_goto (tgt := 10) O dX3_less_6 (by decide) ?_
    exact v_iret O rfl dX3_less_10 (by omega) (by omega) (⟨by rw [if_pos (Int32.not_le.mp h_2)], rfl⟩)
theorem c_X3_fine {G : vGC} (hG : vGok G) {σ : vSt} {m : Nat} {ad : Nat → Nat} {I : Nat → Int32} {F : Nat → Nat → Int32} {L : Nat → Nat → Int64} (hR : RecAt layM σ m ad I F L) : Ct G yX3_fine (ws_ yX3_fine cX3_fine 1 (some .boolean)) 1 0 0 σ [.ref m] (fun v σ9 => v = some (.int (bI (decide (I 6 = 0)))) ∧ σ9 = σ) vNo := by
  refine ct_of hG (by decide) (Nat.le_of_ble_eq_true rfl) fun X hN O hnm htb => ?_
  show V G X _ 0 0 σ 0 [(0, .ref m)] []
  refine v_aload_n O dX3_fine_0 rfl 0 rfl ?_
  refine v_getf (C := RX3) (T := TX3) (N := 27) (v := .int (I 6)) O in_X3 hR.ob rfl 6 (by decide) rfl q1498 rfl dX3_fine_1 ?_
  refine v_if_ne (tgt := 11) O dX3_fine_4 (by decide) (fun h_4 => ?_) (fun h_4 => ?_)
  · refine v_iconst (v := nI 0) O dX3_fine_11 (by decide) ?_
    exact v_zret (ty := .boolean) O rfl rfl dX3_fine_12 (by omega) (by omega) (⟨bIF (by simpa using h_4), rfl⟩)
  · refine v_iconst (v := nI 1) O dX3_fine_7 (by decide) ?_
    refine v_goto (tgt := 12) O dX3_fine_8 (by decide) ?_
    exact v_zret (ty := .boolean) O rfl rfl dX3_fine_12 (by omega) (by omega) (⟨bIT (by simpa using h_4), rfl⟩)
theorem c_X3_wrong {G : vGC} (hG : vGok G) {σ : vSt} {m : Nat} {ad : Nat → Nat} {I : Nat → Int32} {F : Nat → Nat → Int32} {L : Nat → Nat → Int64} (hR : RecAt layM σ m ad I F L) {x y : Int32} : Ct G yX3_wrong (ws_ yX3_wrong cX3_wrong 3 none) 1 0 0 σ [.ref m, .int x, .int y] (fun v σ9 => v = none ∧ RecAt layM σ9 m ad (if I 6 = 0 then va_up (va_up I 6 x) 7 y else I) F L ∧ FrL [m] σ σ9) vNo := by
  refine ct_of hG (by decide) (Nat.le_of_ble_eq_true rfl) fun X hN O hnm htb => ?_
  show V G X _ 0 0 σ 0 [(0, .ref m), (1, .int x), (2, .int y)] []
  refine v_aload_n O dX3_wrong_0 rfl 0 rfl ?_
  refine v_getf (C := RX3) (T := TX3) (N := 27) (v := .int (I 6)) O in_X3 hR.ob rfl 6 (by decide) rfl q1498 rfl dX3_wrong_1 ?_
  refine v_if_ne (tgt := 17) O dX3_wrong_4 (by decide) (fun h_4 => ?_) (fun h_4 => ?_)
  · exact v_vret O rfl dX3_wrong_17 (by omega) (by omega) (⟨rfl, by rw [if_neg h_4]; exact hR, FrL.rf⟩)
  · refine v_aload_n O dX3_wrong_7 rfl 0 rfl ?_
    refine v_iload_n O dX3_wrong_8 rfl 1 rfl ?_
    refine r_puti (K := layM) (I' := (va_up I 6 x)) (ty0 := tyX3) O hR in_X3 tyX3_ok nmX3 (show vcl[2]? = some (RX3, TX3, 27) from rfl) 6 (by decide) rfl q1498 rfl (tyX3_ok 6 (by decide)) rfl rfl (Nat.le_of_ble_eq_true rfl) rfl dX3_wrong_9 (fun σ1 hR1 hf1 => ?_)
    refine v_aload_n O dX3_wrong_12 rfl 0 rfl ?_
    refine v_iload_n O dX3_wrong_13 rfl 2 rfl ?_
    refine r_puti (K := layM) (I' := (va_up (va_up I 6 x) 7 y)) (ty0 := tyX3) O hR1 in_X3 tyX3_ok nmX3 (show vcl[2]? = some (RX3, TX3, 27) from rfl) 7 (by decide) rfl q1499 rfl (tyX3_ok 7 (by decide)) rfl rfl (Nat.le_of_ble_eq_true rfl) rfl dX3_wrong_14 (fun σ2 hR2 hf2 => ?_)
    exact v_vret O rfl dX3_wrong_17 (by omega) (by omega) (⟨rfl, by rw [if_pos h_4]; exact hR2, (hf1.trans hf2)⟩)
theorem c_X3_changes {G : vGC} (hG : vGok G) {σ : vSt} {m : Nat} {ad : Nat → Nat} {I : Nat → Int32} {F : Nat → Nat → Int32} {L : Nat → Nat → Int64} (hR : RecAt layM σ m ad I F L) : Ct G yX3_changes (ws_ yX3_changes cX3_changes 1 none) 1 0 0 σ [.ref m] (fun v σ9 => v = none ∧ RecAt layM σ9 m ad (va_up I 19 (nI 0)) F L ∧ FrL [m] σ σ9) vNo := by
  refine ct_of hG (by decide) (Nat.le_of_ble_eq_true rfl) fun X hN O hnm htb => ?_
  show V G X _ 0 0 σ 0 [(0, .ref m)] []
  refine v_aload_n O dX3_changes_0 rfl 0 rfl ?_
  refine v_iconst (v := nI 0) O dX3_changes_1 (by decide) ?_
  refine r_puti (K := layM) (I' := (va_up I 19 (nI 0))) (ty0 := tyX3) O hR in_X3 tyX3_ok nmX3 (show vcl[2]? = some (RX3, TX3, 27) from rfl) 19 (by decide) rfl q1511 rfl (tyX3_ok 19 (by decide)) rfl rfl (Nat.le_of_ble_eq_true rfl) rfl dX3_changes_2 (fun σ1 hR1 hf1 => ?_)
  exact v_vret O rfl dX3_changes_5 (by omega) (by omega) (⟨rfl, hR1, hf1⟩)
theorem c_X3_fault {G : vGC} (hG : vGok G) {σ : vSt} {m : Nat} {ad : Nat → Nat} {I : Nat → Int32} {F : Nat → Nat → Int32} {L : Nat → Nat → Int64} (hR : RecAt layM σ m ad I F L) : Ct G yX3_fault (ws_ yX3_fault cX3_fault 1 (some .int)) 1 0 0 σ [.ref m] (fun v σ9 => v = some (.int (I 5)) ∧ RecAt layM σ9 m ad (va_up I 0 (nI 0)) F L ∧ FrL [m] σ σ9) vNo := by
  refine ct_of hG (by decide) (Nat.le_of_ble_eq_true rfl) fun X hN O hnm htb => ?_
  show V G X _ 0 0 σ 0 [(0, .ref m)] []
  refine v_aload_n O dX3_fault_0 rfl 0 rfl ?_
  refine v_iconst (v := nI 0) O dX3_fault_1 (by decide) ?_
  refine r_puti (K := layM) (I' := (va_up I 0 (nI 0))) (ty0 := tyX3) O hR in_X3 tyX3_ok nmX3 (show vcl[2]? = some (RX3, TX3, 27) from rfl) 0 (by decide) rfl q1492 rfl (tyX3_ok 0 (by decide)) rfl rfl (Nat.le_of_ble_eq_true rfl) rfl dX3_fault_2 (fun σ1 hR1 hf1 => ?_)
  refine v_aload_n O dX3_fault_5 rfl 0 rfl ?_
  refine v_getf (C := RX3) (T := TX3) (N := 27) (v := .int (I 5)) O in_X3 hR1.ob rfl 5 (by decide) rfl q1497 rfl dX3_fault_6 ?_
  exact v_iret O rfl dX3_fault_9 (by omega) (by omega) (⟨rfl, hR1, hf1⟩)
theorem c_X3_thrown {G : vGC} (hG : vGok G) {σ : vSt} {m : Nat} {ad : Nat → Nat} {I : Nat → Int32} {F : Nat → Nat → Int32} {L : Nat → Nat → Int64} (hR : RecAt layM σ m ad I F L) : Ct G yX3_thrown (ws_ yX3_thrown cX3_thrown 1 (some .int)) 1 0 0 σ [.ref m] (fun v σ9 => v = some (.int (I 0)) ∧ σ9 = σ) vNo := by
  refine ct_of hG (by decide) (Nat.le_of_ble_eq_true rfl) fun X hN O hnm htb => ?_
  show V G X _ 0 0 σ 0 [(0, .ref m)] []
  refine v_aload_n O dX3_thrown_0 rfl 0 rfl ?_
  refine v_getf (C := RX3) (T := TX3) (N := 27) (v := .int (I 0)) O in_X3 hR.ob rfl 0 (by decide) rfl q1492 rfl dX3_thrown_1 ?_
  exact v_iret O rfl dX3_thrown_4 (by omega) (by omega) (⟨rfl, rfl⟩)
theorem c_X3_bad {G : vGC} (hG : vGok G) {σ : vSt} {m : Nat} {ad : Nat → Nat} {I : Nat → Int32} {F : Nat → Nat → Int32} {L : Nat → Nat → Int64} (hR : RecAt layM σ m ad I F L) {p : Bool} {w r : Nat} (hw : 1 ≤ w ∧ w < 4) (hr : r < 3) (h0 : I 0 = 0) : Ct G yX3_bad (ws_ yX3_bad cX3_bad 4 (some .boolean)) 1 0 0 σ [.ref m, .int (bI p), .int (nI w), .int (nI r)] (fun v σ9 => v = some (.int (bI p)) ∧ RecAt layM σ9 m ad (if p = true then va_up I 0 (nI w) else I) (if p = true then va_up F 1 (va_up (F 1) r (F 1 r + nI 1)) else F) L ∧ FrL [m] σ σ9) vNo := by
  refine ct_of hG (by decide) (Nat.le_of_ble_eq_true rfl) fun X hN O hnm htb => ?_
  show V G X _ 0 0 σ 0 [(0, .ref m), (1, .int (bI p)), (2, .int (nI w)), (3, .int (nI r))] []
  refine v_iload_n O dX3_bad_0 rfl 1 rfl ?_
  refine v_if_eqB (tgt := 26) O dX3_bad_1 (by decide) (fun h_1 => ?_) (fun h_1 => ?_)
  · refine v_aload_n O dX3_bad_26 rfl 0 rfl ?_
    refine v_getf (C := RX3) (T := TX3) (N := 27) (v := .int (I 0)) O in_X3 hR.ob rfl 0 (by decide) rfl q1492 rfl dX3_bad_27 ?_
    refine v_if_eq (tgt := 37) O dX3_bad_30 (by decide) (fun h_30 => ?_) (fun h_30 => ?_)
    · refine v_iconst (v := nI 0) O dX3_bad_37 (by decide) ?_
      exact v_zret (ty := .boolean) O rfl rfl dX3_bad_38 (by omega) (by omega) (⟨by rw [h_1]; rfl, by subst h_1; exact hR, FrL.rf⟩)
    · exact absurd h_30 (fun h => h h0)
  · refine v_aload_n O dX3_bad_4 rfl 0 rfl ?_
    refine v_getf (C := RX3) (T := TX3) (N := 27) (v := .int (I 0)) O in_X3 hR.ob rfl 0 (by decide) rfl q1492 rfl dX3_bad_5 ?_
    refine v_if_ne (tgt := 26) O dX3_bad_8 (by decide) (fun h_8 => ?_) (fun h_8 => ?_)
    · exact absurd h_8 (fun h => h h0)
    · refine v_aload_n O dX3_bad_11 rfl 0 rfl ?_
      refine v_iload_n O dX3_bad_12 rfl 2 rfl ?_
      refine r_puti (K := layM) (I' := (va_up I 0 (nI w))) (ty0 := tyX3) O hR in_X3 tyX3_ok nmX3 (show vcl[2]? = some (RX3, TX3, 27) from rfl) 0 (by decide) rfl q1492 rfl (tyX3_ok 0 (by decide)) rfl rfl (Nat.le_of_ble_eq_true rfl) rfl dX3_bad_13 (fun σ1 hR1 hf1 => ?_)
      refine v_aload_n O dX3_bad_16 rfl 0 rfl ?_
      refine v_getf (C := RX3) (T := TX3) (N := 27) (v := .ref (ad 1)) O in_X3 hR1.ob rfl 1 (by decide) rfl q1493 rfl dX3_bad_17 ?_
      refine v_iload_n O dX3_bad_20 rfl 3 rfl ?_
      refine v_dup2 O dX3_bad_21 rfl rfl ?_
      refine v_iald (f := F 1) O (hR1.ar 1 rfl) (by omega) (by omega) dX3_bad_22 ?_
      refine v_iconst (v := nI 1) O dX3_bad_23 (by decide) ?_
      refine v_iadd (z := ((F 1 r) + nI 1)) O dX3_bad_24 rfl ?_
      refine r_iast (K := layM) O hR1 1 rfl (by omega) (by omega) dX3_bad_25 (fun σ2 hR2 hf2 => ?_)
      refine v_aload_n O dX3_bad_26 rfl 0 rfl ?_
      refine v_getf (C := RX3) (T := TX3) (N := 27) (v := .int (nI w)) O in_X3 hR2.ob rfl 0 (by decide) rfl q1492 rfl dX3_bad_27 ?_
      refine v_if_eqN (tgt := 37) O dX3_bad_30 (by decide) (by omega) (fun h_30 => ?_) (fun h_30 => ?_)
      · omega
      · refine v_iconst (v := nI 1) O dX3_bad_33 (by decide) ?_
        refine v_goto (tgt := 38) O dX3_bad_34 (by decide) ?_
        exact v_zret (ty := .boolean) O rfl rfl dX3_bad_38 (by omega) (by omega) (⟨by rw [h_1]; rfl, by subst h_1; exact hR2, (hf1.trans hf2)⟩)
theorem nI_m1 {n : Nat} (h : 1 ≤ n) : nI n - nI 1 = nI (n - 1) := pk_sub h
theorem mdX3_in : vMd yX3_in 3 := ⟨by decide +kernel, by decide +kernel, by decide +kernel⟩
theorem c_X3_isNode {G : vGC} (hG : vGok G) {σ : vSt} {m : Nat} {ad : Nat → Nat} {I : Nat → Int32} {F : Nat → Nat → Int32} {L : Nat → Nat → Int64} (hR : RecAt layM σ m ad I F L) {N : NetM} (hE : Enc (F 9) N) (hn : N.1 ≤ 12) {x : Int32} (hn1 : 1 ≤ N.1) : Ct G yX3_isNode (ws_ yX3_isNode cX3_isNode 2 (some .boolean)) 2 0 0 σ [.ref m, .int x] (fun v σ9 => v = some (.int (bI (isNd N x))) ∧ σ9 = σ) vNo := by
  refine ct_of hG (by decide) (Nat.le_of_ble_eq_true rfl) fun X hN O hnm htb => ?_
  show V G X _ 0 0 σ 0 [(0, .ref m), (1, .int x)] []
  refine v_iload_n O dX3_isNode_0 rfl 1 rfl ?_
  refine v_iconst (v := nI 0) O dX3_isNode_1 (by decide) ?_
  refine v_aload_n O dX3_isNode_2 rfl 0 rfl ?_
  refine v_callV (as := []) (rest := [.int (nI 0), .int x]) O (c_X3_nodes hG hR hE (by omega)) q1677 q1679 qs47 q77 q1680 hR.ob (show vcl[2]? = some (RX3, TX3, 27) from rfl) rfl mdX3_nodes rfl (by decide) (by omega) (by omega) (by omega) (Nat.le_of_ble_eq_true rfl) rfl dX3_isNode_3 (fun v9 σ9 hp9 => ?_) (fun _ _ _ h => False.elim h)
  obtain ⟨rfl, rfl⟩ := hp9
  refine v_iconst (v := nI 1) O dX3_isNode_6 (by decide) ?_
  refine v_isub (z := nI (N.1 - 1)) O dX3_isNode_7 (pk_sub (by omega)) ?_
  refine v_callS (as := [.int x, .int (nI 0), .int (nI (N.1 - 1))]) (rest := []) O (c_X3_in hG (x := x) (lo := nI 0) (hi := nI (N.1 - 1))) q1587 q1588 q77 q1589 mdX3_in rfl (by decide) (by omega) (by omega) (by omega) (Nat.le_of_ble_eq_true rfl) rfl dX3_isNode_8 (fun v9 σ9 hp9 => ?_) (fun _ _ _ h => False.elim h)
  obtain ⟨rfl, rfl⟩ := hp9
  exact v_zret (ty := .boolean) O rfl (nar_bI _) dX3_isNode_11 (by omega) (by omega) (⟨rfl, rfl⟩)
theorem c_X3_status {G : vGC} (hG : vGok G) {σ : vSt} {m : Nat} {ad : Nat → Nat} {I : Nat → Int32} {F : Nat → Nat → Int32} {L : Nat → Nat → Int64} (hR : RecAt layM σ m ad I F L) {x : Int32} : Ct G yX3_status (ws_ yX3_status cX3_status 2 (some .int)) 2 0 0 σ [.ref m, .int x] (fun v σ9 => v = some (.int (if nI 0 ≤ x ∧ x ≤ nI 2 then F 1 x.toNatClampNeg else -1)) ∧ RecAt layM σ9 m ad (va_up I 0 (nI 0)) F L ∧ FrL [m] σ σ9) vNo := by
  refine ct_of hG (by decide) (Nat.le_of_ble_eq_true rfl) fun X hN O hnm htb => ?_
  show V G X _ 0 0 σ 0 [(0, .ref m), (1, .int x)] []
  refine v_aload_n O dX3_status_0 rfl 0 rfl ?_
  refine v_iconst (v := nI 0) O dX3_status_1 (by decide) ?_
  refine r_puti (K := layM) (I' := (va_up I 0 (nI 0))) (ty0 := tyX3) O hR in_X3 tyX3_ok nmX3 (show vcl[2]? = some (RX3, TX3, 27) from rfl) 0 (by decide) rfl q1492 rfl (tyX3_ok 0 (by decide)) rfl rfl (Nat.le_of_ble_eq_true rfl) rfl dX3_status_2 (fun σ1 hR1 hf1 => ?_)
  refine v_iload_n O dX3_status_5 rfl 1 rfl ?_
  refine v_iconst (v := nI 0) O dX3_status_6 (by decide) ?_
  refine v_iconst (v := nI 2) O dX3_status_7 (by decide) ?_
  refine v_callS (as := [.int x, .int (nI 0), .int (nI 2)]) (rest := []) O (c_X3_in hG (x := x) (lo := nI 0) (hi := nI 2)) q1587 q1588 q77 q1589 mdX3_in rfl (by decide) (by omega) (by omega) (by omega) (Nat.le_of_ble_eq_true rfl) rfl dX3_status_8 (fun v9 σ9 hp9 => ?_) (fun _ _ _ h => False.elim h)
  obtain ⟨rfl, rfl⟩ := hp9
  refine v_if_eqB (tgt := 23) O dX3_status_11 (by decide) (fun h_11 => ?_) (fun h_11 => ?_)
  · have h12 := of_decide_eq_false h_11
    refine v_iconst (v := (-1)) O dX3_status_23 (by decide) ?_
    exact v_iret O rfl dX3_status_24 (by omega) (by omega) (⟨by rw [if_neg h12], hR1, hf1⟩)
  · have h12 := of_decide_eq_true h_11
    obtain ⟨j, hj, rfl⟩ := nI_of2 (n := 2) (M := nI 2) rfl (Int32.not_lt.mpr h12.1) h12.2
    refine v_aload_n O dX3_status_14 rfl 0 rfl ?_
    refine v_getf (C := RX3) (T := TX3) (N := 27) (v := .ref (ad 1)) O in_X3 hR1.ob rfl 1 (by decide) rfl q1493 rfl dX3_status_15 ?_
    refine v_iload_n O dX3_status_18 rfl 1 rfl ?_
    refine v_iald (f := F 1) O (hR1.ar 1 rfl) (by omega) (by omega) dX3_status_19 ?_
    refine v_goto (tgt := 24) O dX3_status_20 (by decide) ?_
    exact v_iret O rfl dX3_status_24 (by omega) (by omega) (⟨by rw [if_pos h12, nI_clamp (by omega)], hR1, hf1⟩)
