theorem c_X3_number {G : vGC} (hG : vGok G) {σ : vSt} {m : Nat} {ad : Nat → Nat} {I : Nat → Int32} {F : Nat → Nat → Int32} {L : Nat → Nat → Int64} (hR : RecAt layM σ m ad I F L) {b : Nat → Nat} {n : Nat} (hT : TxIs I F b n) {lo hi but : Nat} {s : Rst} (hlh : lo < 4096 ∧ hi < 4096 ∧ but < 4096) (hs : RdSt I n s) : Ct G yX3_number (ws_ yX3_number cX3_number 6 (some .int)) 3 0 0 σ [.ref m, .int (nI lo), .int (nI hi), .int (nI but)] (fun v σ9 => ∃ x : Nat, v = some (.int (nI x)) ∧ (∀ w q, s.bind (numR b n lo hi but) = .ok (w, q) → nI x = nI w) ∧ ∃ I' : Nat → Int32, RecAt layM σ9 m ad I' F L ∧ FrL [m] σ σ9 ∧ RdSt I' n (s.bind fun p => (numR b n lo hi but p).map Prod.snd) ∧ ∀ j, j ≠ 4 → j ≠ 6 → j ≠ 7 → I' j = I j) vNo := by
  cases s with
  | ok p => exact c_X3_number_k hG hR hT hlh hs
  | error e => exact c_X3_number_e hG hR hT hs
theorem mdX3_number : vMd yX3_number 3 := ⟨by decide +kernel, by decide +kernel, by decide +kernel⟩
theorem c_X3_nodeTold {G : vGC} (hG : vGok G) {σ : vSt} {m : Nat} {ad : Nat → Nat} {I : Nat → Int32} {F : Nat → Nat → Int32} {L : Nat → Nat → Int64} (hR : RecAt layM σ m ad I F L) {b : Nat → Nat} {n : Nat} (hT : TxIs I F b n) {M : NetM} (hE : Enc (F 10) M) (hM : 1 ≤ M.1 ∧ M.1 ≤ 12) {but : Nat} {s : Rst} (hbut : but < 4096) (hs : RdSt I n s) : Ct G yX3_nodeTold (ws_ yX3_nodeTold cX3_nodeTold 2 (some .int)) 4 0 0 σ [.ref m, .int (nI but)] (fun v σ9 => ∃ x : Nat, v = some (.int (nI x)) ∧ (∀ w q, s.bind (numR b n 0 (M.1 - 1) but) = .ok (w, q) → nI x = nI w) ∧ ∃ I' : Nat → Int32, RecAt layM σ9 m ad I' F L ∧ FrL [m] σ σ9 ∧ RdSt I' n (s.bind fun p => (numR b n 0 (M.1 - 1) but p).map Prod.snd) ∧ ∀ j, j ≠ 4 → j ≠ 6 → j ≠ 7 → I' j = I j) vNo := by
  refine ct_of hG (by decide) (Nat.le_of_ble_eq_true rfl) fun X hN O hnm htb => ?_
  show V G X _ 0 0 σ 0 [(0, .ref m), (1, .int (nI but))] []
  obtain ⟨hT3, hTn, hTb, hTl⟩ := id hT
  refine v_aload_n O dX3_nodeTold_0 rfl 0 rfl ?_
  refine v_iconst (v := nI 0) O dX3_nodeTold_1 (by decide) ?_
  refine v_aload_n O dX3_nodeTold_2 rfl 0 rfl ?_
  refine v_getf (C := RX3) (T := TX3) (N := 27) (v := .ref (ad 10)) O in_X3 hR.ob rfl 10 (by decide) rfl q1502 rfl dX3_nodeTold_3 ?_
  refine v_iconst (v := nI 0) O dX3_nodeTold_6 (by decide) ?_
  refine v_iald (f := F 10) O (hR.ar 10 rfl) (by omega) (by omega) dX3_nodeTold_7 ?_
  refine v_top (y := nI M.1) hE.1 ?_
  refine v_iconst (v := nI 1) O dX3_nodeTold_8 (by decide) ?_
  refine v_isub (z := nI (M.1 - 1)) O dX3_nodeTold_9 (pk_sub (by omega)) ?_
  refine v_iload_n O dX3_nodeTold_10 rfl 1 rfl ?_
  refine v_callV (as := [.int (nI 0), .int (nI (M.1 - 1)), .int (nI but)]) (rest := []) O (c_X3_number hG hR hT (lo := 0) (hi := M.1 - 1) (but := but) (s := s) (by omega) hs) q1627 q1629 qs38 q77 q1630 hR.ob (show vcl[2]? = some (RX3, TX3, 27) from rfl) rfl mdX3_number rfl (by decide) (by omega) (by omega) (by omega) (Nat.le_of_ble_eq_true rfl) rfl dX3_nodeTold_11 (fun v9 σ2 hp9 => ?_) (fun _ _ _ h => False.elim h)
  obtain ⟨x1, rfl, hx1, I1, hR1, hf1, hs1, hI1⟩ := hp9
  have hT1 : TxIs I1 F b n := TxIs.of hT (hI1 3 (by omega) (by omega) (by omega)) rfl
  exact v_iret O rfl dX3_nodeTold_14 (by omega) (by omega) (⟨_, rfl, hx1, _, hR1, hf1, hs1, hI1⟩)
theorem c_X3_comes_k {G : vGC} (hG : vGok G) {σ : vSt} {m : Nat} {ad : Nat → Nat} {I : Nat → Int32} {F : Nat → Nat → Int32} {L : Nat → Nat → Int64} (hR : RecAt layM σ m ad I F L) (h6 : I 6 = nI 0) {M : NetM} (hE : Enc (F 10) M) (hM : M.1 ≤ 12) {u v : Nat} (hu : u < M.1) (hv : v < M.1) : Ct G yX3_comes (ws_ yX3_comes cX3_comes 3 none) 2 0 0 σ [.ref m, .int (nI u), .int (nI v)] (fun r9 σ9 => r9 = none ∧ ∃ F' : Nat → Nat → Int32, RecAt layM σ9 m ad I F' L ∧ FrL [m] σ σ9 ∧ (∀ j, j ≠ 10 → F' j = F j) ∧ Enc (F' 10) (newW M u v)) vNo := by
  refine ct_of hG (by decide) (Nat.le_of_ble_eq_true rfl) fun X hN O hnm htb => ?_
  show V G X _ 0 0 σ 0 [(0, .ref m), (1, .int (nI u)), (2, .int (nI v))] []
  refine v_aload_n O dX3_comes_0 rfl 0 rfl ?_
  refine v_callV (as := []) (rest := []) O (c_X3_fine hG hR ) q1599 q1601 qs34 q77 q1602 hR.ob (show vcl[2]? = some (RX3, TX3, 27) from rfl) rfl mdX3_fine rfl (by decide) (by omega) (by omega) (by omega) (Nat.le_of_ble_eq_true rfl) rfl dX3_comes_1 (fun v9 σ9 hp9 => ?_) (fun _ _ _ h => False.elim h)
  obtain ⟨rfl, hs9⟩ := hp9
  obtain rfl := hs9.symm
  refine v_if_eqB (tgt := 35) O dX3_comes_4 (by decide) (fun h_4 => ?_) (fun h_4 => ?_)
  · exact absurd h_4 (by rw [show I 6 = 0 from h6]; decide)
  · refine v_aload_n O dX3_comes_7 rfl 0 rfl ?_
    refine v_getf (C := RX3) (T := TX3) (N := 27) (v := .ref (ad 10)) O in_X3 hR.ob rfl 10 (by decide) rfl q1502 rfl dX3_comes_8 ?_
    refine v_bipush (v := nI 13) O dX3_comes_11 (by decide) ?_
    refine v_bipush (v := nI 12) O dX3_comes_13 (by decide) ?_
    refine v_iload_n O dX3_comes_15 rfl 1 rfl ?_
    refine v_imul (z := nI (12 * u)) O dX3_comes_16 (pk_mul 12 u) ?_
    refine v_iadd (z := nI (13 + (12 * u))) O dX3_comes_17 (nI_add 13 (12 * u)) ?_
    refine v_iload_n O dX3_comes_18 rfl 2 rfl ?_
    refine v_iadd (z := nI ((13 + (12 * u)) + v)) O dX3_comes_19 (nI_add (13 + (12 * u)) v) ?_
    refine v_iald (f := F 10) O (hR.ar 10 rfl) (by omega) (by omega) dX3_comes_20 ?_
    refine v_top (y := (M.2.1 u v)) (hE.2.2 u v hu hv) ?_
    refine v_iconst (v := (-1)) O dX3_comes_21 (by decide) ?_
    refine v_icmp_ne (tgt := 35) O dX3_comes_22 (by decide) (fun h_22 => ?_) (fun h_22 => ?_)
    · exact v_vret O rfl dX3_comes_35 (by omega) (by omega) (⟨rfl, F, hR, FrL.rf, fun _ _ => rfl, by rw [newW, if_pos (by simp [ln, h_22])]; exact hE⟩)
    · refine v_aload_n O dX3_comes_25 rfl 0 rfl ?_
      refine v_getf (C := RX3) (T := TX3) (N := 27) (v := .ref (ad 10)) O in_X3 hR.ob rfl 10 (by decide) rfl q1502 rfl dX3_comes_26 ?_
      refine v_iload_n O dX3_comes_29 rfl 1 rfl ?_
      refine v_iload_n O dX3_comes_30 rfl 2 rfl ?_
      refine v_iconst (v := nI 1) O dX3_comes_31 (by decide) ?_
      refine v_callS (as := [.ref (ad 10), .int (nI u), .int (nI v), .int (nI 1)]) (rest := []) O (c_X3_joins hG (f := F 10) (a := u) (b := v) (w := nI 1) hR.nz (hR.ar 10 rfl) (by omega) (by omega)) q1485 q1486 q77 q1487 mdX3_joins rfl (by decide) (by omega) (by omega) (by omega) (Nat.le_of_ble_eq_true rfl) rfl dX3_comes_32 (fun v9 σ9 hp9 => ?_) (fun _ _ _ h => False.elim h)
      obtain ⟨rfl, rfl⟩ := hp9
      have hR1 := hR.sa (10) rfl (va_up (va_up (F 10) (13 + 12 * u + v) (nI 1)) (13 + 12 * v + u) (nI 1))
      have hf1 := FrL.up (L := [m]) (e' := (m, .inl (0, 157, .inl (va_up (va_up (F 10) (13 + 12 * u + v) (nI 1)) (13 + 12 * v + u) (nI 1))))) (hR.ar 10 rfl) (by simp)
      generalize vUp σ (ad (10)) (m, .inl (0, 157, .inl (va_up (va_up (F 10) (13 + 12 * u + v) (nI 1)) (13 + 12 * v + u) (nI 1)))) = σ1 at hR1 hf1 ⊢
      exact v_vret O rfl dX3_comes_35 (by omega) (by omega) (⟨rfl, _, hR1, hf1, (fun j hj => by funext z; simp [va_up, hj]), by rw [newW, if_neg (by simp [ln, h_22])]; have e9 : (va_up F (10) (va_up (va_up (F 10) (13 + 12 * u + v) (nI 1)) (13 + 12 * v + u) (nI 1))) 10 = (va_up (va_up (F 10) (13 + 12 * u + v) (nI 1)) (13 + 12 * v + u) (nI 1)) := (by funext z; simp [va_up]); rw [e9]; exact hE.setW (by omega) (by omega) (by omega)⟩)
theorem c_X3_comes_e {G : vGC} (hG : vGok G) {σ : vSt} {m : Nat} {ad : Nat → Nat} {I : Nat → Int32} {F : Nat → Nat → Int32} {L : Nat → Nat → Int64} (hR : RecAt layM σ m ad I F L) (h6 : ¬ I 6 = 0) {x y : Int32} : Ct G yX3_comes (ws_ yX3_comes cX3_comes 3 none) 2 0 0 σ [.ref m, .int x, .int y] (fun v σ9 => v = none ∧ σ9 = σ) vNo := by
  refine ct_of hG (by decide) (Nat.le_of_ble_eq_true rfl) fun X hN O hnm htb => ?_
  show V G X _ 0 0 σ 0 [(0, .ref m), (1, .int x), (2, .int y)] []
  refine v_aload_n O dX3_comes_0 rfl 0 rfl ?_
  refine v_callV (as := []) (rest := []) O (c_X3_fine hG hR ) q1599 q1601 qs34 q77 q1602 hR.ob (show vcl[2]? = some (RX3, TX3, 27) from rfl) rfl mdX3_fine rfl (by decide) (by omega) (by omega) (by omega) (Nat.le_of_ble_eq_true rfl) rfl dX3_comes_1 (fun v9 σ9 hp9 => ?_) (fun _ _ _ h => False.elim h)
  obtain ⟨rfl, hs9⟩ := hp9
  obtain rfl := hs9.symm
  refine v_if_eqB (tgt := 35) O dX3_comes_4 (by decide) (fun h_4 => ?_) (fun h_4 => ?_)
  · exact v_vret O rfl dX3_comes_35 (by omega) (by omega) (⟨rfl, rfl⟩)
  · exact absurd h_4 (by simp [h6])
