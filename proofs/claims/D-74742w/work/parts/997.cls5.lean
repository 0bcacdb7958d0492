theorem cl_nI {a : Nat} (h : a < 2 ^ 31) : cl (nI a) = a := nI_clamp h
theorem bf {b : Bool} (h : b = true) : ¬ b = false := fun e => by rw [h] at e; cases e
theorem c_X1_fault {G : vGC} (hG : vGok G) {σ : vSt} {x : Nat} {W : List Nat} {S : SysM} (hC : ClsAt σ x W S) (hOk : okS S) : Ct G yX1_fault (ws_ yX1_fault cX1_fault 1 (some .int)) 1 0 0 σ [.ref x] (fun v σ9 => v = some (.int (sPl S)) ∧ XPost σ σ9 x W S) vNo := by
  refine ct_of hG (by decide) (Nat.le_of_ble_eq_true rfl) fun X hN O hnm htb => ?_
  show V G X _ 0 0 σ 0 [(0, .ref x)] []
  obtain ⟨ad, I, F, L, ks, rfl, hR, hD, hN0, hK, hW, hX⟩ := id hC
  obtain ⟨w1, w2, w3, w4, w5, w6⟩ := Wd hW
  obtain ⟨hX4, hX5, hXF, hXR⟩ := id hX
  obtain ⟨wa, ma, hob⟩ := hN0.ob
  obtain ⟨hS1, hS2, hS3, hS4, hOkN⟩ := id hOk
  have hn : (sN S).1 ≤ 12 := hOkN.2.1
  have hn1 : 1 ≤ (sN S).1 := hOkN.1
  refine v_aload_n O dX1_fault_0 rfl 0 rfl ?_
  refine v_getf (C := RX1) (T := TX1) (N := 6) (v := .int (sPl S)) O in_X1 hR.ob rfl 5 (by decide) rfl q180 (congrArg (fun z => some (Value.int z)) hX5) dX1_fault_1 ?_
  exact v_iret O rfl dX1_fault_4 (by omega) (by omega) (⟨rfl, (XPost.rf hC)⟩)
theorem c_X1_status {G : vGC} (hG : vGok G) {σ : vSt} {x : Nat} {W : List Nat} {S : SysM} (hC : ClsAt σ x W S) (hOk : okS S) {y : Int32} : Ct G yX1_status (ws_ yX1_status cX1_status 2 (some .int)) 2 0 0 σ [.ref x, .int y] (fun v σ9 => v = some (.int (opStatus S y)) ∧ XPost σ σ9 x W S) vNo := by
  refine ct_of hG (by decide) (Nat.le_of_ble_eq_true rfl) fun X hN O hnm htb => ?_
  show V G X _ 0 0 σ 0 [(0, .ref x), (1, .int y)] []
  obtain ⟨ad, I, F, L, ks, rfl, hR, hD, hN0, hK, hW, hX⟩ := id hC
  obtain ⟨w1, w2, w3, w4, w5, w6⟩ := Wd hW
  obtain ⟨hX4, hX5, hXF, hXR⟩ := id hX
  obtain ⟨wa, ma, hob⟩ := hN0.ob
  obtain ⟨hS1, hS2, hS3, hS4, hOkN⟩ := id hOk
  have hn : (sN S).1 ≤ 12 := hOkN.2.1
  have hn1 : 1 ≤ (sN S).1 := hOkN.1
  refine v_iload_n O dX1_status_0 rfl 1 rfl ?_
  refine v_i2l (z := (Int32.toInt64 y)) O dX1_status_1 rfl ?_
  refine v_lconst (v := 0) O dX1_status_2 (by decide) ?_
  refine v_ldc2 O q541 dX1_status_3 ?_
  refine v_callS (as := [.long (Int32.toInt64 y), .long 0, .long 2]) (rest := []) O (c_X1_isIn hG (x := y) (A := (nI 0)) (B := (nI 2)) rfl (by decide) (by decide)) q542 q543 q72 q544 mdX1_isIn rfl (by decide) (by omega) (by omega) (by omega) (Nat.le_of_ble_eq_true rfl) rfl dX1_status_6 (fun v9 σ9 hp9 => ?_) (fun _ _ _ h => False.elim h)
  obtain ⟨rfl, hs9⟩ := hp9
  obtain rfl := hs9.symm
  refine v_if_eqB (tgt := 21) O dX1_status_9 (by decide) (fun h_9 => ?_) (fun h_9 => ?_)
  · have h12 := of_decide_eq_false h_9
    refine v_iconst (v := (-1)) O dX1_status_21 (by decide) ?_
    exact v_iret O rfl dX1_status_22 (by omega) (by omega) (⟨by rw [opStatus, if_neg h12], (XPost.rf hC)⟩)
  · have h12 := of_decide_eq_true h_9
    obtain ⟨j, hj, rfl⟩ := nI_of2 (n := 2) (M := nI 2) rfl (Int32.not_lt.mpr h12.1) h12.2
    refine v_aload_n O dX1_status_12 rfl 0 rfl ?_
    refine v_getf (C := RX1) (T := TX1) (N := 6) (v := .ref (ad 1)) O in_X1 hR.ob rfl 1 (by decide) rfl q176 rfl dX1_status_13 ?_
    refine v_iload_n O dX1_status_16 rfl 1 rfl ?_
    refine v_iald (f := F 1) O (hR.ar 1 rfl) (by omega) (by omega) dX1_status_17 ?_
    refine v_goto (tgt := 22) O dX1_status_18 (by decide) ?_
    exact v_iret O rfl dX1_status_22 (by omega) (by omega) (⟨by rw [opStatus, if_pos h12, cl, nI_clamp (by omega), ← hXR j (by omega)], (XPost.rf hC)⟩)
theorem mdX1_needTwo : vMd yX1_needTwo 2 := ⟨by decide +kernel, by decide +kernel, by decide +kernel⟩
theorem mdX1_need : vMd yX1_need 1 := ⟨by decide +kernel, by decide +kernel, by decide +kernel⟩
theorem mdX1_keeps : vMd yX1_keeps 0 := ⟨by decide +kernel, by decide +kernel, by decide +kernel⟩
theorem mdX2_lines : vMd yX2_lines 0 := ⟨by decide +kernel, by decide +kernel, by decide +kernel⟩
theorem c_X1_join {G : vGC} (hG : vGok G) {σ : vSt} {x : Nat} {W : List Nat} {S : SysM} (hC : ClsAt σ x W S) (hOk : okS S) {y z y3 : Int32} : Ct G yX1_join (ws_ yX1_join cX1_join 4 (some .int)) 9 18 189 σ [.ref x, .int y, .int z, .int y3] (fun v σ9 => v = some (.int (opJoin S y z y3).2.1) ∧ (opJoin S y z y3).1 = 0 ∧ XPost σ σ9 x W (opJoin S y z y3).2.2) (fun E q σ9 => XThr ["java/util/NoSuchElementException", "java/lang/IllegalArgumentException"] E (opJoin S y z y3) ∧ XPost σ σ9 x W (opJoin S y z y3).2.2) := by
  refine ct_of hG (by decide) (Nat.le_of_ble_eq_true rfl) fun X hN O hnm htb => ?_
  show V G X _ 0 0 σ 0 [(0, .ref x), (1, .int y), (2, .int z), (3, .int y3)] []
  obtain ⟨ad, I, F, L, ks, rfl, hR, hD, hN0, hK, hW, hX⟩ := id hC
  obtain ⟨w1, w2, w3, w4, w5, w6⟩ := Wd hW
  obtain ⟨hX4, hX5, hXF, hXR⟩ := id hX
  obtain ⟨wa, ma, hob⟩ := hN0.ob
  obtain ⟨hS1, hS2, hS3, hS4, hOkN⟩ := id hOk
  have hn : (sN S).1 ≤ 12 := hOkN.2.1
  have hn1 : 1 ≤ (sN S).1 := hOkN.1
  refine v_aload_n O dX1_join_0 rfl 0 rfl ?_
  refine v_iload_n O dX1_join_1 rfl 1 rfl ?_
  refine v_iload_n O dX1_join_2 rfl 2 rfl ?_
  refine v_callV (as := [.int y, .int z]) (rest := []) O (c_X1_needTwo hG hC hOk (y := y) (z := z)) q1149 q1151 qs24 q72 q1152 hR.ob (show vcl[0]? = some (RX1, TX1, 6) from rfl) rfl mdX1_needTwo rfl (by decide) (by omega) (by omega) (by omega) (Nat.le_of_ble_eq_true rfl) rfl dX1_join_3 (fun v9 σ9 hp9 => ?_) (fun E9 q9 σ9 hx9 => ?_)
  · obtain ⟨rfl, hq1, hs9⟩ := hp9
    obtain rfl := hs9.symm
    have hqa1 := (Bool.and_eq_true _ _ ▸ hq1 : _ ∧ _).1
    have hqb1 := (Bool.and_eq_true _ _ ▸ hq1 : _ ∧ _).2
    obtain ⟨a, haN, rfl⟩ := isNd_t hn1 hn hqa1
    obtain ⟨b, hbN, rfl⟩ := isNd_t hn1 hn hqb1
    refine v_aload_n O dX1_join_6 rfl 0 rfl ?_
    refine v_iload_n O dX1_join_7 rfl 1 rfl ?_
    refine v_iload_n O dX1_join_8 rfl 2 rfl ?_
    refine v_icmp_eqN (tgt := 28) O dX1_join_9 (by decide) (by omega) (by omega) (fun h_9 => ?_) (fun h_9 => ?_)
    · refine v_iconst (v := nI 0) O dX1_join_28 (by decide) ?_
      show V G X _ _ _ σ 29 [(0, .ref x), (1, .int (nI a)), (2, .int (nI b)), (3, .int y3)] [.int (bI false), .ref x]
      refine v_callV (as := [.int (bI false)]) (rest := []) O (c_X1_need hG hC (b := false)) q554 q556 qs10 q72 q557 hR.ob (show vcl[0]? = some (RX1, TX1, 6) from rfl) rfl mdX1_need rfl (by decide) (by omega) (by omega) (by omega) (Nat.le_of_ble_eq_true rfl) rfl dX1_join_29 (fun v9 σ9 hp9 => ?_) (fun E9 q9 σ9 hx9 => ?_)
      · obtain ⟨rfl, hq2, hs9⟩ := hp9
        obtain rfl := hs9.symm
        cases hq2
        
      · obtain ⟨hx3, rfl, hxp3⟩ := hx9
        exact v_out O (fun z hz => (htb z hz).elim) (by omega) (by omega) (thr_mk (k := 2) (v := nI 0) (by unfold opJoin; rw [if_neg (bf hq1), if_pos (by rw [h_9, decide_eq_true rfl]; rfl)]) (by decide) rfl hxp3)
    · refine v_iload_n O dX1_join_12 rfl 3 rfl ?_
      refine v_i2l (z := (Int32.toInt64 y3)) O dX1_join_13 rfl ?_
      refine v_lconst (v := 0) O dX1_join_14 (by decide) ?_
      refine v_ldc2 O q1163 dX1_join_15 ?_
      refine v_callS (as := [.long (Int32.toInt64 y3), .long 0, .long 999]) (rest := [.ref x]) O (c_X1_isIn hG (x := y3) (A := (nI 0)) (B := (nI 999)) rfl (by decide) (by decide)) q542 q543 q72 q544 mdX1_isIn rfl (by decide) (by omega) (by omega) (by omega) (Nat.le_of_ble_eq_true rfl) rfl dX1_join_18 (fun v9 σ9 hp9 => ?_) (fun _ _ _ h => False.elim h)
      obtain ⟨rfl, hs9⟩ := hp9
      obtain rfl := hs9.symm
      refine v_if_eqB (tgt := 28) O dX1_join_21 (by decide) (fun h_21 => ?_) (fun h_21 => ?_)
      · refine v_iconst (v := nI 0) O dX1_join_28 (by decide) ?_
        show V G X _ _ _ σ 29 [(0, .ref x), (1, .int (nI a)), (2, .int (nI b)), (3, .int y3)] [.int (bI false), .ref x]
        refine v_callV (as := [.int (bI false)]) (rest := []) O (c_X1_need hG hC (b := false)) q554 q556 qs10 q72 q557 hR.ob (show vcl[0]? = some (RX1, TX1, 6) from rfl) rfl mdX1_need rfl (by decide) (by omega) (by omega) (by omega) (Nat.le_of_ble_eq_true rfl) rfl dX1_join_29 (fun v9 σ9 hp9 => ?_) (fun E9 q9 σ9 hx9 => ?_)
        · obtain ⟨rfl, hq4, hs9⟩ := hp9
          obtain rfl := hs9.symm
          cases hq4
          
        · obtain ⟨hx5, rfl, hxp5⟩ := hx9
          exact v_out O (fun z hz => (htb z hz).elim) (by omega) (by omega) (thr_mk (k := 2) (v := nI 0) (by unfold opJoin; rw [if_neg (bf hq1), if_pos (by rw [h_21]; simp)]) (by decide) rfl hxp5)
      · refine v_iconst (v := nI 1) O dX1_join_24 (by decide) ?_
        refine v_goto (tgt := 29) O dX1_join_25 (by decide) ?_
        show V G X _ _ _ σ 29 [(0, .ref x), (1, .int (nI a)), (2, .int (nI b)), (3, .int y3)] [.int (bI true), .ref x]
        refine v_callV (as := [.int (bI true)]) (rest := []) O (c_X1_need hG hC (b := true)) q554 q556 qs10 q72 q557 hR.ob (show vcl[0]? = some (RX1, TX1, 6) from rfl) rfl mdX1_need rfl (by decide) (by omega) (by omega) (by omega) (Nat.le_of_ble_eq_true rfl) rfl dX1_join_29 (fun v9 σ9 hp9 => ?_) (fun E9 q9 σ9 hx9 => ?_)
        · obtain ⟨rfl, hq6, hs9⟩ := hp9
          obtain rfl := hs9.symm
          refine v_aload_n O dX1_join_32 rfl 0 rfl ?_
          refine v_callV (as := []) (rest := []) O (c_X1_keeps hG hC hOk) q318 q320 qs6 q72 q321 hR.ob (show vcl[0]? = some (RX1, TX1, 6) from rfl) rfl mdX1_keeps rfl (by decide) (by omega) (by omega) (by omega) (Nat.le_of_ble_eq_true rfl) rfl dX1_join_33 (fun v9 σ8 hp9 => ?_) (fun _ _ _ h => False.elim h)
          obtain ⟨rfl, W7, hC7, hfx7, hgx7⟩ := hp9
          obtain ⟨ad9, I9, F9, L9, ks9, rfl, hR9, hD9, hN9, hK9, hW9, hX9⟩ := id hC7
          obtain ⟨w1_9, w2_9, w3_9, w4_9, w5_9, w6_9⟩ := Wd hW9
          replace hN9 : NetAt _ _ (sN S) := hN9
          obtain ⟨wa9, ma9, hob9⟩ := hN9.ob
          refine v_aload_n O dX1_join_36 rfl 0 rfl ?_
          refine v_getf (C := RX1) (T := TX1) (N := 6) (v := .ref (ad9 3)) O in_X1 hR9.ob rfl 3 (by decide) rfl q178 rfl dX1_join_37 ?_
          refine v_iload_n O dX1_join_40 rfl 1 rfl ?_
          refine v_iload_n O dX1_join_41 rfl 2 rfl ?_
          refine v_iload_n O dX1_join_42 rfl 3 rfl ?_
          refine v_callV (as := [.int (nI a), .int (nI b), .int y3]) (rest := []) O (c_X2_joins hG hN9 (by omega) (a := a) (b := b) (w := y3) (by omega) (by omega)) q170 q171 q172 q75 q173 hob9 (show vcl[1]? = some (RX2, TX2, 3) from rfl) rfl mdX2_joins rfl (by decide) (by omega) (by omega) (by omega) (Nat.le_of_ble_eq_true rfl) rfl dX1_join_43 (fun v9 σ11 hp9 => ?_) (fun _ _ _ h => False.elim h)
          obtain ⟨rfl, hN_10, hf_10⟩ := hp9
          obtain ⟨wa10, ma10, hob10⟩ := hN_10.ob
          have hmn10 : (setW (sN S) a b y3).1 ≤ 12 := hn
          have hme10 : (setW (sN S) a b y3).1 = (sN S).1 := rfl
          have hDq_12 := hD9.fr hf_10 (by simp [w1_9, Ne.symm w1_9, w3_9, Ne.symm w3_9])
          have hRx10 := hR9.fr hf_10 (by simp [w1_9, w2_9])
          refine v_aload_n O dX1_join_46 rfl 0 rfl ?_
          refine v_getf (C := RX1) (T := TX1) (N := 6) (v := .ref (ad9 3)) O in_X1 hRx10.ob rfl 3 (by decide) rfl q178 rfl dX1_join_47 ?_
          refine v_callV (as := []) (rest := []) O (c_X2_lines hG hN_10 (by omega) ) q1132 q1133 q1134 q75 q1135 hob10 (show vcl[1]? = some (RX2, TX2, 3) from rfl) rfl mdX2_lines rfl (by decide) (by omega) (by omega) (by omega) (Nat.le_of_ble_eq_true rfl) rfl dX1_join_50 (fun v9 σ9 hp9 => ?_) (fun _ _ _ h => False.elim h)
          obtain ⟨rfl, hs9⟩ := hp9
          obtain rfl := hs9.symm
          exact v_iret O rfl dX1_join_53 (by omega) (by omega) (ans_mk (by
                        have hoj : okN (setW (sN S) a b y3) := by
                          obtain ⟨k, hk, rfl⟩ := nI_of2 (n := 999) (M := nI 999) rfl (Int32.not_lt.mpr (of_decide_eq_true h_21).1) (of_decide_eq_true h_21).2
                          exact okN_setW hOkN haN hbN h_9 (.inr ⟨k, hk, rfl⟩)
                        unfold opJoin
                        rw [if_neg (bf hq1), if_neg (by rw [h_21, decide_eq_false (fun e => h_9 (nI_inj (by omega) (by omega) e))]; decide), cl_nI (by omega), cl_nI (by omega), linesN_M hoj]
                        rfl) (XPost.tr hfx7 hgx7 (XPost.net hR9 hD9 hN_10 hK9 hW9 hf_10 hX9)))
        · cases hx9.1
  · obtain ⟨hx13, rfl, hxp13⟩ := hx9
    exact v_out O (fun z hz => (htb z hz).elim) (by omega) (by omega) (thr_mk (k := 1) (v := nI 0) (by unfold opJoin; rw [if_pos hx13]) (by decide) rfl hxp13)
