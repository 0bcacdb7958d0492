theorem mdX1_put : vMd yX1_put 1 := ⟨by decide +kernel, by decide +kernel, by decide +kernel⟩
theorem c_X1_feed {G : vGC} (hG : vGok G) {σ : vSt} {x : Nat} {W : List Nat} {S : SysM} (hC : ClsAt σ x W S) (hOk : okS S) {a b c d e : Int32} : Ct G yX1_feed (ws_ yX1_feed cX1_feed 6 (some .int)) 3 0 0 σ [.ref x, .int a, .int b, .int c, .int d, .int e] (fun v σ9 => v = some (.int (opFeed S a b c d e).1) ∧ XPost σ σ9 x W (opFeed S a b c d e).2) vNo := by
  refine ct_of hG (by decide) (Nat.le_of_ble_eq_true rfl) fun X hN O hnm htb => ?_
  show V G X _ 0 0 σ 0 [(0, .ref x), (1, .int a), (2, .int b), (3, .int c), (4, .int d), (5, .int e)] []
  obtain ⟨ad, I, F, L, ks, rfl, hR, hD, hN0, hK, hW, hX⟩ := id hC
  obtain ⟨w1, w2, w3, w4, w5, w6⟩ := Wd hW
  obtain ⟨hX4, hX5, hXF, hXR⟩ := id hX
  obtain ⟨wa, ma, hob⟩ := hN0.ob
  obtain ⟨hS1, hS2, hS3, hS4, hOkN⟩ := id hOk
  have hn : (sN S).1 ≤ 12 := hOkN.2.1
  have hn1 : 1 ≤ (sN S).1 := hOkN.1
  refine v_aload_n O dX1_feed_0 rfl 0 rfl ?_
  refine v_getf (C := RX1) (T := TX1) (N := 6) (v := .int (nI (sTp S))) O in_X1 hR.ob rfl 4 (by decide) rfl q179 (congrArg (fun z => some (Value.int z)) hX4) dX1_feed_1 ?_
  refine v_bipush (v := nI 20) O dX1_feed_4 (by decide) ?_
  refine v_iadd (z := nI (sTp S + 20)) O dX1_feed_6 (nI_add (sTp S) 20) ?_
  refine v_sipush (v := nI 500) O dX1_feed_7 (by decide) ?_
  refine v_icmp_leN (tgt := 15) O dX1_feed_10 (by decide) (by omega) (by omega) (fun h_10 => ?_) (fun h_10 => ?_)
  · refine v_aload_n O dX1_feed_15 rfl 0 rfl ?_
    refine v_iload_n O dX1_feed_16 rfl 1 rfl ?_
    refine v_callV (as := [.int a]) (rest := []) O (c_X1_put hG hC hOk (show sTp S + 4 ≤ 500 by omega) (y := a)) q198 q200 qs0 q72 q201 hR.ob (show vcl[0]? = some (RX1, TX1, 6) from rfl) rfl mdX1_put rfl (by decide) (by omega) (by omega) (by omega) (Nat.le_of_ble_eq_true rfl) rfl dX1_feed_17 (fun v9 σ2 hp9 => ?_) (fun _ _ _ h => False.elim h)
    obtain ⟨rfl, W1, hC1, hfx1, hgx1⟩ := hp9
    have hOk1 := putS_ok hOk (show sTp S + 4 ≤ 500 by omega) a
    obtain ⟨ad3, I3, F3, L3, ks3, rfl, hR3, hD3, hN3, hK3, hW3, hX3⟩ := id hC1
    obtain ⟨w1_3, w2_3, w3_3, w4_3, w5_3, w6_3⟩ := Wd hW3
    replace hN3 : NetAt _ _ (sN S) := hN3
    obtain ⟨wa3, ma3, hob3⟩ := hN3.ob
    refine v_aload_n O dX1_feed_20 rfl 0 rfl ?_
    refine v_iload_n O dX1_feed_21 rfl 2 rfl ?_
    refine v_callV (as := [.int b]) (rest := []) O (c_X1_put hG hC1 hOk1 (show sTp S + 4 + 4 ≤ 500 by omega) (y := b)) q198 q200 qs0 q72 q201 hR3.ob (show vcl[0]? = some (RX1, TX1, 6) from rfl) rfl mdX1_put rfl (by decide) (by omega) (by omega) (by omega) (Nat.le_of_ble_eq_true rfl) rfl dX1_feed_22 (fun v9 σ5 hp9 => ?_) (fun _ _ _ h => False.elim h)
    obtain ⟨rfl, W4, hC4, hfx4, hgx4⟩ := hp9
    have hOk4 := putS_ok hOk1 (show sTp S + 4 + 4 ≤ 500 by omega) b
    obtain ⟨ad6, I6, F6, L6, ks6, rfl, hR6, hD6, hN6, hK6, hW6, hX6⟩ := id hC4
    obtain ⟨w1_6, w2_6, w3_6, w4_6, w5_6, w6_6⟩ := Wd hW6
    replace hN6 : NetAt _ _ (sN S) := hN6
    obtain ⟨wa6, ma6, hob6⟩ := hN6.ob
    refine v_aload_n O dX1_feed_25 rfl 0 rfl ?_
    refine v_iload_n O dX1_feed_26 rfl 3 rfl ?_
    refine v_callV (as := [.int c]) (rest := []) O (c_X1_put hG hC4 hOk4 (show sTp S + 4 + 4 + 4 ≤ 500 by omega) (y := c)) q198 q200 qs0 q72 q201 hR6.ob (show vcl[0]? = some (RX1, TX1, 6) from rfl) rfl mdX1_put rfl (by decide) (by omega) (by omega) (by omega) (Nat.le_of_ble_eq_true rfl) rfl dX1_feed_27 (fun v9 σ8 hp9 => ?_) (fun _ _ _ h => False.elim h)
    obtain ⟨rfl, W7, hC7, hfx7, hgx7⟩ := hp9
    have hOk7 := putS_ok hOk4 (show sTp S + 4 + 4 + 4 ≤ 500 by omega) c
    obtain ⟨ad9, I9, F9, L9, ks9, rfl, hR9, hD9, hN9, hK9, hW9, hX9⟩ := id hC7
    obtain ⟨w1_9, w2_9, w3_9, w4_9, w5_9, w6_9⟩ := Wd hW9
    replace hN9 : NetAt _ _ (sN S) := hN9
    obtain ⟨wa9, ma9, hob9⟩ := hN9.ob
    refine v_aload_n O dX1_feed_30 rfl 0 rfl ?_
    refine v_iload O dX1_feed_31 4 rfl ?_
    refine v_callV (as := [.int d]) (rest := []) O (c_X1_put hG hC7 hOk7 (show sTp S + 4 + 4 + 4 + 4 ≤ 500 by omega) (y := d)) q198 q200 qs0 q72 q201 hR9.ob (show vcl[0]? = some (RX1, TX1, 6) from rfl) rfl mdX1_put rfl (by decide) (by omega) (by omega) (by omega) (Nat.le_of_ble_eq_true rfl) rfl dX1_feed_33 (fun v9 σ11 hp9 => ?_) (fun _ _ _ h => False.elim h)
    obtain ⟨rfl, W10, hC10, hfx10, hgx10⟩ := hp9
    have hOk10 := putS_ok hOk7 (show sTp S + 4 + 4 + 4 + 4 ≤ 500 by omega) d
    obtain ⟨ad12, I12, F12, L12, ks12, rfl, hR12, hD12, hN12, hK12, hW12, hX12⟩ := id hC10
    obtain ⟨w1_12, w2_12, w3_12, w4_12, w5_12, w6_12⟩ := Wd hW12
    replace hN12 : NetAt _ _ (sN S) := hN12
    obtain ⟨wa12, ma12, hob12⟩ := hN12.ob
    refine v_aload_n O dX1_feed_36 rfl 0 rfl ?_
    refine v_iload O dX1_feed_37 5 rfl ?_
    refine v_callV (as := [.int e]) (rest := []) O (c_X1_put hG hC10 hOk10 (show sTp S + 4 + 4 + 4 + 4 + 4 ≤ 500 by omega) (y := e)) q198 q200 qs0 q72 q201 hR12.ob (show vcl[0]? = some (RX1, TX1, 6) from rfl) rfl mdX1_put rfl (by decide) (by omega) (by omega) (by omega) (Nat.le_of_ble_eq_true rfl) rfl dX1_feed_39 (fun v9 σ14 hp9 => ?_) (fun _ _ _ h => False.elim h)
    obtain ⟨rfl, W13, hC13, hfx13, hgx13⟩ := hp9
    have hOk13 := putS_ok hOk10 (show sTp S + 4 + 4 + 4 + 4 + 4 ≤ 500 by omega) e
    obtain ⟨ad15, I15, F15, L15, ks15, rfl, hR15, hD15, hN15, hK15, hW15, hX15⟩ := id hC13
    obtain ⟨w1_15, w2_15, w3_15, w4_15, w5_15, w6_15⟩ := Wd hW15
    replace hN15 : NetAt _ _ (sN S) := hN15
    obtain ⟨wa15, ma15, hob15⟩ := hN15.ob
    refine v_aload_n O dX1_feed_42 rfl 0 rfl ?_
    refine v_getf (C := RX1) (T := TX1) (N := 6) (v := .int (nI (sTp (putS (putS (putS (putS (putS S a) b) c) d) e)))) O in_X1 hR15.ob rfl 4 (by decide) rfl q179 (congrArg (fun z => some (Value.int z)) hX15.1) dX1_feed_43 ?_
    exact v_iret O rfl dX1_feed_46 (by omega) (by omega) (⟨by rw [opFeed, if_neg (by omega)]; exact congrArg (fun z => some (Value.int (nI z))) (show sTp S + 4 + 4 + 4 + 4 + 4 = sTp S + 20 by omega), by rw [← put5 a b c d e (by omega)]; exact (XPost.tr hfx1 hgx1 (XPost.tr hfx4 hgx4 (XPost.tr hfx7 hgx7 (XPost.tr hfx10 hgx10 (XPost.tr hfx13 hgx13 (XPost.rf hC13))))))⟩)
  · refine v_iconst (v := (-1)) O dX1_feed_13 (by decide) ?_
    exact v_iret O rfl dX1_feed_14 (by omega) (by omega) (by rw [opFeed, if_pos (by omega)]; exact ⟨rfl, (XPost.rf hC)⟩)
theorem c_X1_odd {G : vGC} (hG : vGok G) {σ : vSt} {x : Nat} {W : List Nat} {S : SysM} (hC : ClsAt σ x W S) (hOk : okS S) {y : Int32} : Ct G yX1_odd (ws_ yX1_odd cX1_odd 2 (some .int)) 9 1 6 σ [.ref x, .int y] (fun v σ9 => v = some (.int (opOdd S y).2.1) ∧ (opOdd S y).1 = 0 ∧ XPost σ σ9 x W (opOdd S y).2.2) (fun E q σ9 => XThr ["java/lang/IllegalArgumentException"] E (opOdd S y) ∧ XPost σ σ9 x W (opOdd S y).2.2) := by
  refine ct_of hG (by decide) (Nat.le_of_ble_eq_true rfl) fun X hN O hnm htb => ?_
  show V G X _ 0 0 σ 0 [(0, .ref x), (1, .int y)] []
  obtain ⟨ad, I, F, L, ks, rfl, hR, hD, hN0, hK, hW, hX⟩ := id hC
  obtain ⟨w1, w2, w3, w4, w5, w6⟩ := Wd hW
  obtain ⟨hX4, hX5, hXF, hXR⟩ := id hX
  obtain ⟨wa, ma, hob⟩ := hN0.ob
  obtain ⟨hS1, hS2, hS3, hS4, hOkN⟩ := id hOk
  have hn : (sN S).1 ≤ 12 := hOkN.2.1
  have hn1 : 1 ≤ (sN S).1 := hOkN.1
  have hal := all_lt (N := sN S)
  have hp12 := p12 hn
  refine v_aload_n O dX1_odd_0 rfl 0 rfl ?_
  refine v_iload_n O dX1_odd_1 rfl 1 rfl ?_
  refine v_i2l (z := (Int32.toInt64 y)) O dX1_odd_2 rfl ?_
  refine v_lconst (v := 0) O dX1_odd_3 (by decide) ?_
  refine v_aload_n O dX1_odd_4 rfl 0 rfl ?_
  refine v_getf (C := RX1) (T := TX1) (N := 6) (v := .ref (ad 3)) O in_X1 hR.ob rfl 3 (by decide) rfl q178 rfl dX1_odd_5 ?_
  refine v_callV (as := []) (rest := [.long 0, .long (Int32.toInt64 y), .ref x]) O (c_X2_all hG hN0 (by omega) ) q515 q262 q263 q75 q264 hob (show vcl[1]? = some (RX2, TX2, 3) from rfl) rfl mdX2_all rfl (by decide) (by omega) (by omega) (by omega) (Nat.le_of_ble_eq_true rfl) rfl dX1_odd_8 (fun v9 σ9 hp9 => ?_) (fun _ _ _ h => False.elim h)
  obtain ⟨rfl, hs9⟩ := hp9
  obtain rfl := hs9.symm
  refine v_i2l (z := (Int32.toInt64 (nI (allN (sN S))))) O dX1_odd_11 rfl ?_
  refine v_callS (as := [.long (Int32.toInt64 y), .long 0, .long (Int32.toInt64 (nI (allN (sN S))))]) (rest := [.ref x]) O (c_X1_isIn hG (x := y) (A := (nI 0)) (B := (nI (allN (sN S)))) rfl (by decide) (Int32.toInt_toInt64 _)) q542 q543 q72 q544 mdX1_isIn rfl (by decide) (by omega) (by omega) (by omega) (Nat.le_of_ble_eq_true rfl) rfl dX1_odd_12 (fun v9 σ9 hp9 => ?_) (fun _ _ _ h => False.elim h)
  obtain ⟨rfl, hs9⟩ := hp9
  obtain rfl := hs9.symm
  refine v_callV (as := [.int (bI (decide ((nI 0) ≤ y ∧ y ≤ (nI (allN (sN S))))))]) (rest := []) O (c_X1_need hG hC (b := (decide ((nI 0) ≤ y ∧ y ≤ (nI (allN (sN S))))))) q554 q556 qs10 q72 q557 hR.ob (show vcl[0]? = some (RX1, TX1, 6) from rfl) rfl mdX1_need rfl (by decide) (by omega) (by omega) (by omega) (Nat.le_of_ble_eq_true rfl) rfl dX1_odd_15 (fun v9 σ9 hp9 => ?_) (fun E9 q9 σ9 hx9 => ?_)
  · obtain ⟨rfl, hq1, hs9⟩ := hp9
    obtain rfl := hs9.symm
    have h12 := of_decide_eq_true hq1
    obtain ⟨s, hs, rfl⟩ := nI_of2 (n := allN (sN S)) (M := nI (allN (sN S))) (nI_toInt (by omega)) (Int32.not_lt.mpr h12.1) h12.2
    refine v_aload_n O dX1_odd_18 rfl 0 rfl ?_
    refine v_getf (C := RX1) (T := TX1) (N := 6) (v := .ref (ad 3)) O in_X1 hR.ob rfl 3 (by decide) rfl q178 rfl dX1_odd_19 ?_
    refine v_iload_n O dX1_odd_22 rfl 1 rfl ?_
    refine v_callV (as := [.int (nI s)]) (rest := []) O (c_X2_odd hG hN0 (by omega) (set := s) (by omega)) q1415 q1416 q1417 q75 q1418 hob (show vcl[1]? = some (RX2, TX2, 3) from rfl) rfl mdX2_odd rfl (by decide) (by omega) (by omega) (by omega) (Nat.le_of_ble_eq_true rfl) rfl dX1_odd_23 (fun v9 σ9 hp9 => ?_) (fun _ _ _ h => False.elim h)
    obtain ⟨rfl, hs9⟩ := hp9
    obtain rfl := hs9.symm
    exact v_iret O rfl dX1_odd_26 (by omega) (by omega) (ans_mk (by unfold opOdd; rw [if_pos h12, cl_nI (by omega)]) (XPost.rf hC))
  · obtain ⟨hx2, rfl, hxp2⟩ := hx9
    exact v_out O (fun z hz => (htb z hz).elim) (by omega) (by omega) (thr_mk (k := 1) (v := nI 0) (by unfold opOdd; rw [if_neg (of_decide_eq_false hx2)]) (by decide) rfl hxp2)
