theorem mdX1_needNow : vMd yX1_needNow 1 := ⟨by decide +kernel, by decide +kernel, by decide +kernel⟩
theorem mdX2_parts : vMd yX2_parts 1 := ⟨by decide +kernel, by decide +kernel, by decide +kernel⟩
theorem c_X1_cut {G : vGC} (hG : vGok G) {σ : vSt} {x : Nat} {W : List Nat} {S : SysM} (hC : ClsAt σ x W S) (hOk : okS S) {y z : Int32} : Ct G yX1_cut (ws_ yX1_cut cX1_cut 3 (some .int)) 9 19 195 σ [.ref x, .int y, .int z] (fun v σ9 => v = some (.int (opCut S y z).2.1) ∧ (opCut S y z).1 = 0 ∧ XPost σ σ9 x W (opCut S y z).2.2) (fun E q σ9 => XThr ["java/util/NoSuchElementException", "java/lang/IllegalArgumentException", "java/lang/IllegalStateException"] E (opCut S y z) ∧ XPost σ σ9 x W (opCut S y z).2.2) := by
  refine ct_of hG (by decide) (Nat.le_of_ble_eq_true rfl) fun X hN O hnm htb => ?_
  show V G X _ 0 0 σ 0 [(0, .ref x), (1, .int y), (2, .int z)] []
  obtain ⟨ad, I, F, L, ks, rfl, hR, hD, hN0, hK, hW, hX⟩ := id hC
  obtain ⟨w1, w2, w3, w4, w5, w6⟩ := Wd hW
  obtain ⟨hX4, hX5, hXF, hXR⟩ := id hX
  obtain ⟨wa, ma, hob⟩ := hN0.ob
  obtain ⟨hS1, hS2, hS3, hS4, hOkN⟩ := id hOk
  have hn : (sN S).1 ≤ 12 := hOkN.2.1
  have hn1 : 1 ≤ (sN S).1 := hOkN.1
  refine v_aload_n O dX1_cut_0 rfl 0 rfl ?_
  refine v_iload_n O dX1_cut_1 rfl 1 rfl ?_
  refine v_iload_n O dX1_cut_2 rfl 2 rfl ?_
  refine v_callV (as := [.int y, .int z]) (rest := []) O (c_X1_needTwo hG hC hOk (y := y) (z := z)) q1149 q1151 qs24 q72 q1152 hR.ob (show vcl[0]? = some (RX1, TX1, 6) from rfl) rfl mdX1_needTwo rfl (by decide) (by omega) (by omega) (by omega) (Nat.le_of_ble_eq_true rfl) rfl dX1_cut_3 (fun v9 σ9 hp9 => ?_) (fun E9 q9 σ9 hx9 => ?_)
  · obtain ⟨rfl, hq1, hs9⟩ := hp9
    obtain rfl := hs9.symm
    have hqa1 := (Bool.and_eq_true _ _ ▸ hq1 : _ ∧ _).1
    have hqb1 := (Bool.and_eq_true _ _ ▸ hq1 : _ ∧ _).2
    obtain ⟨a, haN, rfl⟩ := isNd_t hn1 hn hqa1
    obtain ⟨b, hbN, rfl⟩ := isNd_t hn1 hn hqb1
    refine v_aload_n O dX1_cut_6 rfl 0 rfl ?_
    refine v_iload_n O dX1_cut_7 rfl 1 rfl ?_
    refine v_iload_n O dX1_cut_8 rfl 2 rfl ?_
    refine v_icmp_eqN (tgt := 16) O dX1_cut_9 (by decide) (by omega) (by omega) (fun h_9 => ?_) (fun h_9 => ?_)
    · refine v_iconst (v := nI 0) O dX1_cut_16 (by decide) ?_
      show V G X _ _ _ σ 17 [(0, .ref x), (1, .int (nI a)), (2, .int (nI b))] [.int (bI false), .ref x]
      refine v_callV (as := [.int (bI false)]) (rest := []) O (c_X1_need hG hC (b := false)) q554 q556 qs10 q72 q557 hR.ob (show vcl[0]? = some (RX1, TX1, 6) from rfl) rfl mdX1_need rfl (by decide) (by omega) (by omega) (by omega) (Nat.le_of_ble_eq_true rfl) rfl dX1_cut_17 (fun v9 σ9 hp9 => ?_) (fun E9 q9 σ9 hx9 => ?_)
      · obtain ⟨rfl, hq2, hs9⟩ := hp9
        obtain rfl := hs9.symm
        cases hq2
        
      · obtain ⟨hx3, rfl, hxp3⟩ := hx9
        exact v_out O (fun z hz => (htb z hz).elim) (by omega) (by omega) (thr_mk (k := 2) (v := nI 0) (by unfold opCut; rw [if_neg (bf hq1), if_pos (congrArg nI h_9)]) (by decide) rfl hxp3)
    · refine v_iconst (v := nI 1) O dX1_cut_12 (by decide) ?_
      refine v_goto (tgt := 17) O dX1_cut_13 (by decide) ?_
      show V G X _ _ _ σ 17 [(0, .ref x), (1, .int (nI a)), (2, .int (nI b))] [.int (bI true), .ref x]
      refine v_callV (as := [.int (bI true)]) (rest := []) O (c_X1_need hG hC (b := true)) q554 q556 qs10 q72 q557 hR.ob (show vcl[0]? = some (RX1, TX1, 6) from rfl) rfl mdX1_need rfl (by decide) (by omega) (by omega) (by omega) (Nat.le_of_ble_eq_true rfl) rfl dX1_cut_17 (fun v9 σ9 hp9 => ?_) (fun E9 q9 σ9 hx9 => ?_)
      · obtain ⟨rfl, hq4, hs9⟩ := hp9
        obtain rfl := hs9.symm
        refine v_aload_n O dX1_cut_20 rfl 0 rfl ?_
        refine v_aload_n O dX1_cut_21 rfl 0 rfl ?_
        refine v_getf (C := RX1) (T := TX1) (N := 6) (v := .ref (ad 3)) O in_X1 hR.ob rfl 3 (by decide) rfl q178 rfl dX1_cut_22 ?_
        refine v_iload_n O dX1_cut_25 rfl 1 rfl ?_
        refine v_iload_n O dX1_cut_26 rfl 2 rfl ?_
        refine v_callV (as := [.int (nI a), .int (nI b)]) (rest := [.ref x]) O (c_X2_isLine hG hN0 (by omega) (a := a) (b := b) (by omega) (by omega)) q536 q281 q282 q75 q283 hob (show vcl[1]? = some (RX2, TX2, 3) from rfl) rfl mdX2_isLine rfl (by decide) (by omega) (by omega) (by omega) (Nat.le_of_ble_eq_true rfl) rfl dX1_cut_27 (fun v9 σ9 hp9 => ?_) (fun _ _ _ h => False.elim h)
        obtain ⟨rfl, hs9⟩ := hp9
        obtain rfl := hs9.symm
        refine v_callV (as := [.int (bI (ln (sN S) a b))]) (rest := []) O (c_X1_needNow hG hC (b := (ln (sN S) a b))) q1172 q1174 qs27 q72 q1175 hR.ob (show vcl[0]? = some (RX1, TX1, 6) from rfl) rfl mdX1_needNow rfl (by decide) (by omega) (by omega) (by omega) (Nat.le_of_ble_eq_true rfl) rfl dX1_cut_30 (fun v9 σ9 hp9 => ?_) (fun E9 q9 σ9 hx9 => ?_)
        · obtain ⟨rfl, hq5, hs9⟩ := hp9
          obtain rfl := hs9.symm
          refine v_aload_n O dX1_cut_33 rfl 0 rfl ?_
          refine v_callV (as := []) (rest := []) O (c_X1_keeps hG hC hOk) q318 q320 qs6 q72 q321 hR.ob (show vcl[0]? = some (RX1, TX1, 6) from rfl) rfl mdX1_keeps rfl (by decide) (by omega) (by omega) (by omega) (Nat.le_of_ble_eq_true rfl) rfl dX1_cut_34 (fun v9 σ7 hp9 => ?_) (fun _ _ _ h => False.elim h)
          obtain ⟨rfl, W6, hC6, hfx6, hgx6⟩ := hp9
          obtain ⟨ad8, I8, F8, L8, ks8, rfl, hR8, hD8, hN8, hK8, hW8, hX8⟩ := id hC6
          obtain ⟨w1_8, w2_8, w3_8, w4_8, w5_8, w6_8⟩ := Wd hW8
          replace hN8 : NetAt _ _ (sN S) := hN8
          obtain ⟨wa8, ma8, hob8⟩ := hN8.ob
          refine v_aload_n O dX1_cut_37 rfl 0 rfl ?_
          refine v_getf (C := RX1) (T := TX1) (N := 6) (v := .ref (ad8 3)) O in_X1 hR8.ob rfl 3 (by decide) rfl q178 rfl dX1_cut_38 ?_
          obtain ⟨adN9, IN9, FN9, LN9, hRN9, hn0N9, hwN9, hmN9⟩ := id hN8
          refine v_getfN (C := RX2) (T := TX2) (N := 3) (v := .ref (adN9 2)) O in_X2 hRN9.ob rfl 2 (by decide) rfl q162 rfl dX1_cut_41 ?_
          refine v_iload_n O dX1_cut_44 rfl 1 rfl ?_
          refine v_iald (f := FN9 2) O (hRN9.ar 2 rfl) (by omega) (by omega) dX1_cut_45 ?_
          refine v_top (y := ((sN S).2.2 a)) (hmN9 a (by omega)) ?_
          refine v_iload_n O dX1_cut_46 rfl 2 rfl ?_
          refine v_icmp_ne (tgt := 59) O dX1_cut_47 (by decide) (fun h_47 => ?_) (fun h_47 => ?_)
          · refine v_aload_n O dX1_cut_59 rfl 0 rfl ?_
            refine v_getf (C := RX1) (T := TX1) (N := 6) (v := .ref (ad8 3)) O in_X1 hR8.ob rfl 3 (by decide) rfl q178 rfl dX1_cut_60 ?_
            refine v_iload_n O dX1_cut_63 rfl 1 rfl ?_
            refine v_iload_n O dX1_cut_64 rfl 2 rfl ?_
            refine v_iconst (v := (-1)) O dX1_cut_65 (by decide) ?_
            refine v_callV (as := [.int (nI a), .int (nI b), .int (-1)]) (rest := []) O (c_X2_joins hG hN8 (by omega) (a := a) (b := b) (w := (-1)) (by omega) (by omega)) q170 q171 q172 q75 q173 hRN9.ob (show vcl[1]? = some (RX2, TX2, 3) from rfl) rfl mdX2_joins rfl (by decide) (by omega) (by omega) (by omega) (Nat.le_of_ble_eq_true rfl) rfl dX1_cut_66 (fun v9 σ11 hp9 => ?_) (fun _ _ _ h => False.elim h)
            obtain ⟨rfl, hN_10, hf_10⟩ := hp9
            obtain ⟨wa10, ma10, hob10⟩ := hN_10.ob
            have hmn10 : (setW (sN S) a b (-1)).1 ≤ 12 := hn
            have hme10 : (setW (sN S) a b (-1)).1 = (sN S).1 := rfl
            have hDq_12 := hD8.fr hf_10 (by simp [w1_8, Ne.symm w1_8, w3_8, Ne.symm w3_8])
            have hRx10 := hR8.fr hf_10 (by simp [w1_8, w2_8])
            refine v_aload_n O dX1_cut_69 rfl 0 rfl ?_
            refine v_getf (C := RX1) (T := TX1) (N := 6) (v := .ref (ad8 3)) O in_X1 hRx10.ob rfl 3 (by decide) rfl q178 rfl dX1_cut_70 ?_
            refine v_callV (as := []) (rest := []) O (c_X2_lines hG hN_10 (by omega) ) q1132 q1133 q1134 q75 q1135 hob10 (show vcl[1]? = some (RX2, TX2, 3) from rfl) rfl mdX2_lines rfl (by decide) (by omega) (by omega) (by omega) (Nat.le_of_ble_eq_true rfl) rfl dX1_cut_73 (fun v9 σ9 hp9 => ?_) (fun _ _ _ h => False.elim h)
            obtain ⟨rfl, hs9⟩ := hp9
            obtain rfl := hs9.symm
            exact v_iret O rfl dX1_cut_76 (by omega) (by omega) (ans_mk (by
                          have hoj : okN (cutN (sN S) a b) := okN_cutN hOkN haN hbN h_9
                          unfold opCut
                          rw [if_neg (bf hq1), if_neg (fun e => h_9 (nI_inj (by omega) (by omega) e)), cl_nI (by omega), cl_nI (by omega), if_neg (fun e => by rw [ln, e] at hq5; exact absurd hq5 (by decide)), ← linesN_M hoj]
                          unfold cutN
                          rw [if_neg h_47]
                          rfl) (XPost.tr hfx6 hgx6 (XPost.net hR8 hD8 hN_10 hK8 hW8 hf_10 hX8)))
          · skip
            refine v_aload_n O dX1_cut_50 rfl 0 rfl ?_
            refine v_getf (C := RX1) (T := TX1) (N := 6) (v := .ref (ad8 3)) O in_X1 hR8.ob rfl 3 (by decide) rfl q178 rfl dX1_cut_51 ?_
            refine v_iload_n O dX1_cut_54 rfl 1 rfl ?_
            refine v_callV (as := [.int (nI a)]) (rest := []) O (c_X2_parts hG hN8 (by omega) (a := a) (b := b) (by omega) hbN h_47) q1181 q1182 q1183 q75 q1184 hRN9.ob (show vcl[1]? = some (RX2, TX2, 3) from rfl) rfl mdX2_parts rfl (by decide) (by omega) (by omega) (by omega) (Nat.le_of_ble_eq_true rfl) rfl dX1_cut_55 (fun v9 σ14 hp9 => ?_) (fun _ _ _ h => False.elim h)
            obtain ⟨rfl, hN_13, hf_13⟩ := hp9
            obtain ⟨wa13, ma13, hob13⟩ := hN_13.ob
            have hmn13 : (unM (sN S) a b).1 ≤ 12 := hn
            have hme13 : (unM (sN S) a b).1 = (sN S).1 := rfl
            have hDq_15 := hD8.fr hf_13 (by simp [w1_8, Ne.symm w1_8, w3_8, Ne.symm w3_8])
            have hRx13 := hR8.fr hf_13 (by simp [w1_8, w2_8])
            refine v_pop O dX1_cut_58 rfl ?_
            refine v_aload_n O dX1_cut_59 rfl 0 rfl ?_
            refine v_getf (C := RX1) (T := TX1) (N := 6) (v := .ref (ad8 3)) O in_X1 hRx13.ob rfl 3 (by decide) rfl q178 rfl dX1_cut_60 ?_
            refine v_iload_n O dX1_cut_63 rfl 1 rfl ?_
            refine v_iload_n O dX1_cut_64 rfl 2 rfl ?_
            refine v_iconst (v := (-1)) O dX1_cut_65 (by decide) ?_
            refine v_callV (as := [.int (nI a), .int (nI b), .int (-1)]) (rest := []) O (c_X2_joins hG hN_13 (by omega) (a := a) (b := b) (w := (-1)) (by omega) (by omega)) q170 q171 q172 q75 q173 hob13 (show vcl[1]? = some (RX2, TX2, 3) from rfl) rfl mdX2_joins rfl (by decide) (by omega) (by omega) (by omega) (Nat.le_of_ble_eq_true rfl) rfl dX1_cut_66 (fun v9 σ17 hp9 => ?_) (fun _ _ _ h => False.elim h)
            obtain ⟨rfl, hN_16, hf_16⟩ := hp9
            obtain ⟨wa16, ma16, hob16⟩ := hN_16.ob
            have hmn16 : (setW (unM (sN S) a b) a b (-1)).1 ≤ 12 := hn
            have hme16 : (setW (unM (sN S) a b) a b (-1)).1 = (sN S).1 := rfl
            have hDq_18 := hDq_15.fr hf_16 (by simp [w1_8, Ne.symm w1_8, w3_8, Ne.symm w3_8])
            have hRx16 := hRx13.fr hf_16 (by simp [w1_8, w2_8])
            refine v_aload_n O dX1_cut_69 rfl 0 rfl ?_
            refine v_getf (C := RX1) (T := TX1) (N := 6) (v := .ref (ad8 3)) O in_X1 hRx16.ob rfl 3 (by decide) rfl q178 rfl dX1_cut_70 ?_
            refine v_callV (as := []) (rest := []) O (c_X2_lines hG hN_16 (by omega) ) q1132 q1133 q1134 q75 q1135 hob16 (show vcl[1]? = some (RX2, TX2, 3) from rfl) rfl mdX2_lines rfl (by decide) (by omega) (by omega) (by omega) (Nat.le_of_ble_eq_true rfl) rfl dX1_cut_73 (fun v9 σ9 hp9 => ?_) (fun _ _ _ h => False.elim h)
            obtain ⟨rfl, hs9⟩ := hp9
            obtain rfl := hs9.symm
            exact v_iret O rfl dX1_cut_76 (by omega) (by omega) (ans_mk (by
                          have hoj : okN (cutN (sN S) a b) := okN_cutN hOkN haN hbN h_9
                          unfold opCut
                          rw [if_neg (bf hq1), if_neg (fun e => h_9 (nI_inj (by omega) (by omega) e)), cl_nI (by omega), cl_nI (by omega), if_neg (fun e => by rw [ln, e] at hq5; exact absurd hq5 (by decide)), ← linesN_M hoj]
                          unfold cutN
                          rw [if_pos h_47]
                          rfl) (XPost.tr hfx6 hgx6 (XPost.net hR8 hD8 hN_16 hK8 hW8 (hf_13.trans hf_16) hX8)))
        · obtain ⟨hx19, rfl, hxp19⟩ := hx9
          exact v_out O (fun z hz => (htb z hz).elim) (by omega) (by omega) (thr_mk (k := 3) (v := nI 0) (by unfold opCut; rw [if_neg (bf hq1), if_neg (fun e => h_9 (nI_inj (by omega) (by omega) e)), cl_nI (by omega), cl_nI (by omega), if_pos (by rw [ln] at hx19; exact Classical.not_not.mp (of_decide_eq_false hx19))]) (by decide) rfl hxp19)
      · cases hx9.1
  · obtain ⟨hx20, rfl, hxp20⟩ := hx9
    exact v_out O (fun z hz => (htb z hz).elim) (by omega) (by omega) (thr_mk (k := 1) (v := nI 0) (by unfold opCut; rw [if_pos hx20]) (by decide) rfl hxp20)
theorem mdX2_pairs : vMd yX2_pairs 2 := ⟨by decide +kernel, by decide +kernel, by decide +kernel⟩
theorem mdX2_pairMany : vMd yX2_pairMany 0 := ⟨by decide +kernel, by decide +kernel, by decide +kernel⟩
theorem c_X1_pair {G : vGC} (hG : vGok G) {σ : vSt} {x : Nat} {W : List Nat} {S : SysM} (hC : ClsAt σ x W S) (hOk : okS S) {y z : Int32} : Ct G yX1_pair (ws_ yX1_pair cX1_pair 3 (some .int)) 9 19 195 σ [.ref x, .int y, .int z] (fun v σ9 => v = some (.int (opPair S y z).2.1) ∧ (opPair S y z).1 = 0 ∧ XPost σ σ9 x W (opPair S y z).2.2) (fun E q σ9 => XThr ["java/util/NoSuchElementException", "java/lang/IllegalArgumentException", "java/lang/IllegalStateException"] E (opPair S y z) ∧ XPost σ σ9 x W (opPair S y z).2.2) := by
  refine ct_of hG (by decide) (Nat.le_of_ble_eq_true rfl) fun X hN O hnm htb => ?_
  show V G X _ 0 0 σ 0 [(0, .ref x), (1, .int y), (2, .int z)] []
  obtain ⟨ad, I, F, L, ks, rfl, hR, hD, hN0, hK, hW, hX⟩ := id hC
  obtain ⟨w1, w2, w3, w4, w5, w6⟩ := Wd hW
  obtain ⟨hX4, hX5, hXF, hXR⟩ := id hX
  obtain ⟨wa, ma, hob⟩ := hN0.ob
  obtain ⟨hS1, hS2, hS3, hS4, hOkN⟩ := id hOk
  have hn : (sN S).1 ≤ 12 := hOkN.2.1
  have hn1 : 1 ≤ (sN S).1 := hOkN.1
  refine v_aload_n O dX1_pair_0 rfl 0 rfl ?_
  refine v_iload_n O dX1_pair_1 rfl 1 rfl ?_
  refine v_iload_n O dX1_pair_2 rfl 2 rfl ?_
  refine v_callV (as := [.int y, .int z]) (rest := []) O (c_X1_needTwo hG hC hOk (y := y) (z := z)) q1149 q1151 qs24 q72 q1152 hR.ob (show vcl[0]? = some (RX1, TX1, 6) from rfl) rfl mdX1_needTwo rfl (by decide) (by omega) (by omega) (by omega) (Nat.le_of_ble_eq_true rfl) rfl dX1_pair_3 (fun v9 σ9 hp9 => ?_) (fun E9 q9 σ9 hx9 => ?_)
  · obtain ⟨rfl, hq1, hs9⟩ := hp9
    obtain rfl := hs9.symm
    have hqa1 := (Bool.and_eq_true _ _ ▸ hq1 : _ ∧ _).1
    have hqb1 := (Bool.and_eq_true _ _ ▸ hq1 : _ ∧ _).2
    obtain ⟨a, haN, rfl⟩ := isNd_t hn1 hn hqa1
    obtain ⟨b, hbN, rfl⟩ := isNd_t hn1 hn hqb1
    refine v_aload_n O dX1_pair_6 rfl 0 rfl ?_
    refine v_iload_n O dX1_pair_7 rfl 1 rfl ?_
    refine v_iload_n O dX1_pair_8 rfl 2 rfl ?_
    refine v_icmp_eqN (tgt := 16) O dX1_pair_9 (by decide) (by omega) (by omega) (fun h_9 => ?_) (fun h_9 => ?_)
    · refine v_iconst (v := nI 0) O dX1_pair_16 (by decide) ?_
      show V G X _ _ _ σ 17 [(0, .ref x), (1, .int (nI a)), (2, .int (nI b))] [.int (bI false), .ref x]
      refine v_callV (as := [.int (bI false)]) (rest := []) O (c_X1_need hG hC (b := false)) q554 q556 qs10 q72 q557 hR.ob (show vcl[0]? = some (RX1, TX1, 6) from rfl) rfl mdX1_need rfl (by decide) (by omega) (by omega) (by omega) (Nat.le_of_ble_eq_true rfl) rfl dX1_pair_17 (fun v9 σ9 hp9 => ?_) (fun E9 q9 σ9 hx9 => ?_)
      · obtain ⟨rfl, hq2, hs9⟩ := hp9
        obtain rfl := hs9.symm
        cases hq2
        
      · obtain ⟨hx3, rfl, hxp3⟩ := hx9
        exact v_out O (fun z hz => (htb z hz).elim) (by omega) (by omega) (thr_mk (k := 2) (v := nI 0) (by unfold opPair; rw [if_neg (bf hq1), if_pos (congrArg nI h_9)]) (by decide) rfl hxp3)
    · refine v_iconst (v := nI 1) O dX1_pair_12 (by decide) ?_
      refine v_goto (tgt := 17) O dX1_pair_13 (by decide) ?_
      show V G X _ _ _ σ 17 [(0, .ref x), (1, .int (nI a)), (2, .int (nI b))] [.int (bI true), .ref x]
      refine v_callV (as := [.int (bI true)]) (rest := []) O (c_X1_need hG hC (b := true)) q554 q556 qs10 q72 q557 hR.ob (show vcl[0]? = some (RX1, TX1, 6) from rfl) rfl mdX1_need rfl (by decide) (by omega) (by omega) (by omega) (Nat.le_of_ble_eq_true rfl) rfl dX1_pair_17 (fun v9 σ9 hp9 => ?_) (fun E9 q9 σ9 hx9 => ?_)
      · obtain ⟨rfl, hq4, hs9⟩ := hp9
        obtain rfl := hs9.symm
        refine v_aload_n O dX1_pair_20 rfl 0 rfl ?_
        refine v_aload_n O dX1_pair_21 rfl 0 rfl ?_
        refine v_getf (C := RX1) (T := TX1) (N := 6) (v := .ref (ad 3)) O in_X1 hR.ob rfl 3 (by decide) rfl q178 rfl dX1_pair_22 ?_
        refine v_iload_n O dX1_pair_25 rfl 1 rfl ?_
        refine v_iload_n O dX1_pair_26 rfl 2 rfl ?_
        refine v_callV (as := [.int (nI a), .int (nI b)]) (rest := [.ref x]) O (c_X2_isLine hG hN0 (by omega) (a := a) (b := b) (by omega) (by omega)) q536 q281 q282 q75 q283 hob (show vcl[1]? = some (RX2, TX2, 3) from rfl) rfl mdX2_isLine rfl (by decide) (by omega) (by omega) (by omega) (Nat.le_of_ble_eq_true rfl) rfl dX1_pair_27 (fun v9 σ9 hp9 => ?_) (fun _ _ _ h => False.elim h)
        obtain ⟨rfl, hs9⟩ := hp9
        obtain rfl := hs9.symm
        refine v_if_eqB (tgt := 63) O dX1_pair_30 (by decide) (fun h_30 => ?_) (fun h_30 => ?_)
        · refine v_iconst (v := nI 0) O dX1_pair_63 (by decide) ?_
          show V G X _ _ _ σ 64 [(0, .ref x), (1, .int (nI a)), (2, .int (nI b))] [.int (bI false), .ref x]
          refine v_callV (as := [.int (bI false)]) (rest := []) O (c_X1_needNow hG hC (b := false)) q1172 q1174 qs27 q72 q1175 hR.ob (show vcl[0]? = some (RX1, TX1, 6) from rfl) rfl mdX1_needNow rfl (by decide) (by omega) (by omega) (by omega) (Nat.le_of_ble_eq_true rfl) rfl dX1_pair_64 (fun v9 σ9 hp9 => ?_) (fun E9 q9 σ9 hx9 => ?_)
          · obtain ⟨rfl, hq5, hs9⟩ := hp9
            obtain rfl := hs9.symm
            cases hq5
            
          · obtain ⟨hx6, rfl, hxp6⟩ := hx9
            exact v_out O (fun z hz => (htb z hz).elim) (by omega) (by omega) (thr_mk (k := 3) (v := nI 0) (by unfold opPair; rw [if_neg (bf hq1), if_neg (fun e => h_9 (nI_inj (by omega) (by omega) e)), cl_nI (by omega), cl_nI (by omega), if_pos (.inl (by rw [ln] at h_30; exact Classical.not_not.mp (of_decide_eq_false h_30)))]) (by decide) rfl hxp6)
        · obtain ⟨adN7, IN7, FN7, LN7, hRN7, hn0N7, hwN7, hmN7⟩ := id hN0
          refine v_aload_n O dX1_pair_33 rfl 0 rfl ?_
          refine v_getf (C := RX1) (T := TX1) (N := 6) (v := .ref (ad 3)) O in_X1 hR.ob rfl 3 (by decide) rfl q178 rfl dX1_pair_34 ?_
          refine v_getfN (C := RX2) (T := TX2) (N := 3) (v := .ref (adN7 2)) O in_X2 hRN7.ob rfl 2 (by decide) rfl q162 rfl dX1_pair_37 ?_
          refine v_iload_n O dX1_pair_40 rfl 1 rfl ?_
          refine v_iald (f := FN7 2) O (hRN7.ar 2 rfl) (by omega) (by omega) dX1_pair_41 ?_
          refine v_top (y := ((sN S).2.2 a)) (hmN7 a (by omega)) ?_
          refine v_iconst (v := (-1)) O dX1_pair_42 (by decide) ?_
          refine v_icmp_ne (tgt := 63) O dX1_pair_43 (by decide) (fun h_43 => ?_) (fun h_43 => ?_)
          · refine v_iconst (v := nI 0) O dX1_pair_63 (by decide) ?_
            show V G X _ _ _ σ 64 [(0, .ref x), (1, .int (nI a)), (2, .int (nI b))] [.int (bI false), .ref x]
            refine v_callV (as := [.int (bI false)]) (rest := []) O (c_X1_needNow hG hC (b := false)) q1172 q1174 qs27 q72 q1175 hR.ob (show vcl[0]? = some (RX1, TX1, 6) from rfl) rfl mdX1_needNow rfl (by decide) (by omega) (by omega) (by omega) (Nat.le_of_ble_eq_true rfl) rfl dX1_pair_64 (fun v9 σ9 hp9 => ?_) (fun E9 q9 σ9 hx9 => ?_)
            · obtain ⟨rfl, hq8, hs9⟩ := hp9
              obtain rfl := hs9.symm
              cases hq8
              
            · obtain ⟨hx9, rfl, hxp9⟩ := hx9
              exact v_out O (fun z hz => (htb z hz).elim) (by omega) (by omega) (thr_mk (k := 3) (v := nI 0) (by unfold opPair; rw [if_neg (bf hq1), if_neg (fun e => h_9 (nI_inj (by omega) (by omega) e)), cl_nI (by omega), cl_nI (by omega), if_pos (.inr (.inl h_43))]) (by decide) rfl hxp9)
          · refine v_aload_n O dX1_pair_46 rfl 0 rfl ?_
            refine v_getf (C := RX1) (T := TX1) (N := 6) (v := .ref (ad 3)) O in_X1 hR.ob rfl 3 (by decide) rfl q178 rfl dX1_pair_47 ?_
            refine v_getfN (C := RX2) (T := TX2) (N := 3) (v := .ref (adN7 2)) O in_X2 hRN7.ob rfl 2 (by decide) rfl q162 rfl dX1_pair_50 ?_
            refine v_iload_n O dX1_pair_53 rfl 2 rfl ?_
            refine v_iald (f := FN7 2) O (hRN7.ar 2 rfl) (by omega) (by omega) dX1_pair_54 ?_
            refine v_top (y := ((sN S).2.2 b)) (hmN7 b (by omega)) ?_
            refine v_iconst (v := (-1)) O dX1_pair_55 (by decide) ?_
            refine v_icmp_ne (tgt := 63) O dX1_pair_56 (by decide) (fun h_56 => ?_) (fun h_56 => ?_)
            · refine v_iconst (v := nI 0) O dX1_pair_63 (by decide) ?_
              show V G X _ _ _ σ 64 [(0, .ref x), (1, .int (nI a)), (2, .int (nI b))] [.int (bI false), .ref x]
              refine v_callV (as := [.int (bI false)]) (rest := []) O (c_X1_needNow hG hC (b := false)) q1172 q1174 qs27 q72 q1175 hR.ob (show vcl[0]? = some (RX1, TX1, 6) from rfl) rfl mdX1_needNow rfl (by decide) (by omega) (by omega) (by omega) (Nat.le_of_ble_eq_true rfl) rfl dX1_pair_64 (fun v9 σ9 hp9 => ?_) (fun E9 q9 σ9 hx9 => ?_)
              · obtain ⟨rfl, hq10, hs9⟩ := hp9
                obtain rfl := hs9.symm
                cases hq10
                
              · obtain ⟨hx11, rfl, hxp11⟩ := hx9
                exact v_out O (fun z hz => (htb z hz).elim) (by omega) (by omega) (thr_mk (k := 3) (v := nI 0) (by unfold opPair; rw [if_neg (bf hq1), if_neg (fun e => h_9 (nI_inj (by omega) (by omega) e)), cl_nI (by omega), cl_nI (by omega), if_pos (.inr (.inr h_56))]) (by decide) rfl hxp11)
            · refine v_iconst (v := nI 1) O dX1_pair_59 (by decide) ?_
              refine v_goto (tgt := 64) O dX1_pair_60 (by decide) ?_
              show V G X _ _ _ σ 64 [(0, .ref x), (1, .int (nI a)), (2, .int (nI b))] [.int (bI true), .ref x]
              refine v_callV (as := [.int (bI true)]) (rest := []) O (c_X1_needNow hG hC (b := true)) q1172 q1174 qs27 q72 q1175 hR.ob (show vcl[0]? = some (RX1, TX1, 6) from rfl) rfl mdX1_needNow rfl (by decide) (by omega) (by omega) (by omega) (Nat.le_of_ble_eq_true rfl) rfl dX1_pair_64 (fun v9 σ9 hp9 => ?_) (fun E9 q9 σ9 hx9 => ?_)
              · obtain ⟨rfl, hq12, hs9⟩ := hp9
                obtain rfl := hs9.symm
                refine v_aload_n O dX1_pair_67 rfl 0 rfl ?_
                refine v_callV (as := []) (rest := []) O (c_X1_keeps hG hC hOk) q318 q320 qs6 q72 q321 hR.ob (show vcl[0]? = some (RX1, TX1, 6) from rfl) rfl mdX1_keeps rfl (by decide) (by omega) (by omega) (by omega) (Nat.le_of_ble_eq_true rfl) rfl dX1_pair_68 (fun v9 σ14 hp9 => ?_) (fun _ _ _ h => False.elim h)
                obtain ⟨rfl, W13, hC13, hfx13, hgx13⟩ := hp9
                obtain ⟨ad15, I15, F15, L15, ks15, rfl, hR15, hD15, hN15, hK15, hW15, hX15⟩ := id hC13
                obtain ⟨w1_15, w2_15, w3_15, w4_15, w5_15, w6_15⟩ := Wd hW15
                replace hN15 : NetAt _ _ (sN S) := hN15
                obtain ⟨wa15, ma15, hob15⟩ := hN15.ob
                refine v_aload_n O dX1_pair_71 rfl 0 rfl ?_
                refine v_getf (C := RX1) (T := TX1) (N := 6) (v := .ref (ad15 3)) O in_X1 hR15.ob rfl 3 (by decide) rfl q178 rfl dX1_pair_72 ?_
                refine v_iload_n O dX1_pair_75 rfl 1 rfl ?_
                refine v_iload_n O dX1_pair_76 rfl 2 rfl ?_
                refine v_callV (as := [.int (nI a), .int (nI b)]) (rest := []) O (c_X2_pairs hG hN15 (by omega) (a := a) (b := b) (by omega) (by omega)) q1192 q1129 q1130 q75 q1131 hob15 (show vcl[1]? = some (RX2, TX2, 3) from rfl) rfl mdX2_pairs rfl (by decide) (by omega) (by omega) (by omega) (Nat.le_of_ble_eq_true rfl) rfl dX1_pair_77 (fun v9 σ17 hp9 => ?_) (fun _ _ _ h => False.elim h)
                obtain ⟨rfl, hN_16, hf_16⟩ := hp9
                obtain ⟨wa16, ma16, hob16⟩ := hN_16.ob
                have hmn16 : (setM (sN S) a b).1 ≤ 12 := hn
                have hme16 : (setM (sN S) a b).1 = (sN S).1 := rfl
                have hDq_18 := hD15.fr hf_16 (by simp [w1_15, Ne.symm w1_15, w3_15, Ne.symm w3_15])
                have hRx16 := hR15.fr hf_16 (by simp [w1_15, w2_15])
                refine v_aload_n O dX1_pair_80 rfl 0 rfl ?_
                refine v_getf (C := RX1) (T := TX1) (N := 6) (v := .ref (ad15 3)) O in_X1 hRx16.ob rfl 3 (by decide) rfl q178 rfl dX1_pair_81 ?_
                refine v_callV (as := []) (rest := []) O (c_X2_pairMany hG hN_16 (by omega) ) q210 q211 q212 q75 q213 hob16 (show vcl[1]? = some (RX2, TX2, 3) from rfl) rfl mdX2_pairMany rfl (by decide) (by omega) (by omega) (by omega) (Nat.le_of_ble_eq_true rfl) rfl dX1_pair_84 (fun v9 σ9 hp9 => ?_) (fun _ _ _ h => False.elim h)
                obtain ⟨rfl, hs9⟩ := hp9
                obtain rfl := hs9.symm
                exact v_iret O rfl dX1_pair_87 (by omega) (by omega) (ans_mk (by
                              have hln : (sN S).2.1 a b ≠ -1 := of_decide_eq_true h_30
                              have hoj : okN (setM (sN S) a b) := okN_setM hOkN haN hbN hln h_43 h_56
                              unfold opPair
                              rw [if_neg (bf hq1), if_neg (fun e => h_9 (nI_inj (by omega) (by omega) e)), cl_nI (by omega), cl_nI (by omega), if_neg (fun e => e.elim hln fun e => e.elim (fun e => e h_43) fun e => e h_56), pairsN_M hoj]
                              rfl) (XPost.tr hfx13 hgx13 (XPost.net hR15 hD15 hN_16 hK15 hW15 hf_16 hX15)))
              · cases hx9.1
      · cases hx9.1
  · obtain ⟨hx19, rfl, hxp19⟩ := hx9
    exact v_out O (fun z hz => (htb z hz).elim) (by omega) (by omega) (thr_mk (k := 1) (v := nI 0) (by unfold opPair; rw [if_pos hx19]) (by decide) rfl hxp19)
theorem c_X1_part {G : vGC} (hG : vGok G) {σ : vSt} {x : Nat} {W : List Nat} {S : SysM} (hC : ClsAt σ x W S) (hOk : okS S) {y : Int32} : Ct G yX1_part (ws_ yX1_part cX1_part 2 (some .int)) 9 17 183 σ [.ref x, .int y] (fun v σ9 => v = some (.int (opPart S y).2.1) ∧ (opPart S y).1 = 0 ∧ XPost σ σ9 x W (opPart S y).2.2) (fun E q σ9 => XThr ["java/util/NoSuchElementException", "java/lang/IllegalStateException"] E (opPart S y) ∧ XPost σ σ9 x W (opPart S y).2.2) := by
  refine ct_of hG (by decide) (Nat.le_of_ble_eq_true rfl) fun X hN O hnm htb => ?_
  show V G X _ 0 0 σ 0 [(0, .ref x), (1, .int y)] []
  obtain ⟨ad, I, F, L, ks, rfl, hR, hD, hN0, hK, hW, hX⟩ := id hC
  obtain ⟨w1, w2, w3, w4, w5, w6⟩ := Wd hW
  obtain ⟨hX4, hX5, hXF, hXR⟩ := id hX
  obtain ⟨wa, ma, hob⟩ := hN0.ob
  obtain ⟨hS1, hS2, hS3, hS4, hOkN⟩ := id hOk
  have hn : (sN S).1 ≤ 12 := hOkN.2.1
  have hn1 : 1 ≤ (sN S).1 := hOkN.1
  refine v_aload_n O dX1_part_0 rfl 0 rfl ?_
  refine v_iload_n O dX1_part_1 rfl 1 rfl ?_
  refine v_callV (as := [.int y]) (rest := []) O (c_X1_needNode hG hC hOk (y := y)) q1153 q1155 qs25 q72 q1156 hR.ob (show vcl[0]? = some (RX1, TX1, 6) from rfl) rfl mdX1_needNode rfl (by decide) (by omega) (by omega) (by omega) (Nat.le_of_ble_eq_true rfl) rfl dX1_part_2 (fun v9 σ9 hp9 => ?_) (fun E9 q9 σ9 hx9 => ?_)
  · obtain ⟨rfl, hq1, hs9⟩ := hp9
    obtain rfl := hs9.symm
    obtain ⟨a, haN, rfl⟩ := isNd_t hn1 hn hq1
    refine v_aload_n O dX1_part_5 rfl 0 rfl ?_
    refine v_aload_n O dX1_part_6 rfl 0 rfl ?_
    refine v_getf (C := RX1) (T := TX1) (N := 6) (v := .ref (ad 3)) O in_X1 hR.ob rfl 3 (by decide) rfl q178 rfl dX1_part_7 ?_
    obtain ⟨adN2, IN2, FN2, LN2, hRN2, hn0N2, hwN2, hmN2⟩ := id hN0
    refine v_getfN (C := RX2) (T := TX2) (N := 3) (v := .ref (adN2 2)) O in_X2 hRN2.ob rfl 2 (by decide) rfl q162 rfl dX1_part_10 ?_
    refine v_iload_n O dX1_part_13 rfl 1 rfl ?_
    refine v_iald (f := FN2 2) O (hRN2.ar 2 rfl) (by omega) (by omega) dX1_part_14 ?_
    refine v_top (y := ((sN S).2.2 a)) (hmN2 a (by omega)) ?_
    refine v_iconst (v := (-1)) O dX1_part_15 (by decide) ?_
    refine v_icmp_eq (tgt := 23) O dX1_part_16 (by decide) (fun h_16 => ?_) (fun h_16 => ?_)
    · refine v_iconst (v := nI 0) O dX1_part_23 (by decide) ?_
      show V G X _ _ _ σ 24 [(0, .ref x), (1, .int (nI a))] [.int (bI false), .ref x]
      refine v_callV (as := [.int (bI false)]) (rest := []) O (c_X1_needNow hG hC (b := false)) q1172 q1174 qs27 q72 q1175 hR.ob (show vcl[0]? = some (RX1, TX1, 6) from rfl) rfl mdX1_needNow rfl (by decide) (by omega) (by omega) (by omega) (Nat.le_of_ble_eq_true rfl) rfl dX1_part_24 (fun v9 σ9 hp9 => ?_) (fun E9 q9 σ9 hx9 => ?_)
      · obtain ⟨rfl, hq3, hs9⟩ := hp9
        obtain rfl := hs9.symm
        cases hq3
        
      · obtain ⟨hx4, rfl, hxp4⟩ := hx9
        exact v_out O (fun z hz => (htb z hz).elim) (by omega) (by omega) (thr_mk (k := 2) (v := nI 0) (by unfold opPart; rw [if_neg (bf hq1), if_pos (by rw [cl_nI (by omega)]; exact h_16)]) (by decide) rfl hxp4)
    · refine v_iconst (v := nI 1) O dX1_part_19 (by decide) ?_
      refine v_goto (tgt := 24) O dX1_part_20 (by decide) ?_
      show V G X _ _ _ σ 24 [(0, .ref x), (1, .int (nI a))] [.int (bI true), .ref x]
      refine v_callV (as := [.int (bI true)]) (rest := []) O (c_X1_needNow hG hC (b := true)) q1172 q1174 qs27 q72 q1175 hR.ob (show vcl[0]? = some (RX1, TX1, 6) from rfl) rfl mdX1_needNow rfl (by decide) (by omega) (by omega) (by omega) (Nat.le_of_ble_eq_true rfl) rfl dX1_part_24 (fun v9 σ9 hp9 => ?_) (fun E9 q9 σ9 hx9 => ?_)
      · obtain ⟨rfl, hq5, hs9⟩ := hp9
        obtain rfl := hs9.symm
        obtain ⟨b, hbN, hab, hba, hwab⟩ := hOkN.mate haN h_16
        refine v_aload_n O dX1_part_27 rfl 0 rfl ?_
        refine v_callV (as := []) (rest := []) O (c_X1_keeps hG hC hOk) q318 q320 qs6 q72 q321 hR.ob (show vcl[0]? = some (RX1, TX1, 6) from rfl) rfl mdX1_keeps rfl (by decide) (by omega) (by omega) (by omega) (Nat.le_of_ble_eq_true rfl) rfl dX1_part_28 (fun v9 σ7 hp9 => ?_) (fun _ _ _ h => False.elim h)
        obtain ⟨rfl, W6, hC6, hfx6, hgx6⟩ := hp9
        obtain ⟨ad8, I8, F8, L8, ks8, rfl, hR8, hD8, hN8, hK8, hW8, hX8⟩ := id hC6
        obtain ⟨w1_8, w2_8, w3_8, w4_8, w5_8, w6_8⟩ := Wd hW8
        replace hN8 : NetAt _ _ (sN S) := hN8
        obtain ⟨wa8, ma8, hob8⟩ := hN8.ob
        refine v_aload_n O dX1_part_31 rfl 0 rfl ?_
        refine v_getf (C := RX1) (T := TX1) (N := 6) (v := .ref (ad8 3)) O in_X1 hR8.ob rfl 3 (by decide) rfl q178 rfl dX1_part_32 ?_
        refine v_iload_n O dX1_part_35 rfl 1 rfl ?_
        refine v_callV (as := [.int (nI a)]) (rest := []) O (c_X2_parts hG hN8 (by omega) (a := a) (b := b) (by omega) hbN hab) q1181 q1182 q1183 q75 q1184 hob8 (show vcl[1]? = some (RX2, TX2, 3) from rfl) rfl mdX2_parts rfl (by decide) (by omega) (by omega) (by omega) (Nat.le_of_ble_eq_true rfl) rfl dX1_part_36 (fun v9 σ10 hp9 => ?_) (fun _ _ _ h => False.elim h)
        obtain ⟨rfl, hN_9, hf_9⟩ := hp9
        obtain ⟨wa9, ma9, hob9⟩ := hN_9.ob
        have hmn9 : (unM (sN S) a b).1 ≤ 12 := hn
        have hme9 : (unM (sN S) a b).1 = (sN S).1 := rfl
        have hDq_11 := hD8.fr hf_9 (by simp [w1_8, Ne.symm w1_8, w3_8, Ne.symm w3_8])
        have hRx9 := hR8.fr hf_9 (by simp [w1_8, w2_8])
        exact v_iret O rfl dX1_part_39 (by omega) (by omega) (ans_mk (by
                      unfold opPart
                      rw [if_neg (bf hq1), if_neg (by rw [cl_nI (by omega)]; exact h_16), cl_nI (by omega), hab, cl_nI (by omega)]
                      rfl) (XPost.tr hfx6 hgx6 (XPost.net hR8 hD8 hN_9 hK8 hW8 hf_9 hX8)))
      · cases hx9.1
  · obtain ⟨hx12, rfl, hxp12⟩ := hx9
    exact v_out O (fun z hz => (htb z hz).elim) (by omega) (by omega) (thr_mk (k := 1) (v := nI 0) (by unfold opPart; rw [if_pos hx12]) (by decide) rfl hxp12)
