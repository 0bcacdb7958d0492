theorem e8 : ∀ a b, a < 8 → b < 8 → ((nI a = nI b) = (a = b)) := fun a b ha hb => propext (nI_eq (by omega) (by omega))
theorem setsV_k {N : NetM} {j : Nat} (h : j ≤ 5) : (if nI j < nI 3 then nI (setV N (nI j)) else nI (labV N (nI j))) = nI (if j = 0 then misN N else if j = 1 then bsdN N else if j = 2 then sd (sd (allN N) (misN N)) (bsdN N) else if j = 3 then evS N else if j = 4 then sd (odS N) (evS N) else sd (sd (allN N) (evS N)) (sd (odS N) (evS N))) := by
  by_cases h3 : j < 3
  · rw [if_pos (lt_of_nI h3)]
    unfold setV
    simp only [e8 j 0 (by omega) (by omega), e8 j 1 (by omega) (by omega)]
    by_cases h0 : j = 0
    · rw [if_pos h0, if_pos h0]
    · rw [if_neg h0, if_neg h0]
      by_cases h1 : j = 1
      · rw [if_pos h1, if_pos h1]
      · rw [if_neg h1, if_neg h1, if_pos (by omega)]
  · rw [if_neg (nlt_of_nI (by omega) (by omega)), if_neg (by omega), if_neg (by omega), if_neg (by omega)]
    unfold labV
    simp only [e8 j 3 (by omega) (by omega), e8 j 4 (by omega) (by omega)]
theorem mdX7_barrier : vMd yX7_barrier 1 := ⟨by decide +kernel, by decide +kernel, by decide +kernel⟩
theorem c_X1_barrier {G : vGC} (hG : vGok G) {σ : vSt} {x : Nat} {W : List Nat} {S : SysM} (hC : ClsAt σ x W S) (hOk : okS S) {y : Int32} : Ct G yX1_barrier (ws_ yX1_barrier cX1_barrier 2 (some .int)) 9 10 113 σ [.ref x, .int y] (fun v σ9 => v = some (.int (opBarrier S y).2.1) ∧ (opBarrier S y).1 = 0 ∧ XPost σ σ9 x W (opBarrier S y).2.2) (fun E q σ9 => XThr ["java/lang/IllegalArgumentException"] E (opBarrier S y) ∧ XPost σ σ9 x W (opBarrier S y).2.2) := by
  refine ct_of hG (by decide) (Nat.le_of_ble_eq_true rfl) fun X hN O hnm htb => ?_
  show V G X _ 0 0 σ 0 [(0, .ref x), (1, .int y)] []
  obtain ⟨ad, I, F, L, ks, rfl, hR, hD, hN0, hK, hW, hX⟩ := id hC
  obtain ⟨w1, w2, w3, w4, w5, w6⟩ := Wd hW
  obtain ⟨hX4, hX5, hXF, hXR⟩ := id hX
  obtain ⟨wa, ma, hob⟩ := hN0.ob
  obtain ⟨hS1, hS2, hS3, hS4, hOkN⟩ := id hOk
  have hn : (sN S).1 ≤ 12 := hOkN.2.1
  have hn1 : 1 ≤ (sN S).1 := hOkN.1
  have hal := all_lt (N := sN S)
  have hp12 := p12 hn
  have htop : (topN (sN S)).1 ≤ 12 := dp_top hOkN hal
  refine v_aload_n O dX1_barrier_0 rfl 0 rfl ?_
  refine v_iload_n O dX1_barrier_1 rfl 1 rfl ?_
  refine v_i2l (z := (Int32.toInt64 y)) O dX1_barrier_2 rfl ?_
  refine v_lconst (v := 0) O dX1_barrier_3 (by decide) ?_
  refine v_lconst (v := 1) O dX1_barrier_4 (by decide) ?_
  refine v_callS (as := [.long (Int32.toInt64 y), .long 0, .long 1]) (rest := [.ref x]) O (c_X1_isIn hG (x := y) (A := (nI 0)) (B := (nI 1)) rfl (by decide) (by decide)) q542 q543 q72 q544 mdX1_isIn rfl (by decide) (by omega) (by omega) (by omega) (Nat.le_of_ble_eq_true rfl) rfl dX1_barrier_5 (fun v9 σ9 hp9 => ?_) (fun _ _ _ h => False.elim h)
  obtain ⟨rfl, hs9⟩ := hp9
  obtain rfl := hs9.symm
  refine v_callV (as := [.int (bI (decide ((nI 0) ≤ y ∧ y ≤ (nI 1))))]) (rest := []) O (c_X1_need hG hC (b := (decide ((nI 0) ≤ y ∧ y ≤ (nI 1))))) q554 q556 qs10 q72 q557 hR.ob (show vcl[0]? = some (RX1, TX1, 6) from rfl) rfl mdX1_need rfl (by decide) (by omega) (by omega) (by omega) (Nat.le_of_ble_eq_true rfl) rfl dX1_barrier_8 (fun v9 σ9 hp9 => ?_) (fun E9 q9 σ9 hx9 => ?_)
  · obtain ⟨rfl, hq1, hs9⟩ := hp9
    obtain rfl := hs9.symm
    have h12 := of_decide_eq_true hq1
    obtain ⟨j, hj, rfl⟩ := nI_of2 (n := 1) (M := nI 1) rfl (Int32.not_lt.mpr h12.1) h12.2
    refine v_new (fs := [.null, .null, .int 0]) (ty := tyX7) O id in_X7 tyX7_ok q214 q215 q101 (show vcl[6]? = some (RX7, TX7, 3) from rfl) (fun j hj => by match j, hj with | 0, _ => rfl | 1, _ => rfl | 2, _ => rfl) (by omega) (by omega) dX1_barrier_11 (fun g hq_g hz_g => ?_)
    have hne_g : ad 3 ≠ g := ne_q hob hq_g
    have hf2 : FrL [] σ (vUp σ g (g, .inr (6, [.null, .null, .int 0]))) := FrL.new hq_g
    have hw_g : (vUp σ g (g, .inr (6, [.null, .null, .int 0]))) g = some (g, .inr (6, [.null, .null, .int 0])) := vUp_s
    show V G X _ _ _ (vUp σ g (g, .inr (6, [.null, .null, .int 0]))) 14 [(0, .ref x), (1, .int (nI j))] [.ref g]
    generalize (vUp σ g (g, .inr (6, [.null, .null, .int 0]))) = σ2 at hf2 hw_g ⊢
    have hm3g : ∀ r ∈ [g], ∀ c, σ r ≠ some (r, c) := fr_cons (fun _ h => nomatch h) (fr_fresh (M := []) FrL.rf (fun _ h => nomatch h) hq_g)
    have hm3 : ∀ r ∈ [g], ∀ c, σ r ≠ some (r, c) := hm3g
    have hb3 : FrL [g] σ σ2 := (FrL.mono (L := []) FrL.rf (by simp +contextual)).trans (hf2.mono (by simp))
    have hn3 := ClsAt.no hC hm3
    have hN3 := hN0.fr hb3 (hn3 _ (by simp))
    obtain ⟨wa3, ma3, hob3⟩ := hN3.ob
    have hRx3 := hR.fr hb3 (hn3 _ (by simp))
    have hDx3 := hD.fr hb3 (hn3 _ (by simp))
    refine v_dup O dX1_barrier_14 rfl ?_
    refine v_aload_n O dX1_barrier_15 rfl 0 rfl ?_
    refine v_getf (C := RX1) (T := TX1) (N := 6) (v := .ref (ad 3)) O in_X1 hRx3.ob rfl 3 (by decide) rfl q178 rfl dX1_barrier_16 ?_
    refine v_callI (as := [.ref (ad 3)]) (rest := [.ref g]) O (c_X7_init hG hOkN hz_g hw_g hN3 hne_g) q216 q217 q101 q218 rfl mdX7_init rfl (by decide) (by omega) (by omega) (by omega) (Nat.le_of_ble_eq_true rfl) rfl dX1_barrier_19 (fun v9 σ5 hp9 => ?_) (fun _ _ _ h => False.elim h)
    obtain ⟨rfl, t, ht0, hGr4, hf4⟩ := hp9
    have hm6t : ∀ r ∈ [t, g], ∀ c, σ r ≠ some (r, c) := fr_cons hm3 (fr_fresh (M := [g]) hb3 hm3 ht0)
    have hm6 : ∀ r ∈ [t, g], ∀ c, σ r ≠ some (r, c) := hm6t
    have hb6 : FrL [t, g] σ σ5 := (FrL.mono (L := [g]) hb3 (by simp +contextual)).trans (hf4.mono (by simp))
    have hn6 := ClsAt.no hC hm6
    have hN6 := hN0.fr hb6 (hn6 _ (by simp))
    obtain ⟨wa6, ma6, hob6⟩ := hN6.ob
    have hRx6 := hR.fr hb6 (hn6 _ (by simp))
    have hDx6 := hD.fr hb6 (hn6 _ (by simp))
    refine v_iload_n O dX1_barrier_22 rfl 1 rfl ?_
    refine v_iconst (v := nI 1) O dX1_barrier_23 (by decide) ?_
    refine v_icmp_neN (tgt := 31) O dX1_barrier_24 (by decide) (by omega) (by omega) (fun h_24 => ?_) (fun h_24 => ?_)
    · refine v_iconst (v := nI 0) O dX1_barrier_31 (by decide) ?_
      refine v_callV (as := [.int (nI 0)]) (rest := []) O (c_X7_barrier hG hOkN hGr4 (j := 0) (by omega)) q1428 q1429 q1430 q101 q1431 hGr4.1 (show vcl[6]? = some (RX7, TX7, 3) from rfl) rfl mdX7_barrier rfl (by decide) (by omega) (by omega) (by omega) (Nat.le_of_ble_eq_true rfl) rfl dX1_barrier_32 (fun v9 σ9 hp9 => ?_) (fun _ _ _ h => False.elim h)
      obtain ⟨rfl, hs9⟩ := hp9
      obtain rfl := hs9.symm
      exact v_iret O rfl dX1_barrier_35 (by omega) (by omega) (ans_mk (by unfold opBarrier; rw [if_pos h12, show j = 0 by omega]) (XPost.new hC hb6 hm6))
    · refine v_iconst (v := nI 1) O dX1_barrier_27 (by decide) ?_
      refine v_goto (tgt := 32) O dX1_barrier_28 (by decide) ?_
      refine v_callV (as := [.int (nI 1)]) (rest := []) O (c_X7_barrier hG hOkN hGr4 (j := 1) (by omega)) q1428 q1429 q1430 q101 q1431 hGr4.1 (show vcl[6]? = some (RX7, TX7, 3) from rfl) rfl mdX7_barrier rfl (by decide) (by omega) (by omega) (by omega) (Nat.le_of_ble_eq_true rfl) rfl dX1_barrier_32 (fun v9 σ9 hp9 => ?_) (fun _ _ _ h => False.elim h)
      obtain ⟨rfl, hs9⟩ := hp9
      obtain rfl := hs9.symm
      exact v_iret O rfl dX1_barrier_35 (by omega) (by omega) (ans_mk (by unfold opBarrier; rw [if_pos h12, show j = 1 by omega]) (XPost.new hC hb6 hm6))
  · obtain ⟨hx7, rfl, hxp7⟩ := hx9
    exact v_out O (fun z hz => (htb z hz).elim) (by omega) (by omega) (thr_mk (k := 1) (v := nI 0) (by unfold opBarrier; rw [if_neg (of_decide_eq_false hx7)]) (by decide) rfl hxp7)
theorem c_X1_ways {G : vGC} (hG : vGok G) {σ : vSt} {x : Nat} {W : List Nat} {S : SysM} (hC : ClsAt σ x W S) (hOk : okS S) : Ct G yX1_ways (ws_ yX1_ways cX1_ways 2 (some .int)) 20 10 113 σ [.ref x] (fun v σ9 => v = some (.int (opWays S)) ∧ XPost σ σ9 x W S) vNo := by
  refine ct_of hG (by decide) (Nat.le_of_ble_eq_true rfl) fun X hN O hnm htb => ?_
  show V G X _ 0 0 σ 0 [(0, .ref x)] []
  obtain ⟨ad, I, F, L, ks, rfl, hR, hD, hN0, hK, hW, hX⟩ := id hC
  obtain ⟨w1, w2, w3, w4, w5, w6⟩ := Wd hW
  obtain ⟨hX4, hX5, hXF, hXR⟩ := id hX
  obtain ⟨wa, ma, hob⟩ := hN0.ob
  obtain ⟨hS1, hS2, hS3, hS4, hOkN⟩ := id hOk
  have hn : (sN S).1 ≤ 12 := hOkN.2.1
  have hn1 : 1 ≤ (sN S).1 := hOkN.1
  have hal := all_lt (N := sN S)
  have hp12 := p12 hn
  have htop : (topN (sN S)).1 ≤ 12 := dp_top hOkN hal
  refine v_new (fs := [.null, .null, .int 0]) (ty := tyX7) O id in_X7 tyX7_ok q214 q215 q101 (show vcl[6]? = some (RX7, TX7, 3) from rfl) (fun j hj => by match j, hj with | 0, _ => rfl | 1, _ => rfl | 2, _ => rfl) (by omega) (by omega) dX1_ways_0 (fun g hq_g hz_g => ?_)
  have hne_g : ad 3 ≠ g := ne_q hob hq_g
  have hf1 : FrL [] σ (vUp σ g (g, .inr (6, [.null, .null, .int 0]))) := FrL.new hq_g
  have hw_g : (vUp σ g (g, .inr (6, [.null, .null, .int 0]))) g = some (g, .inr (6, [.null, .null, .int 0])) := vUp_s
  show V G X _ _ _ (vUp σ g (g, .inr (6, [.null, .null, .int 0]))) 3 [(0, .ref x)] [.ref g]
  generalize (vUp σ g (g, .inr (6, [.null, .null, .int 0]))) = σ1 at hf1 hw_g ⊢
  have hm2g : ∀ r ∈ [g], ∀ c, σ r ≠ some (r, c) := fr_cons (fun _ h => nomatch h) (fr_fresh (M := []) FrL.rf (fun _ h => nomatch h) hq_g)
  have hm2 : ∀ r ∈ [g], ∀ c, σ r ≠ some (r, c) := hm2g
  have hb2 : FrL [g] σ σ1 := (FrL.mono (L := []) FrL.rf (by simp +contextual)).trans (hf1.mono (by simp))
  have hn2 := ClsAt.no hC hm2
  have hN2 := hN0.fr hb2 (hn2 _ (by simp))
  obtain ⟨wa2, ma2, hob2⟩ := hN2.ob
  have hRx2 := hR.fr hb2 (hn2 _ (by simp))
  have hDx2 := hD.fr hb2 (hn2 _ (by simp))
  refine v_dup O dX1_ways_3 rfl ?_
  refine v_aload_n O dX1_ways_4 rfl 0 rfl ?_
  refine v_getf (C := RX1) (T := TX1) (N := 6) (v := .ref (ad 3)) O in_X1 hRx2.ob rfl 3 (by decide) rfl q178 rfl dX1_ways_5 ?_
  refine v_callI (as := [.ref (ad 3)]) (rest := [.ref g]) O (c_X7_init hG hOkN hz_g hw_g hN2 hne_g) q216 q217 q101 q218 rfl mdX7_init rfl (by decide) (by omega) (by omega) (by omega) (Nat.le_of_ble_eq_true rfl) rfl dX1_ways_8 (fun v9 σ4 hp9 => ?_) (fun _ _ _ h => False.elim h)
  obtain ⟨rfl, t, ht0, hGr3, hf3⟩ := hp9
  have hm5t : ∀ r ∈ [t, g], ∀ c, σ r ≠ some (r, c) := fr_cons hm2 (fr_fresh (M := [g]) hb2 hm2 ht0)
  have hm5 : ∀ r ∈ [t, g], ∀ c, σ r ≠ some (r, c) := hm5t
  have hb5 : FrL [t, g] σ σ4 := (FrL.mono (L := [g]) hb2 (by simp +contextual)).trans (hf3.mono (by simp))
  have hn5 := ClsAt.no hC hm5
  have hN5 := hN0.fr hb5 (hn5 _ (by simp))
  obtain ⟨wa5, ma5, hob5⟩ := hN5.ob
  have hRx5 := hR.fr hb5 (hn5 _ (by simp))
  have hDx5 := hD.fr hb5 (hn5 _ (by simp))
  refine v_astore_n (lv' := [(1, .ref g), (0, .ref x)]) O hN dX1_ways_11 rfl (by decide) rfl ?_
  refine v_aload_n O dX1_ways_12 rfl 0 rfl ?_
  refine v_aload_n O dX1_ways_13 rfl 1 rfl ?_
  refine v_getf (C := RX1) (T := TX1) (N := 6) (v := .ref (ad 3)) O in_X1 hRx5.ob rfl 3 (by decide) rfl q178 rfl dX1_ways_14 ?_
  refine v_callV (as := []) (rest := [.ref g]) O (c_X2_all hG hN5 (by omega) ) q515 q262 q263 q75 q264 hob5 (show vcl[1]? = some (RX2, TX2, 3) from rfl) rfl mdX2_all rfl (by decide) (by omega) (by omega) (by omega) (Nat.le_of_ble_eq_true rfl) rfl dX1_ways_17 (fun v9 σ9 hp9 => ?_) (fun _ _ _ h => False.elim h)
  obtain ⟨rfl, hs9⟩ := hp9
  obtain rfl := hs9.symm
  refine v_aload_n O dX1_ways_20 rfl 0 rfl ?_
  refine v_getfN (C := RX7) (T := TX7) (N := 3) (v := .int (nI ((topN (sN S)).1))) O in_X7 hGr3.1 rfl 2 (by decide) rfl q303 rfl dX1_ways_21 ?_
  refine v_callV (as := [.int (nI (allN (sN S))), .int (nI ((topN (sN S)).1))]) (rest := []) O (c_X7_ways hG 13 hOkN hGr3 (s := allN (sN S)) (need := (topN (sN S)).1) (by omega) (Nat.le_refl _) htop (Nat.lt_succ_of_le (pcn_le _))) q516 q517 q518 q101 q519 hGr3.1 (show vcl[6]? = some (RX7, TX7, 3) from rfl) rfl mdX7_ways rfl (by decide) (by omega) (by omega) (by omega) (Nat.le_of_ble_eq_true rfl) rfl dX1_ways_24 (fun v9 σ7 hp9 => ?_) (fun _ _ _ h => False.elim h)
  obtain ⟨rfl, hGr6, hf6⟩ := hp9
  have hm8 : ∀ r ∈ [t, g], ∀ c, σ r ≠ some (r, c) := hm5
  have hb8 : FrL [t, g] σ σ7 := (FrL.mono (L := [t, g]) hb5 (by simp +contextual)).trans (hf6.mono (by simp))
  have hn8 := ClsAt.no hC hm8
  have hN8 := hN0.fr hb8 (hn8 _ (by simp))
  obtain ⟨wa8, ma8, hob8⟩ := hN8.ob
  have hRx8 := hR.fr hb8 (hn8 _ (by simp))
  have hDx8 := hD.fr hb8 (hn8 _ (by simp))
  exact v_iret O rfl dX1_ways_27 (by omega) (by omega) (⟨by rw [wayV, if_pos rfl]; rfl, (XPost.new hC hb8 hm8)⟩)
theorem mdX7_beside : vMd yX7_beside 0 := ⟨by decide +kernel, by decide +kernel, by decide +kernel⟩
theorem mdX6_init : vMd yX6_init 1 := ⟨by decide +kernel, by decide +kernel, by decide +kernel⟩
theorem mdX6_labels : vMd yX6_labels 0 := ⟨by decide +kernel, by decide +kernel, by decide +kernel⟩
theorem c_X1_sets {G : vGC} (hG : vGok G) {σ : vSt} {x : Nat} {W : List Nat} {S : SysM} (hC : ClsAt σ x W S) (hOk : okS S) {y : Int32} : Ct G yX1_sets (ws_ yX1_sets cX1_sets 3 (some .int)) 10 10 113 σ [.ref x, .int y] (fun v σ9 => v = some (.int (opSets S y).2.1) ∧ (opSets S y).1 = 0 ∧ XPost σ σ9 x W (opSets S y).2.2) (fun E q σ9 => XThr ["java/lang/IllegalArgumentException"] E (opSets S y) ∧ XPost σ σ9 x W (opSets S y).2.2) := by
  refine ct_of hG (by decide) (Nat.le_of_ble_eq_true rfl) fun X hN O hnm htb => ?_
  show V G X _ 0 0 σ 0 [(0, .ref x), (1, .int y)] []
  obtain ⟨ad, I, F, L, ks, rfl, hR, hD, hN0, hK, hW, hX⟩ := id hC
  obtain ⟨w1, w2, w3, w4, w5, w6⟩ := Wd hW
  obtain ⟨hX4, hX5, hXF, hXR⟩ := id hX
  obtain ⟨wa, ma, hob⟩ := hN0.ob
  obtain ⟨hS1, hS2, hS3, hS4, hOkN⟩ := id hOk
  have hn : (sN S).1 ≤ 12 := hOkN.2.1
  have hn1 : 1 ≤ (sN S).1 := hOkN.1
  have hal := all_lt (N := sN S)
  have hp12 := p12 hn
  have htop : (topN (sN S)).1 ≤ 12 := dp_top hOkN hal
  have hev := (labs_lt (N := sN S) hn).1
  have hod := sd_le (odS (sN S)) (evS (sN S))
  have hod2 := (labs_lt (N := sN S) hn).2
  have hmi := misN_lt (N := sN S) hn
  have hbs := bsdN_lt (N := sN S) hn
  have hs1 := sd_le (allN (sN S)) (evS (sN S))
  have hs2 := sd_le (allN (sN S)) (misN (sN S))
  refine v_aload_n O dX1_sets_0 rfl 0 rfl ?_
  refine v_iload_n O dX1_sets_1 rfl 1 rfl ?_
  refine v_i2l (z := (Int32.toInt64 y)) O dX1_sets_2 rfl ?_
  refine v_lconst (v := 0) O dX1_sets_3 (by decide) ?_
  refine v_ldc2 O q1407 dX1_sets_4 ?_
  refine v_callS (as := [.long (Int32.toInt64 y), .long 0, .long 5]) (rest := [.ref x]) O (c_X1_isIn hG (x := y) (A := (nI 0)) (B := (nI 5)) rfl (by decide) (by decide)) q542 q543 q72 q544 mdX1_isIn rfl (by decide) (by omega) (by omega) (by omega) (Nat.le_of_ble_eq_true rfl) rfl dX1_sets_7 (fun v9 σ9 hp9 => ?_) (fun _ _ _ h => False.elim h)
  obtain ⟨rfl, hs9⟩ := hp9
  obtain rfl := hs9.symm
  refine v_callV (as := [.int (bI (decide ((nI 0) ≤ y ∧ y ≤ (nI 5))))]) (rest := []) O (c_X1_need hG hC (b := (decide ((nI 0) ≤ y ∧ y ≤ (nI 5))))) q554 q556 qs10 q72 q557 hR.ob (show vcl[0]? = some (RX1, TX1, 6) from rfl) rfl mdX1_need rfl (by decide) (by omega) (by omega) (by omega) (Nat.le_of_ble_eq_true rfl) rfl dX1_sets_10 (fun v9 σ9 hp9 => ?_) (fun E9 q9 σ9 hx9 => ?_)
  · obtain ⟨rfl, hq1, hs9⟩ := hp9
    obtain rfl := hs9.symm
    have h12 := of_decide_eq_true hq1
    obtain ⟨j, hj, rfl⟩ := nI_of2 (n := 5) (M := nI 5) rfl (Int32.not_lt.mpr h12.1) h12.2
    refine v_iload_n O dX1_sets_13 rfl 1 rfl ?_
    refine v_iconst (v := nI 2) O dX1_sets_14 (by decide) ?_
    refine v_icmp_leN (tgt := 79) O dX1_sets_15 (by decide) (by omega) (by omega) (fun h_15 => ?_) (fun h_15 => ?_)
    · refine v_new (fs := [.null, .null, .int 0]) (ty := tyX7) O id in_X7 tyX7_ok q214 q215 q101 (show vcl[6]? = some (RX7, TX7, 3) from rfl) (fun j hj => by match j, hj with | 0, _ => rfl | 1, _ => rfl | 2, _ => rfl) (by omega) (by omega) dX1_sets_79 (fun g hq_g hz_g => ?_)
      have hne_g : ad 3 ≠ g := ne_q hob hq_g
      have hf2 : FrL [] σ (vUp σ g (g, .inr (6, [.null, .null, .int 0]))) := FrL.new hq_g
      have hw_g : (vUp σ g (g, .inr (6, [.null, .null, .int 0]))) g = some (g, .inr (6, [.null, .null, .int 0])) := vUp_s
      show V G X _ _ _ (vUp σ g (g, .inr (6, [.null, .null, .int 0]))) 82 [(0, .ref x), (1, .int (nI j))] [.ref g]
      generalize (vUp σ g (g, .inr (6, [.null, .null, .int 0]))) = σ2 at hf2 hw_g ⊢
      have hm3g : ∀ r ∈ [g], ∀ c, σ r ≠ some (r, c) := fr_cons (fun _ h => nomatch h) (fr_fresh (M := []) FrL.rf (fun _ h => nomatch h) hq_g)
      have hm3 : ∀ r ∈ [g], ∀ c, σ r ≠ some (r, c) := hm3g
      have hb3 : FrL [g] σ σ2 := (FrL.mono (L := []) FrL.rf (by simp +contextual)).trans (hf2.mono (by simp))
      have hn3 := ClsAt.no hC hm3
      have hN3 := hN0.fr hb3 (hn3 _ (by simp))
      obtain ⟨wa3, ma3, hob3⟩ := hN3.ob
      have hRx3 := hR.fr hb3 (hn3 _ (by simp))
      have hDx3 := hD.fr hb3 (hn3 _ (by simp))
      refine v_dup O dX1_sets_82 rfl ?_
      refine v_aload_n O dX1_sets_83 rfl 0 rfl ?_
      refine v_getf (C := RX1) (T := TX1) (N := 6) (v := .ref (ad 3)) O in_X1 hRx3.ob rfl 3 (by decide) rfl q178 rfl dX1_sets_84 ?_
      refine v_callI (as := [.ref (ad 3)]) (rest := [.ref g]) O (c_X7_init hG hOkN hz_g hw_g hN3 hne_g) q216 q217 q101 q218 rfl mdX7_init rfl (by decide) (by omega) (by omega) (by omega) (Nat.le_of_ble_eq_true rfl) rfl dX1_sets_87 (fun v9 σ5 hp9 => ?_) (fun _ _ _ h => False.elim h)
      obtain ⟨rfl, t, ht0, hGr4, hf4⟩ := hp9
      have hm6t : ∀ r ∈ [t, g], ∀ c, σ r ≠ some (r, c) := fr_cons hm3 (fr_fresh (M := [g]) hb3 hm3 ht0)
      have hm6 : ∀ r ∈ [t, g], ∀ c, σ r ≠ some (r, c) := hm6t
      have hb6 : FrL [t, g] σ σ5 := (FrL.mono (L := [g]) hb3 (by simp +contextual)).trans (hf4.mono (by simp))
      have hn6 := ClsAt.no hC hm6
      have hN6 := hN0.fr hb6 (hn6 _ (by simp))
      obtain ⟨wa6, ma6, hob6⟩ := hN6.ob
      have hRx6 := hR.fr hb6 (hn6 _ (by simp))
      have hDx6 := hD.fr hb6 (hn6 _ (by simp))
      refine v_astore_n (lv' := [(2, .ref g), (0, .ref x), (1, .int (nI j))]) O hN dX1_sets_90 rfl (by decide) rfl ?_
      refine v_iload_n O dX1_sets_91 rfl 2 rfl ?_
      refine v_if_neN (tgt := 102) O dX1_sets_92 (by decide) (by omega) (fun h_92 => ?_) (fun h_92 => ?_)
      · refine v_iload_n O dX1_sets_102 rfl 2 rfl ?_
        refine v_iconst (v := nI 1) O dX1_sets_103 (by decide) ?_
        refine v_icmp_neN (tgt := 114) O dX1_sets_104 (by decide) (by omega) (by omega) (fun h_104 => ?_) (fun h_104 => ?_)
        · refine v_aload_n O dX1_sets_114 rfl 1 rfl ?_
          refine v_getf (C := RX1) (T := TX1) (N := 6) (v := .ref (ad 3)) O in_X1 hRx6.ob rfl 3 (by decide) rfl q178 rfl dX1_sets_115 ?_
          refine v_callV (as := []) (rest := []) O (c_X2_all hG hN6 (by omega) ) q515 q262 q263 q75 q264 hob6 (show vcl[1]? = some (RX2, TX2, 3) from rfl) rfl mdX2_all rfl (by decide) (by omega) (by omega) (by omega) (Nat.le_of_ble_eq_true rfl) rfl dX1_sets_118 (fun v9 σ9 hp9 => ?_) (fun _ _ _ h => False.elim h)
          obtain ⟨rfl, hs9⟩ := hp9
          obtain rfl := hs9.symm
          refine v_aload_n O dX1_sets_121 rfl 0 rfl ?_
          refine v_callV (as := []) (rest := [.int (nI (allN (sN S)))]) O (c_X7_missed hG hOkN hGr4 ) q1390 q1391 q1392 q101 q1393 hGr4.1 (show vcl[6]? = some (RX7, TX7, 3) from rfl) rfl mdX7_missed rfl (by decide) (by omega) (by omega) (by omega) (Nat.le_of_ble_eq_true rfl) rfl dX1_sets_122 (fun v9 σ8 hp9 => ?_) (fun _ _ _ h => False.elim h)
          obtain ⟨rfl, hGr7, hf7⟩ := hp9
          have hm9 : ∀ r ∈ [t, g], ∀ c, σ r ≠ some (r, c) := hm6
          have hb9 : FrL [t, g] σ σ8 := (FrL.mono (L := [t, g]) hb6 (by simp +contextual)).trans (hf7.mono (by simp))
          have hn9 := ClsAt.no hC hm9
          have hN9 := hN0.fr hb9 (hn9 _ (by simp))
          obtain ⟨wa9, ma9, hob9⟩ := hN9.ob
          have hRx9 := hR.fr hb9 (hn9 _ (by simp))
          have hDx9 := hD.fr hb9 (hn9 _ (by simp))
          refine v_iconst (v := (-1)) O dX1_sets_125 (by decide) ?_
          refine v_ixor (z := nI (misN (sN S)) ^^^ -1) O dX1_sets_126 rfl ?_
          refine v_iand (z := nI (sd (allN (sN S)) (misN (sN S)))) O dX1_sets_127 (bx_sd (by omega) (by first | omega | exact Nat.pow_lt_pow_right (by omega) (by omega))) ?_
          refine v_aload_n O dX1_sets_128 rfl 0 rfl ?_
          refine v_callV (as := []) (rest := [.int (nI (sd (allN (sN S)) (misN (sN S))))]) O (c_X7_beside hG hOkN hGr7 ) q1394 q1395 q1396 q101 q1397 hGr7.1 (show vcl[6]? = some (RX7, TX7, 3) from rfl) rfl mdX7_beside rfl (by decide) (by omega) (by omega) (by omega) (Nat.le_of_ble_eq_true rfl) rfl dX1_sets_129 (fun v9 σ11 hp9 => ?_) (fun _ _ _ h => False.elim h)
          obtain ⟨rfl, hGr10, hf10⟩ := hp9
          have hm12 : ∀ r ∈ [t, g], ∀ c, σ r ≠ some (r, c) := hm9
          have hb12 : FrL [t, g] σ σ11 := (FrL.mono (L := [t, g]) hb9 (by simp +contextual)).trans (hf10.mono (by simp))
          have hn12 := ClsAt.no hC hm12
          have hN12 := hN0.fr hb12 (hn12 _ (by simp))
          obtain ⟨wa12, ma12, hob12⟩ := hN12.ob
          have hRx12 := hR.fr hb12 (hn12 _ (by simp))
          have hDx12 := hD.fr hb12 (hn12 _ (by simp))
          refine v_iconst (v := (-1)) O dX1_sets_132 (by decide) ?_
          refine v_ixor (z := nI (bsdN (sN S)) ^^^ -1) O dX1_sets_133 rfl ?_
          refine v_iand (z := nI (sd (sd (allN (sN S)) (misN (sN S))) (bsdN (sN S)))) O dX1_sets_134 (bx_sd (by omega) (by first | omega | exact Nat.pow_lt_pow_right (by omega) (by omega))) ?_
          exact v_iret O rfl dX1_sets_135 (by omega) (by omega) (ans_mk (by
                        unfold opSets
                        rw [if_pos h12, setsV_k hj]
                        rw [if_neg (by omega), if_neg (by omega), if_pos (by omega)]) (XPost.new hC hb12 hm12))
        · refine v_aload_n O dX1_sets_107 rfl 0 rfl ?_
          refine v_callV (as := []) (rest := []) O (c_X7_beside hG hOkN hGr4 ) q1394 q1395 q1396 q101 q1397 hGr4.1 (show vcl[6]? = some (RX7, TX7, 3) from rfl) rfl mdX7_beside rfl (by decide) (by omega) (by omega) (by omega) (Nat.le_of_ble_eq_true rfl) rfl dX1_sets_108 (fun v9 σ14 hp9 => ?_) (fun _ _ _ h => False.elim h)
          obtain ⟨rfl, hGr13, hf13⟩ := hp9
          have hm15 : ∀ r ∈ [t, g], ∀ c, σ r ≠ some (r, c) := hm6
          have hb15 : FrL [t, g] σ σ14 := (FrL.mono (L := [t, g]) hb6 (by simp +contextual)).trans (hf13.mono (by simp))
          have hn15 := ClsAt.no hC hm15
          have hN15 := hN0.fr hb15 (hn15 _ (by simp))
          obtain ⟨wa15, ma15, hob15⟩ := hN15.ob
          have hRx15 := hR.fr hb15 (hn15 _ (by simp))
          have hDx15 := hD.fr hb15 (hn15 _ (by simp))
          refine v_goto (tgt := 135) O dX1_sets_111 (by decide) ?_
          exact v_iret O rfl dX1_sets_135 (by omega) (by omega) (ans_mk (by
                        unfold opSets
                        rw [if_pos h12, setsV_k hj]
                        rw [if_neg (by omega), if_pos (by omega)]) (XPost.new hC hb15 hm15))
      · refine v_aload_n O dX1_sets_95 rfl 0 rfl ?_
        refine v_callV (as := []) (rest := []) O (c_X7_missed hG hOkN hGr4 ) q1390 q1391 q1392 q101 q1393 hGr4.1 (show vcl[6]? = some (RX7, TX7, 3) from rfl) rfl mdX7_missed rfl (by decide) (by omega) (by omega) (by omega) (Nat.le_of_ble_eq_true rfl) rfl dX1_sets_96 (fun v9 σ17 hp9 => ?_) (fun _ _ _ h => False.elim h)
        obtain ⟨rfl, hGr16, hf16⟩ := hp9
        have hm18 : ∀ r ∈ [t, g], ∀ c, σ r ≠ some (r, c) := hm6
        have hb18 : FrL [t, g] σ σ17 := (FrL.mono (L := [t, g]) hb6 (by simp +contextual)).trans (hf16.mono (by simp))
        have hn18 := ClsAt.no hC hm18
        have hN18 := hN0.fr hb18 (hn18 _ (by simp))
        obtain ⟨wa18, ma18, hob18⟩ := hN18.ob
        have hRx18 := hR.fr hb18 (hn18 _ (by simp))
        have hDx18 := hD.fr hb18 (hn18 _ (by simp))
        refine v_goto (tgt := 135) O dX1_sets_99 (by decide) ?_
        exact v_iret O rfl dX1_sets_135 (by omega) (by omega) (ans_mk (by
                      unfold opSets
                      rw [if_pos h12, setsV_k hj]
                      rw [if_pos (by omega)]) (XPost.new hC hb18 hm18))
    · refine v_new (fs := [.null, .null, .int 0, .int 0, .int 0]) (ty := tyX6) O id in_X6 tyX6_ok q1207 q1208 q100 (show vcl[5]? = some (RX6, TX6, 5) from rfl) (fun j hj => by match j, hj with | 0, _ => rfl | 1, _ => rfl | 2, _ => rfl | 3, _ => rfl | 4, _ => rfl) (by omega) (by omega) dX1_sets_18 (fun w hq_w hz_w => ?_)
      have hne_w : ad 3 ≠ w := ne_q hob hq_w
      have hf19 : FrL [] σ (vUp σ w (w, .inr (5, [.null, .null, .int 0, .int 0, .int 0]))) := FrL.new hq_w
      have hw_w : (vUp σ w (w, .inr (5, [.null, .null, .int 0, .int 0, .int 0]))) w = some (w, .inr (5, [.null, .null, .int 0, .int 0, .int 0])) := vUp_s
      show V G X _ _ _ (vUp σ w (w, .inr (5, [.null, .null, .int 0, .int 0, .int 0]))) 21 [(0, .ref x), (1, .int (nI j))] [.ref w]
      generalize (vUp σ w (w, .inr (5, [.null, .null, .int 0, .int 0, .int 0]))) = σ19 at hf19 hw_w ⊢
      have hm20w : ∀ r ∈ [w], ∀ c, σ r ≠ some (r, c) := fr_cons (fun _ h => nomatch h) (fr_fresh (M := []) FrL.rf (fun _ h => nomatch h) hq_w)
      have hm20 : ∀ r ∈ [w], ∀ c, σ r ≠ some (r, c) := hm20w
      have hb20 : FrL [w] σ σ19 := (FrL.mono (L := []) FrL.rf (by simp +contextual)).trans (hf19.mono (by simp))
      have hn20 := ClsAt.no hC hm20
      have hN20 := hN0.fr hb20 (hn20 _ (by simp))
      obtain ⟨wa20, ma20, hob20⟩ := hN20.ob
      have hRx20 := hR.fr hb20 (hn20 _ (by simp))
      have hDx20 := hD.fr hb20 (hn20 _ (by simp))
      refine v_dup O dX1_sets_21 rfl ?_
      refine v_aload_n O dX1_sets_22 rfl 0 rfl ?_
      refine v_getf (C := RX1) (T := TX1) (N := 6) (v := .ref (ad 3)) O in_X1 hRx20.ob rfl 3 (by decide) rfl q178 rfl dX1_sets_23 ?_
      refine v_callI (as := [.ref (ad 3)]) (rest := [.ref w]) O (c_X6_init hG (h := (ad 3)) hz_w hw_w) q1209 q1210 q100 q1211 rfl mdX6_init rfl (by decide) (by omega) (by omega) (by omega) (Nat.le_of_ble_eq_true rfl) rfl dX1_sets_26 (fun v9 σ22 hp9 => ?_) (fun _ _ _ h => False.elim h)
      obtain ⟨rfl, hf21, adw, Iw, Fw, Lw, hRw21, hw0, hw2, hw3, hw4⟩ := hp9
      have hm23 : ∀ r ∈ [w], ∀ c, σ r ≠ some (r, c) := hm20
      have hb23 : FrL [w] σ σ22 := (FrL.mono (L := [w]) hb20 (by simp +contextual)).trans (hf21.mono (by simp))
      have hn23 := ClsAt.no hC hm23
      have hN23 := hN0.fr hb23 (hn23 _ (by simp))
      obtain ⟨wa23, ma23, hob23⟩ := hN23.ob
      have hRx23 := hR.fr hb23 (hn23 _ (by simp))
      have hDx23 := hD.fr hb23 (hn23 _ (by simp))
      have hnw : adw 0 ≠ w := by rw [hw0]; exact hne_w
      refine v_callV (as := []) (rest := []) O (c_X6_labels hG hRw21 hOkN (by rw [hw0]; exact hN23) hnw hw3 hw4) q1366 q1367 q1368 q100 q1369 hRw21.ob (show vcl[5]? = some (RX6, TX6, 5) from rfl) rfl mdX6_labels rfl (by decide) (by omega) (by omega) (by omega) (Nat.le_of_ble_eq_true rfl) rfl dX1_sets_29 (fun v9 σ25 hp9 => ?_) (fun _ _ _ h => False.elim h)
      obtain ⟨rfl, Iw24, hRw24, hf24, hev, hod, hIw⟩ := hp9
      have hm26 : ∀ r ∈ [w], ∀ c, σ r ≠ some (r, c) := hm23
      have hb26 : FrL [w] σ σ25 := (FrL.mono (L := [w]) hb23 (by simp +contextual)).trans (hf24.mono (by simp))
      have hn26 := ClsAt.no hC hm26
      have hN26 := hN0.fr hb26 (hn26 _ (by simp))
      obtain ⟨wa26, ma26, hob26⟩ := hN26.ob
      have hRx26 := hR.fr hb26 (hn26 _ (by simp))
      have hDx26 := hD.fr hb26 (hn26 _ (by simp))
      refine v_astore_n (lv' := [(2, .ref w), (0, .ref x), (1, .int (nI j))]) O hN dX1_sets_32 rfl (by decide) rfl ?_
      refine v_iload_n O dX1_sets_33 rfl 2 rfl ?_
      refine v_iconst (v := nI 3) O dX1_sets_34 (by decide) ?_
      refine v_icmp_neN (tgt := 45) O dX1_sets_35 (by decide) (by omega) (by omega) (fun h_35 => ?_) (fun h_35 => ?_)
      · refine v_iload_n O dX1_sets_45 rfl 2 rfl ?_
        refine v_iconst (v := nI 4) O dX1_sets_46 (by decide) ?_
        refine v_icmp_neN (tgt := 57) O dX1_sets_47 (by decide) (by omega) (by omega) (fun h_47 => ?_) (fun h_47 => ?_)
        · refine v_aload_n O dX1_sets_57 rfl 1 rfl ?_
          refine v_getf (C := RX1) (T := TX1) (N := 6) (v := .ref (ad 3)) O in_X1 hRx26.ob rfl 3 (by decide) rfl q178 rfl dX1_sets_58 ?_
          refine v_callV (as := []) (rest := []) O (c_X2_all hG hN26 (by omega) ) q515 q262 q263 q75 q264 hob26 (show vcl[1]? = some (RX2, TX2, 3) from rfl) rfl mdX2_all rfl (by decide) (by omega) (by omega) (by omega) (Nat.le_of_ble_eq_true rfl) rfl dX1_sets_61 (fun v9 σ9 hp9 => ?_) (fun _ _ _ h => False.elim h)
          obtain ⟨rfl, hs9⟩ := hp9
          obtain rfl := hs9.symm
          refine v_aload_n O dX1_sets_64 rfl 0 rfl ?_
          refine v_getfN (C := RX6) (T := TX6) (N := 5) (v := .int (nI (evS (sN S)))) O in_X6 hRw24.ob rfl 3 (by decide) rfl q1219 (congrArg (fun z => some (Value.int z)) hev) dX1_sets_65 ?_
          refine v_iconst (v := (-1)) O dX1_sets_68 (by decide) ?_
          refine v_ixor (z := nI (evS (sN S)) ^^^ -1) O dX1_sets_69 rfl ?_
          refine v_iand (z := nI (sd (allN (sN S)) (evS (sN S)))) O dX1_sets_70 (bx_sd (by omega) (by first | omega | exact Nat.pow_lt_pow_right (by omega) (by omega))) ?_
          refine v_aload_n O dX1_sets_71 rfl 0 rfl ?_
          refine v_getfN (C := RX6) (T := TX6) (N := 5) (v := .int (nI (sd (odS (sN S)) (evS (sN S))))) O in_X6 hRw24.ob rfl 4 (by decide) rfl q1221 (congrArg (fun z => some (Value.int z)) hod) dX1_sets_72 ?_
          refine v_iconst (v := (-1)) O dX1_sets_75 (by decide) ?_
          refine v_ixor (z := nI (sd (odS (sN S)) (evS (sN S))) ^^^ -1) O dX1_sets_76 rfl ?_
          refine v_iand (z := nI (sd (sd (allN (sN S)) (evS (sN S))) (sd (odS (sN S)) (evS (sN S))))) O dX1_sets_77 (bx_sd (by omega) (by first | omega | exact Nat.pow_lt_pow_right (by omega) (by omega))) ?_
          exact v_iret O rfl dX1_sets_78 (by omega) (by omega) (ans_mk (by
                        unfold opSets
                        rw [if_pos h12, setsV_k hj]
                        rw [if_neg (by omega), if_neg (by omega), if_neg (by omega), if_neg (by omega), if_neg (by omega)]) (XPost.new hC hb26 hm26))
        · refine v_aload_n O dX1_sets_50 rfl 0 rfl ?_
          refine v_getfN (C := RX6) (T := TX6) (N := 5) (v := .int (nI (sd (odS (sN S)) (evS (sN S))))) O in_X6 hRw24.ob rfl 4 (by decide) rfl q1221 (congrArg (fun z => some (Value.int z)) hod) dX1_sets_51 ?_
          refine v_goto (tgt := 78) O dX1_sets_54 (by decide) ?_
          exact v_iret O rfl dX1_sets_78 (by omega) (by omega) (ans_mk (by
                        unfold opSets
                        rw [if_pos h12, setsV_k hj]
                        rw [if_neg (by omega), if_neg (by omega), if_neg (by omega), if_neg (by omega), if_pos (by omega)]) (XPost.new hC hb26 hm26))
      · refine v_aload_n O dX1_sets_38 rfl 0 rfl ?_
        refine v_getfN (C := RX6) (T := TX6) (N := 5) (v := .int (nI (evS (sN S)))) O in_X6 hRw24.ob rfl 3 (by decide) rfl q1219 (congrArg (fun z => some (Value.int z)) hev) dX1_sets_39 ?_
        refine v_goto (tgt := 78) O dX1_sets_42 (by decide) ?_
        exact v_iret O rfl dX1_sets_78 (by omega) (by omega) (ans_mk (by
                      unfold opSets
                      rw [if_pos h12, setsV_k hj]
                      rw [if_neg (by omega), if_neg (by omega), if_neg (by omega), if_pos (by omega)]) (XPost.new hC hb26 hm26))
  · obtain ⟨hx27, rfl, hxp27⟩ := hx9
    exact v_out O (fun z hz => (htb z hz).elim) (by omega) (by omega) (thr_mk (k := 1) (v := nI 0) (by unfold opSets; rw [if_neg (of_decide_eq_false hx27)]) (by decide) rfl hxp27)
