theorem DeqAt.ex {σ : vSt} {d : Nat} {l : List Nat} (h : DeqAt σ d l) : ∃ vs, σ d = some (d, .inr (9, vs)) := by
  obtain ⟨es, hd, tl, f, h1, h2, h3⟩ := h
  exact ⟨_, h2⟩
theorem thr_mk {l : List String} {E : String} {r : Ans} {σ σ9 : vSt} {x : Nat} {W : List Nat} {k : Nat} {v : Int32} {S' : SysM} (h : r = (k, v, S')) (h0 : k ≠ 0) (hl : l[k - 1]? = some E) (hp : XPost σ σ9 x W S') : XThr l E r ∧ XPost σ σ9 x W r.2.2 := by
  subst h
  exact ⟨⟨h0, hl⟩, hp⟩
theorem ans_mk {r : Ans} {σ σ9 : vSt} {x : Nat} {W : List Nat} {v : Int32} {S' : SysM} (h : r = (0, v, S')) (hp : XPost σ σ9 x W S') : some (Value.int v) = some (Value.int r.2.1) ∧ r.1 = 0 ∧ XPost σ σ9 x W r.2.2 := by
  subst h
  exact ⟨rfl, rfl, hp⟩
theorem mdX1_isIn : vMd yX1_isIn 3 := ⟨by decide +kernel, by decide +kernel, by decide +kernel⟩
theorem mdX1_needThere : vMd yX1_needThere 1 := ⟨by decide +kernel, by decide +kernel, by decide +kernel⟩
theorem c_X1_needNode {G : vGC} (hG : vGok G) {σ : vSt} {x : Nat} {W : List Nat} {S : SysM} (hC : ClsAt σ x W S) (hOk : okS S) {y : Int32} : Ct G yX1_needNode (ws_ yX1_needNode cX1_needNode 2 none) 7 1 6 σ [.ref x, .int y] (fun v σ9 => v = none ∧ isNd (sN S) y = true ∧ σ9 = σ) (fun E q σ9 => isNd (sN S) y = false ∧ E = "java/util/NoSuchElementException" ∧ XPost σ σ9 x W (refS S 0)) := by
  refine ct_of hG (by decide) (Nat.le_of_ble_eq_true rfl) fun X hN O hnm htb => ?_
  show V G X _ 0 0 σ 0 [(0, .ref x), (1, .int y)] []
  obtain ⟨ad, I, F, L, ks, rfl, hR, hD, hN0, hK, hW, hX⟩ := id hC
  obtain ⟨w1, w2, w3, w4, w5, w6⟩ := Wd hW
  obtain ⟨hX4, hX5, hXF, hXR⟩ := id hX
  obtain ⟨wa, ma, hob⟩ := hN0.ob
  obtain ⟨hS1, hS2, hS3, hS4, hOkN⟩ := id hOk
  have hn : (sN S).1 ≤ 12 := hOkN.2.1
  have hn1 : 1 ≤ (sN S).1 := hOkN.1
  refine v_aload_n O dX1_needNode_0 rfl 0 rfl ?_
  refine v_iload_n O dX1_needNode_1 rfl 1 rfl ?_
  refine v_i2l (z := (Int32.toInt64 y)) O dX1_needNode_2 rfl ?_
  refine v_lconst (v := 0) O dX1_needNode_3 (by decide) ?_
  refine v_aload_n O dX1_needNode_4 rfl 0 rfl ?_
  refine v_getf (C := RX1) (T := TX1) (N := 6) (v := .ref (ad 3)) O in_X1 hR.ob rfl 3 (by decide) rfl q178 rfl dX1_needNode_5 ?_
  refine v_getfN (C := RX2) (T := TX2) (N := 3) (v := .int (nI ((sN S).1))) O in_X2 hob rfl 0 (by decide) rfl q154 rfl dX1_needNode_8 ?_
  refine v_iconst (v := nI 1) O dX1_needNode_11 (by decide) ?_
  refine v_isub (z := nI (((sN S).1) - 1)) O dX1_needNode_12 (pk_sub (by omega)) ?_
  refine v_i2l (z := (Int32.toInt64 (nI (((sN S).1) - 1)))) O dX1_needNode_13 rfl ?_
  refine v_callS (as := [.long (Int32.toInt64 y), .long 0, .long (Int32.toInt64 (nI (((sN S).1) - 1)))]) (rest := [.ref x]) O (c_X1_isIn hG (x := y) (A := (nI 0)) (B := (nI (((sN S).1) - 1))) rfl (by decide) (Int32.toInt_toInt64 _)) q542 q543 q72 q544 mdX1_isIn rfl (by decide) (by omega) (by omega) (by omega) (Nat.le_of_ble_eq_true rfl) rfl dX1_needNode_14 (fun v9 σ9 hp9 => ?_) (fun _ _ _ h => False.elim h)
  obtain ⟨rfl, hs9⟩ := hp9
  obtain rfl := hs9.symm
  refine v_callV (as := [.int (bI (decide ((nI 0) ≤ y ∧ y ≤ (nI (((sN S).1) - 1)))))]) (rest := []) O (c_X1_needThere hG hC (b := (decide ((nI 0) ≤ y ∧ y ≤ (nI (((sN S).1) - 1)))))) q1157 q1159 qs26 q72 q1160 hR.ob (show vcl[0]? = some (RX1, TX1, 6) from rfl) rfl mdX1_needThere rfl (by decide) (by omega) (by omega) (by omega) (Nat.le_of_ble_eq_true rfl) rfl dX1_needNode_17 (fun v9 σ9 hp9 => ?_) (fun E9 q9 σ9 hx9 => ?_)
  · obtain ⟨rfl, hq1, hs9⟩ := hp9
    obtain rfl := hs9.symm
    exact v_vret O rfl dX1_needNode_20 (by omega) (by omega) (⟨rfl, hq1, rfl⟩)
  · obtain ⟨hx2, rfl, hxp2⟩ := hx9
    exact v_out O (fun z hz => (htb z hz).elim) (by omega) (by omega) (⟨hx2, rfl, hxp2⟩)
theorem mdX1_needNode : vMd yX1_needNode 1 := ⟨by decide +kernel, by decide +kernel, by decide +kernel⟩
theorem c_X1_needTwo {G : vGC} (hG : vGok G) {σ : vSt} {x : Nat} {W : List Nat} {S : SysM} (hC : ClsAt σ x W S) (hOk : okS S) {y z : Int32} : Ct G yX1_needTwo (ws_ yX1_needTwo cX1_needTwo 3 none) 8 2 12 σ [.ref x, .int y, .int z] (fun v σ9 => v = none ∧ (isNd (sN S) y && isNd (sN S) z) = true ∧ σ9 = σ) (fun E q σ9 => (isNd (sN S) y && isNd (sN S) z) = false ∧ E = "java/util/NoSuchElementException" ∧ XPost σ σ9 x W (refS S 0)) := by
  refine ct_of hG (by decide) (Nat.le_of_ble_eq_true rfl) fun X hN O hnm htb => ?_
  show V G X _ 0 0 σ 0 [(0, .ref x), (1, .int y), (2, .int z)] []
  obtain ⟨ad, I, F, L, ks, rfl, hR, hD, hN0, hK, hW, hX⟩ := id hC
  obtain ⟨w1, w2, w3, w4, w5, w6⟩ := Wd hW
  obtain ⟨hX4, hX5, hXF, hXR⟩ := id hX
  obtain ⟨wa, ma, hob⟩ := hN0.ob
  obtain ⟨hS1, hS2, hS3, hS4, hOkN⟩ := id hOk
  have hn : (sN S).1 ≤ 12 := hOkN.2.1
  have hn1 : 1 ≤ (sN S).1 := hOkN.1
  refine v_aload_n O dX1_needTwo_0 rfl 0 rfl ?_
  refine v_iload_n O dX1_needTwo_1 rfl 1 rfl ?_
  refine v_callV (as := [.int y]) (rest := []) O (c_X1_needNode hG hC hOk (y := y)) q1153 q1155 qs25 q72 q1156 hR.ob (show vcl[0]? = some (RX1, TX1, 6) from rfl) rfl mdX1_needNode rfl (by decide) (by omega) (by omega) (by omega) (Nat.le_of_ble_eq_true rfl) rfl dX1_needTwo_2 (fun v9 σ9 hp9 => ?_) (fun E9 q9 σ9 hx9 => ?_)
  · obtain ⟨rfl, hq1, hs9⟩ := hp9
    obtain rfl := hs9.symm
    refine v_aload_n O dX1_needTwo_5 rfl 0 rfl ?_
    refine v_iload_n O dX1_needTwo_6 rfl 2 rfl ?_
    refine v_callV (as := [.int z]) (rest := []) O (c_X1_needNode hG hC hOk (y := z)) q1153 q1155 qs25 q72 q1156 hR.ob (show vcl[0]? = some (RX1, TX1, 6) from rfl) rfl mdX1_needNode rfl (by decide) (by omega) (by omega) (by omega) (Nat.le_of_ble_eq_true rfl) rfl dX1_needTwo_7 (fun v9 σ9 hp9 => ?_) (fun E9 q9 σ9 hx9 => ?_)
    · obtain ⟨rfl, hq2, hs9⟩ := hp9
      obtain rfl := hs9.symm
      exact v_vret O rfl dX1_needTwo_10 (by omega) (by omega) (⟨rfl, by rw [hq1, hq2]; rfl, rfl⟩)
    · obtain ⟨hx3, rfl, hxp3⟩ := hx9
      exact v_out O (fun z hz => (htb z hz).elim) (by omega) (by omega) (⟨by rw [hx3, Bool.and_false], rfl, hxp3⟩)
  · obtain ⟨hx4, rfl, hxp4⟩ := hx9
    exact v_out O (fun z hz => (htb z hz).elim) (by omega) (by omega) (⟨by rw [hx4]; rfl, rfl, hxp4⟩)
theorem mdJ1_size : vMd yJ1_size 0 := ⟨by decide +kernel, by decide +kernel, by decide +kernel⟩
theorem mdJ1_addLast : vMd yJ1_addLast 1 := ⟨by decide +kernel, by decide +kernel, by decide +kernel⟩
theorem mdX2_like : vMd yX2_like 0 := ⟨by decide +kernel, by decide +kernel, by decide +kernel⟩
theorem mdJ1_removeFirst : vMd yJ1_removeFirst 0 := ⟨by decide +kernel, by decide +kernel, by decide +kernel⟩
theorem c_X1_keeps {G : vGC} (hG : vGok G) {σ : vSt} {x : Nat} {W : List Nat} {S : SysM} (hC : ClsAt σ x W S) (hOk : okS S) : Ct G yX1_keeps (ws_ yX1_keeps cX1_keeps 1 none) 4 15 171 σ [.ref x] (fun v σ9 => v = none ∧ XPost σ σ9 x W (keepS S (sN S))) vNo := by
  refine ct_of hG (by decide) (Nat.le_of_ble_eq_true rfl) fun X hN O hnm htb => ?_
  show V G X _ 0 0 σ 0 [(0, .ref x)] []
  obtain ⟨ad, I, F, L, ks, rfl, hR, hD, hN0, hK, hW, hX⟩ := id hC
  obtain ⟨w1, w2, w3, w4, w5, w6⟩ := Wd hW
  obtain ⟨hX4, hX5, hXF, hXR⟩ := id hX
  obtain ⟨wa, ma, hob⟩ := hN0.ob
  obtain ⟨hS1, hS2, hS3, hS4, hOkN⟩ := id hOk
  have hn : (sN S).1 ≤ 12 := hOkN.2.1
  have hn1 : 1 ≤ (sN S).1 := hOkN.1
  have hkl : ks.length ≤ 8 := by have := hK.1; omega
  refine v_aload_n O dX1_keeps_0 rfl 0 rfl ?_
  refine v_getf (C := RX1) (T := TX1) (N := 6) (v := .ref (ad 2)) O in_X1 hR.ob rfl 2 (by decide) rfl q177 rfl dX1_keeps_1 ?_
  refine v_callV (as := []) (rest := []) O (c_J1_size hG hD) q322 q323 q324 q74 q325 (Classical.choose_spec hD.ex) (show vcl[9]? = some (RJ1, TJ1, 3) from rfl) rfl mdJ1_size rfl (by decide) (by omega) (by omega) (by omega) (Nat.le_of_ble_eq_true rfl) rfl dX1_keeps_4 (fun v9 σ9 hp9 => ?_) (fun _ _ _ h => False.elim h)
  obtain ⟨rfl, hs9⟩ := hp9
  obtain rfl := hs9.symm
  refine v_bipush (v := nI 8) O dX1_keeps_7 (by decide) ?_
  refine v_icmp_neN (tgt := 20) O dX1_keeps_9 (by decide) (by omega) (by omega) (fun h_9 => ?_) (fun h_9 => ?_)
  · refine v_aload_n O dX1_keeps_20 rfl 0 rfl ?_
    refine v_getf (C := RX1) (T := TX1) (N := 6) (v := .ref (ad 2)) O in_X1 hR.ob rfl 2 (by decide) rfl q177 rfl dX1_keeps_21 ?_
    refine v_aload_n O dX1_keeps_24 rfl 0 rfl ?_
    refine v_getf (C := RX1) (T := TX1) (N := 6) (v := .ref (ad 3)) O in_X1 hR.ob rfl 3 (by decide) rfl q178 rfl dX1_keeps_25 ?_
    refine v_callV (as := [.ref (ad 3)]) (rest := []) O (c_J1_addLast hG hD (by omega) hob) q408 q409 q410 q74 q411 (Classical.choose_spec hD.ex) (show vcl[9]? = some (RJ1, TJ1, 3) from rfl) rfl mdJ1_addLast rfl (by decide) (by omega) (by omega) (by omega) (Nat.le_of_ble_eq_true rfl) rfl dX1_keeps_28 (fun v9 σ2 hp9 => ?_) (fun _ _ _ h => False.elim h)
    obtain ⟨rfl, hDq1, hf1⟩ := hp9
    have hN_3 := hN0.fr hf1 (by simp [Ne.symm w3])
    obtain ⟨wa3, ma3, hob3⟩ := hN_3.ob
    have hRx1 := hR.fr hf1 (by simp [w1])
    refine v_aload_n O dX1_keeps_31 rfl 0 rfl ?_
    refine v_aload_n O dX1_keeps_32 rfl 0 rfl ?_
    refine v_getf (C := RX1) (T := TX1) (N := 6) (v := .ref (ad 3)) O in_X1 hRx1.ob rfl 3 (by decide) rfl q178 rfl dX1_keeps_33 ?_
    refine v_callV (as := []) (rest := [.ref x]) O (c_X2_like hG hN_3 (by omega)) q484 q485 q486 q75 q487 hob3 (show vcl[1]? = some (RX2, TX2, 3) from rfl) rfl mdX2_like rfl (by decide) (by omega) (by omega) (by omega) (Nat.le_of_ble_eq_true rfl) rfl dX1_keeps_36 (fun v9 σ5 hp9 => ?_) (fun _ _ _ h => False.elim h)
    obtain ⟨q, rfl, hq0, hNq, hfq⟩ := hp9
    have hxq : x ≠ q := ne_q hRx1.ob hq0
    have hdq : ad 2 ≠ q := by
      obtain ⟨c9, e9⟩ := hDq1.ob
      exact ne_q e9 hq0
    have hhq : ad 3 ≠ q := ne_q hob3 hq0
    have hRq := hRx1.fr hfq (by simp [hxq])
    have hDqq := hDq1.fr hfq (by simp [hdq])
    have hq00 : ∀ c, σ q ≠ some (q, c) := fun c e => by
      have := hf1 _ _ e (by simp [Ne.symm hdq])
      rw [hq0] at this; cases this
    refine r_puta (K := layX) (ty0 := tyX1) O hRq in_X1 tyX1_ok nmX1 (show vcl[0]? = some (RX1, TX1, 6) from rfl) 3 (by decide) rfl q178 rfl (tyX1_ok 3 (by decide)) rfl rfl (Nat.le_of_ble_eq_true rfl) rfl rfl (fun _ _ _ e => nomatch e) dX1_keeps_39 (fun σp hRp hfp => ?_)
    exact v_vret O rfl dX1_keeps_42 (by omega) (by omega) (⟨rfl, XPost.keep (ks' := ks) hR hD hN0 hK hW hX hRp (hDqq.fr hfp (by simp [Ne.symm w1])) (hNq.fr hfp (by simp [Ne.symm hxq])) (by rw [if_neg (by rw [← hK.1]; omega)]) hq00 (((hf1.mono (by simp)).trans (hfq.mono (by simp))).trans (hfp.mono (by simp)))⟩)
  · refine v_aload_n O dX1_keeps_12 rfl 0 rfl ?_
    refine v_getf (C := RX1) (T := TX1) (N := 6) (v := .ref (ad 2)) O in_X1 hR.ob rfl 2 (by decide) rfl q177 rfl dX1_keeps_13 ?_
    obtain ⟨k0, ks1, rfl⟩ : ∃ k0 ks1, ks = k0 :: ks1 := by
      cases ks with
      | nil => simp at h_9
      | cons k0 ks1 => exact ⟨k0, ks1, rfl⟩
    have hlen7 : ks1.length = 7 := by simp at h_9; omega
    refine v_callV (as := []) (rest := []) O (c_J1_removeFirst hG hD) q329 q330 q331 q74 q332 (Classical.choose_spec hD.ex) (show vcl[9]? = some (RJ1, TJ1, 3) from rfl) rfl mdJ1_removeFirst rfl (by decide) (by omega) (by omega) (by omega) (Nat.le_of_ble_eq_true rfl) rfl dX1_keeps_16 (fun v9 σ7 hp9 => ?_) (fun _ _ _ h => False.elim h)
    obtain ⟨rfl, hDq6, hf6⟩ := hp9
    have hN_8 := hN0.fr hf6 (by simp [Ne.symm w3])
    obtain ⟨wa8, ma8, hob8⟩ := hN_8.ob
    have hRx6 := hR.fr hf6 (by simp [w1])
    refine v_pop O dX1_keeps_19 rfl ?_
    refine v_aload_n O dX1_keeps_20 rfl 0 rfl ?_
    refine v_getf (C := RX1) (T := TX1) (N := 6) (v := .ref (ad 2)) O in_X1 hRx6.ob rfl 2 (by decide) rfl q177 rfl dX1_keeps_21 ?_
    refine v_aload_n O dX1_keeps_24 rfl 0 rfl ?_
    refine v_getf (C := RX1) (T := TX1) (N := 6) (v := .ref (ad 3)) O in_X1 hRx6.ob rfl 3 (by decide) rfl q178 rfl dX1_keeps_25 ?_
    refine v_callV (as := [.ref (ad 3)]) (rest := []) O (c_J1_addLast hG hDq6 (by omega) hob8) q408 q409 q410 q74 q411 (Classical.choose_spec hDq6.ex) (show vcl[9]? = some (RJ1, TJ1, 3) from rfl) rfl mdJ1_addLast rfl (by decide) (by omega) (by omega) (by omega) (Nat.le_of_ble_eq_true rfl) rfl dX1_keeps_28 (fun v9 σ10 hp9 => ?_) (fun _ _ _ h => False.elim h)
    obtain ⟨rfl, hDq9, hf9⟩ := hp9
    have hN_11 := hN_8.fr hf9 (by simp [Ne.symm w3])
    obtain ⟨wa11, ma11, hob11⟩ := hN_11.ob
    have hRx9 := hRx6.fr hf9 (by simp [w1])
    refine v_aload_n O dX1_keeps_31 rfl 0 rfl ?_
    refine v_aload_n O dX1_keeps_32 rfl 0 rfl ?_
    refine v_getf (C := RX1) (T := TX1) (N := 6) (v := .ref (ad 3)) O in_X1 hRx9.ob rfl 3 (by decide) rfl q178 rfl dX1_keeps_33 ?_
    refine v_callV (as := []) (rest := [.ref x]) O (c_X2_like hG hN_11 (by omega)) q484 q485 q486 q75 q487 hob11 (show vcl[1]? = some (RX2, TX2, 3) from rfl) rfl mdX2_like rfl (by decide) (by omega) (by omega) (by omega) (Nat.le_of_ble_eq_true rfl) rfl dX1_keeps_36 (fun v9 σ13 hp9 => ?_) (fun _ _ _ h => False.elim h)
    obtain ⟨q, rfl, hq0, hNq, hfq⟩ := hp9
    have hxq : x ≠ q := ne_q hRx9.ob hq0
    have hdq : ad 2 ≠ q := by
      obtain ⟨c9, e9⟩ := hDq9.ob
      exact ne_q e9 hq0
    have hhq : ad 3 ≠ q := ne_q hob11 hq0
    have hRq := hRx9.fr hfq (by simp [hxq])
    have hDqq := hDq9.fr hfq (by simp [hdq])
    have hq00 : ∀ c, σ q ≠ some (q, c) := fun c e => by
      have := (hf6.trans hf9) _ _ e (by simp [Ne.symm hdq])
      rw [hq0] at this; cases this
    refine r_puta (K := layX) (ty0 := tyX1) O hRq in_X1 tyX1_ok nmX1 (show vcl[0]? = some (RX1, TX1, 6) from rfl) 3 (by decide) rfl q178 rfl (tyX1_ok 3 (by decide)) rfl rfl (Nat.le_of_ble_eq_true rfl) rfl rfl (fun _ _ _ e => nomatch e) dX1_keeps_39 (fun σp hRp hfp => ?_)
    exact v_vret O rfl dX1_keeps_42 (by omega) (by omega) (⟨rfl, XPost.keep (ks' := ks1) hR hD hN0 hK hW hX hRp (hDqq.fr hfp (by simp [Ne.symm w1])) (hNq.fr hfp (by simp [Ne.symm hxq])) (by rw [if_pos (by rw [← hK.1]; simp; omega)]; rfl) hq00 ((((hf6.mono (by simp)).trans (hf9.mono (by simp))).trans (hfq.mono (by simp))).trans (hfp.mono (by simp)))⟩)
