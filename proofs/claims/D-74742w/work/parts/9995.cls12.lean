theorem opRow_d {S : SysM} {o : Option (List Nat)} {i : Int32} (h : (opRow S o 0 i).1 = 0) (d : Nat) : opRow S o d i = (0, (opRow S o d i).2.1, S) := by
  cases o with
  | none => rfl
  | some r =>
    unfold opRow at h ⊢
    simp only [] at h ⊢
    split
    · rfl
    · rename_i h1
      rw [if_neg h1] at h
      split
      · rfl
      · rename_i h2
        rw [if_neg h2] at h
        cases h
theorem opRow_same {S : SysM} {o : Option (List Nat)} {i : Int32} (h : i ≠ -1 ∨ (opRow S o 0 i).2.1 = -1) (hro : ∀ r, o = some r → 1 ≤ r.length ∧ r.length ≤ 12) (d : Nat) : (opRow S o 0 i).2.1 = (opRow S o d i).2.1 := by
  cases o with
  | none => rfl
  | some r =>
    by_cases e : i = -1
    · obtain ⟨h1, h2⟩ := hro r rfl
      rcases h with h | h
      · exact absurd e h
      · rw [e, opRow_m] at h
        exact absurd h (nI_ne (by omega))
    · unfold opRow
      simp only [if_neg e]
theorem opRow_sub {S : SysM} {o : Option (List Nat)} {i : Int32} (hi : i = -1) (h : (opRow S o 0 i).2.1 ≠ -1) (hro : ∀ r, o = some r → 1 ≤ r.length ∧ r.length ≤ 12) : (opRow S o 0 i).2.1 - nI 1 = (opRow S o 1 i).2.1 := by
  cases o with
  | none => exact absurd rfl h
  | some r =>
    obtain ⟨h1, h2⟩ := hro r rfl
    rw [hi, opRow_m, opRow_m]
    exact pk_sub h1
theorem mdX6_path : vMd yX6_path 1 := ⟨by decide +kernel, by decide +kernel, by decide +kernel⟩
theorem mdX1_rowTold : vMd yX1_rowTold 2 := ⟨by decide +kernel, by decide +kernel, by decide +kernel⟩
theorem c_X1_path {G : vGC} (hG : vGok G) {σ : vSt} {x : Nat} {W : List Nat} {S : SysM} (hC : ClsAt σ x W S) (hOk : okS S) {y i : Int32} : Ct G yX1_path (ws_ yX1_path cX1_path 5 (some .int)) 10 4 40 σ [.ref x, .int y, .int i] (fun v σ9 => v = some (.int (opPath S y i).2.1) ∧ (opPath S y i).1 = 0 ∧ XPost σ σ9 x W (opPath S y i).2.2) (fun E q σ9 => XThr ["java/util/NoSuchElementException"] E (opPath S y i) ∧ XPost σ σ9 x W (opPath S y i).2.2) := by
  refine ct_of hG (by decide) (Nat.le_of_ble_eq_true rfl) fun X hN O hnm htb => ?_
  show V G X _ 0 0 σ 0 [(0, .ref x), (1, .int y), (2, .int i)] []
  obtain ⟨ad, I, F, L, ks, rfl, hR, hD, hN0, hK, hW, hX⟩ := id hC
  obtain ⟨w1, w2, w3, w4, w5, w6⟩ := Wd hW
  obtain ⟨hX4, hX5, hXF, hXR⟩ := id hX
  obtain ⟨wa, ma, hob⟩ := hN0.ob
  obtain ⟨hS1, hS2, hS3, hS4, hOkN⟩ := id hOk
  have hn : (sN S).1 ≤ 12 := hOkN.2.1
  have hn1 : 1 ≤ (sN S).1 := hOkN.1
  have hal := all_lt (N := sN S)
  have hp12 := p12 hn
  have htop : (topN (sN S)).1 ≤ 12 := dp_top hOkN hal
  refine v_aload_n O dX1_path_0 rfl 0 rfl ?_
  refine v_iload_n O dX1_path_1 rfl 1 rfl ?_
  refine v_callV (as := [.int y]) (rest := []) O (c_X1_needNode hG hC hOk (y := y)) q1153 q1155 qs25 q72 q1156 hR.ob (show vcl[0]? = some (RX1, TX1, 6) from rfl) rfl mdX1_needNode rfl (by decide) (by omega) (by omega) (by omega) (Nat.le_of_ble_eq_true rfl) rfl dX1_path_2 (fun v9 σ9 hp9 => ?_) (fun E9 q9 σ9 hx9 => ?_)
  · obtain ⟨rfl, hq1, hs9⟩ := hp9
    obtain rfl := hs9.symm
    obtain ⟨a, haN, rfl⟩ := isNd_t hn1 hn hq1
    refine v_new (fs := [.null, .null, .int 0, .int 0, .int 0]) (ty := tyX6) O id in_X6 tyX6_ok q1207 q1208 q100 (show vcl[5]? = some (RX6, TX6, 5) from rfl) (fun j hj => by match j, hj with | 0, _ => rfl | 1, _ => rfl | 2, _ => rfl | 3, _ => rfl | 4, _ => rfl) (by omega) (by omega) dX1_path_5 (fun w hq_w hz_w => ?_)
    have hne_w : ad 3 ≠ w := ne_q hob hq_w
    have hf2 : FrL [] σ (vUp σ w (w, .inr (5, [.null, .null, .int 0, .int 0, .int 0]))) := FrL.new hq_w
    have hw_w : (vUp σ w (w, .inr (5, [.null, .null, .int 0, .int 0, .int 0]))) w = some (w, .inr (5, [.null, .null, .int 0, .int 0, .int 0])) := vUp_s
    show V G X _ _ _ (vUp σ w (w, .inr (5, [.null, .null, .int 0, .int 0, .int 0]))) 8 [(0, .ref x), (1, .int (nI a)), (2, .int i)] [.ref w]
    generalize (vUp σ w (w, .inr (5, [.null, .null, .int 0, .int 0, .int 0]))) = σ2 at hf2 hw_w ⊢
    have hm3w : ∀ r ∈ [w], ∀ c, σ r ≠ some (r, c) := fr_cons (fun _ h => nomatch h) (fr_fresh (M := []) FrL.rf (fun _ h => nomatch h) hq_w)
    have hm3 : ∀ r ∈ [w], ∀ c, σ r ≠ some (r, c) := hm3w
    have hb3 : FrL [w] σ σ2 := (FrL.mono (L := []) FrL.rf (by simp +contextual)).trans (hf2.mono (by simp))
    have hn3 := ClsAt.no hC hm3
    have hN3 := hN0.fr hb3 (hn3 _ (by simp))
    obtain ⟨wa3, ma3, hob3⟩ := hN3.ob
    have hRx3 := hR.fr hb3 (hn3 _ (by simp))
    have hDx3 := hD.fr hb3 (hn3 _ (by simp))
    refine v_dup O dX1_path_8 rfl ?_
    refine v_aload_n O dX1_path_9 rfl 0 rfl ?_
    refine v_getf (C := RX1) (T := TX1) (N := 6) (v := .ref (ad 3)) O in_X1 hRx3.ob rfl 3 (by decide) rfl q178 rfl dX1_path_10 ?_
    refine v_callI (as := [.ref (ad 3)]) (rest := [.ref w]) O (c_X6_init hG (h := (ad 3)) hz_w hw_w) q1209 q1210 q100 q1211 rfl mdX6_init rfl (by decide) (by omega) (by omega) (by omega) (Nat.le_of_ble_eq_true rfl) rfl dX1_path_13 (fun v9 σ5 hp9 => ?_) (fun _ _ _ h => False.elim h)
    obtain ⟨rfl, hf4, adw, Iw, Fw, Lw, hRw4, hw0, hw2, hw3, hw4⟩ := hp9
    have hm6 : ∀ r ∈ [w], ∀ c, σ r ≠ some (r, c) := hm3
    have hb6 : FrL [w] σ σ5 := (FrL.mono (L := [w]) hb3 (by simp +contextual)).trans (hf4.mono (by simp))
    have hn6 := ClsAt.no hC hm6
    have hN6 := hN0.fr hb6 (hn6 _ (by simp))
    obtain ⟨wa6, ma6, hob6⟩ := hN6.ob
    have hRx6 := hR.fr hb6 (hn6 _ (by simp))
    have hDx6 := hD.fr hb6 (hn6 _ (by simp))
    have hnw : adw 0 ≠ w := by rw [hw0]; exact hne_w
    refine v_iload_n O dX1_path_16 rfl 1 rfl ?_
    refine v_callV (as := [.int (nI a)]) (rest := []) O (c_X6_path hG hRw4 hOkN (by rw [hw0]; exact hN6) hnw (a := a) (by omega) hw2) q1233 q1234 q1235 q100 q1236 hRw4.ob (show vcl[5]? = some (RX6, TX6, 5) from rfl) rfl mdX6_path rfl (by decide) (by omega) (by omega) (by omega) (Nat.le_of_ble_eq_true rfl) rfl dX1_path_17 (fun v9 σ8 hp9 => ?_) (fun _ _ _ h => False.elim h)
    obtain ⟨rfl, Fw7, Iw7, hRw7, hf7, hIw, hrow⟩ := hp9
    have hm9 : ∀ r ∈ [w], ∀ c, σ r ≠ some (r, c) := hm6
    have hb9 : FrL [w] σ σ8 := (FrL.mono (L := [w]) hb6 (by simp +contextual)).trans (hf7.mono (by simp))
    have hn9 := ClsAt.no hC hm9
    have hN9 := hN0.fr hb9 (hn9 _ (by simp))
    obtain ⟨wa9, ma9, hob9⟩ := hN9.ob
    have hRx9 := hR.fr hb9 (hn9 _ (by simp))
    have hDx9 := hD.fr hb9 (hn9 _ (by simp))
    refine v_astore_n (lv' := [(3, .ref w), (0, .ref x), (1, .int (nI a)), (2, .int i)]) O hN dX1_path_20 rfl (by decide) rfl ?_
    refine v_aload_n O dX1_path_21 rfl 1 rfl ?_
    refine v_aload_n O dX1_path_22 rfl 0 rfl ?_
    refine v_iload_n O dX1_path_23 rfl 3 rfl ?_
    have hro : ∀ r, (pathN (sN S) a) = some r → 1 ≤ r.length ∧ r.length ≤ 12 := fun r hr => by have h9 := pathN_ok hn haN hr; omega
    refine v_callV (as := [.ref w, .int i]) (rest := []) O (c_X1_rowTold hG (hC.frN hb9 hm9) hOk hRw7 hrow hro (i := i)) q1462 q1464 qs30 q72 q1465 hRx9.ob (show vcl[0]? = some (RX1, TX1, 6) from rfl) rfl mdX1_rowTold rfl (by decide) (by omega) (by omega) (by omega) (Nat.le_of_ble_eq_true rfl) rfl dX1_path_24 (fun v9 σ9 hp9 => ?_) (fun E9 q9 σ9 hx9 => ?_)
    · obtain ⟨rfl, hrt, hs9⟩ := hp9
      obtain rfl := hs9.symm
      refine v_istore (lv' := [(4, .int ((opRow S (pathN (sN S) a) 0 i).2.1)), (3, .ref w), (0, .ref x), (1, .int (nI a)), (2, .int i)]) O hN dX1_path_27 (by decide) rfl ?_
      refine v_iload_n O dX1_path_29 rfl 4 rfl ?_
      refine v_iconst (v := (-1)) O dX1_path_30 (by decide) ?_
      refine v_icmp_ne (tgt := 47) O dX1_path_31 (by decide) (fun h_31 => ?_) (fun h_31 => ?_)
      · refine v_iload O dX1_path_47 0 rfl ?_
        exact v_iret O rfl dX1_path_49 (by omega) (by omega) (ans_mk (by unfold opPath; rw [if_neg (bf hq1), cl_nI (by omega)]; exact (opRow_d hrt 1).trans (by rw [← opRow_same (.inl h_31) hro 1])) (XPost.new hC hb9 hm9))
      · refine v_iload O dX1_path_34 0 rfl ?_
        refine v_iconst (v := (-1)) O dX1_path_36 (by decide) ?_
        refine v_icmp_eq (tgt := 47) O dX1_path_37 (by decide) (fun h_37 => ?_) (fun h_37 => ?_)
        · refine v_iload O dX1_path_47 0 rfl ?_
          exact v_iret O rfl dX1_path_49 (by omega) (by omega) (ans_mk (by unfold opPath; rw [if_neg (bf hq1), cl_nI (by omega)]; exact (opRow_d hrt 1).trans (by rw [← opRow_same (.inr h_37) hro 1])) (XPost.new hC hb9 hm9))
        · refine v_iload O dX1_path_40 0 rfl ?_
          refine v_iconst (v := nI 1) O dX1_path_42 (by decide) ?_
          refine v_isub (z := ((opRow S (pathN (sN S) a) 0 i).2.1 - (nI 1))) O dX1_path_43 rfl ?_
          refine v_goto (tgt := 49) O dX1_path_44 (by decide) ?_
          exact v_iret O rfl dX1_path_49 (by omega) (by omega) (ans_mk (by unfold opPath; rw [if_neg (bf hq1), cl_nI (by omega)]; exact (opRow_d hrt 1).trans (by rw [← opRow_sub h_31 h_37 hro])) (XPost.new hC hb9 hm9))
    · obtain ⟨hx11, rfl, hxp11⟩ := hx9
      exact v_out O (fun z hz => (htb z hz).elim) (by omega) (by omega) (thr_mk (k := 1) (v := nI 0) (by unfold opPath; rw [if_neg (bf hq1), cl_nI (by omega)]; exact hx11 1) (by decide) rfl (XPost.tr (FrX.new hb9 hm9) Fresh.rf hxp11))
  · obtain ⟨hx12, rfl, hxp12⟩ := hx9
    exact v_out O (fun z hz => (htb z hz).elim) (by omega) (by omega) (thr_mk (k := 1) (v := nI 0) (by unfold opPath; rw [if_pos hx12]) (by decide) rfl hxp12)
theorem mdX6_flower : vMd yX6_flower 1 := ⟨by decide +kernel, by decide +kernel, by decide +kernel⟩
theorem c_X1_flower {G : vGC} (hG : vGok G) {σ : vSt} {x : Nat} {W : List Nat} {S : SysM} (hC : ClsAt σ x W S) (hOk : okS S) {y i : Int32} : Ct G yX1_flower (ws_ yX1_flower cX1_flower 3 (some .int)) 10 4 40 σ [.ref x, .int y, .int i] (fun v σ9 => v = some (.int (opFlower S y i).2.1) ∧ (opFlower S y i).1 = 0 ∧ XPost σ σ9 x W (opFlower S y i).2.2) (fun E q σ9 => XThr ["java/util/NoSuchElementException"] E (opFlower S y i) ∧ XPost σ σ9 x W (opFlower S y i).2.2) := by
  refine ct_of hG (by decide) (Nat.le_of_ble_eq_true rfl) fun X hN O hnm htb => ?_
  show V G X _ 0 0 σ 0 [(0, .ref x), (1, .int y), (2, .int i)] []
  obtain ⟨ad, I, F, L, ks, rfl, hR, hD, hN0, hK, hW, hX⟩ := id hC
  obtain ⟨w1, w2, w3, w4, w5, w6⟩ := Wd hW
  obtain ⟨hX4, hX5, hXF, hXR⟩ := id hX
  obtain ⟨wa, ma, hob⟩ := hN0.ob
  obtain ⟨hS1, hS2, hS3, hS4, hOkN⟩ := id hOk
  have hn : (sN S).1 ≤ 12 := hOkN.2.1
  have hn1 : 1 ≤ (sN S).1 := hOkN.1
  have hal := all_lt (N := sN S)
  have hp12 := p12 hn
  have htop : (topN (sN S)).1 ≤ 12 := dp_top hOkN hal
  refine v_aload_n O dX1_flower_0 rfl 0 rfl ?_
  refine v_iload_n O dX1_flower_1 rfl 1 rfl ?_
  refine v_callV (as := [.int y]) (rest := []) O (c_X1_needNode hG hC hOk (y := y)) q1153 q1155 qs25 q72 q1156 hR.ob (show vcl[0]? = some (RX1, TX1, 6) from rfl) rfl mdX1_needNode rfl (by decide) (by omega) (by omega) (by omega) (Nat.le_of_ble_eq_true rfl) rfl dX1_flower_2 (fun v9 σ9 hp9 => ?_) (fun E9 q9 σ9 hx9 => ?_)
  · obtain ⟨rfl, hq1, hs9⟩ := hp9
    obtain rfl := hs9.symm
    obtain ⟨a, haN, rfl⟩ := isNd_t hn1 hn hq1
    refine v_aload_n O dX1_flower_5 rfl 0 rfl ?_
    refine v_new (fs := [.null, .null, .int 0, .int 0, .int 0]) (ty := tyX6) O id in_X6 tyX6_ok q1207 q1208 q100 (show vcl[5]? = some (RX6, TX6, 5) from rfl) (fun j hj => by match j, hj with | 0, _ => rfl | 1, _ => rfl | 2, _ => rfl | 3, _ => rfl | 4, _ => rfl) (by omega) (by omega) dX1_flower_6 (fun w hq_w hz_w => ?_)
    have hne_w : ad 3 ≠ w := ne_q hob hq_w
    have hf2 : FrL [] σ (vUp σ w (w, .inr (5, [.null, .null, .int 0, .int 0, .int 0]))) := FrL.new hq_w
    have hw_w : (vUp σ w (w, .inr (5, [.null, .null, .int 0, .int 0, .int 0]))) w = some (w, .inr (5, [.null, .null, .int 0, .int 0, .int 0])) := vUp_s
    show V G X _ _ _ (vUp σ w (w, .inr (5, [.null, .null, .int 0, .int 0, .int 0]))) 9 [(0, .ref x), (1, .int (nI a)), (2, .int i)] [.ref w, .ref x]
    generalize (vUp σ w (w, .inr (5, [.null, .null, .int 0, .int 0, .int 0]))) = σ2 at hf2 hw_w ⊢
    have hm3w : ∀ r ∈ [w], ∀ c, σ r ≠ some (r, c) := fr_cons (fun _ h => nomatch h) (fr_fresh (M := []) FrL.rf (fun _ h => nomatch h) hq_w)
    have hm3 : ∀ r ∈ [w], ∀ c, σ r ≠ some (r, c) := hm3w
    have hb3 : FrL [w] σ σ2 := (FrL.mono (L := []) FrL.rf (by simp +contextual)).trans (hf2.mono (by simp))
    have hn3 := ClsAt.no hC hm3
    have hN3 := hN0.fr hb3 (hn3 _ (by simp))
    obtain ⟨wa3, ma3, hob3⟩ := hN3.ob
    have hRx3 := hR.fr hb3 (hn3 _ (by simp))
    have hDx3 := hD.fr hb3 (hn3 _ (by simp))
    refine v_dup O dX1_flower_9 rfl ?_
    refine v_aload_n O dX1_flower_10 rfl 0 rfl ?_
    refine v_getf (C := RX1) (T := TX1) (N := 6) (v := .ref (ad 3)) O in_X1 hRx3.ob rfl 3 (by decide) rfl q178 rfl dX1_flower_11 ?_
    refine v_callI (as := [.ref (ad 3)]) (rest := [.ref w, .ref x]) O (c_X6_init hG (h := (ad 3)) hz_w hw_w) q1209 q1210 q100 q1211 rfl mdX6_init rfl (by decide) (by omega) (by omega) (by omega) (Nat.le_of_ble_eq_true rfl) rfl dX1_flower_14 (fun v9 σ5 hp9 => ?_) (fun _ _ _ h => False.elim h)
    obtain ⟨rfl, hf4, adw, Iw, Fw, Lw, hRw4, hw0, hw2, hw3, hw4⟩ := hp9
    have hm6 : ∀ r ∈ [w], ∀ c, σ r ≠ some (r, c) := hm3
    have hb6 : FrL [w] σ σ5 := (FrL.mono (L := [w]) hb3 (by simp +contextual)).trans (hf4.mono (by simp))
    have hn6 := ClsAt.no hC hm6
    have hN6 := hN0.fr hb6 (hn6 _ (by simp))
    obtain ⟨wa6, ma6, hob6⟩ := hN6.ob
    have hRx6 := hR.fr hb6 (hn6 _ (by simp))
    have hDx6 := hD.fr hb6 (hn6 _ (by simp))
    have hnw : adw 0 ≠ w := by rw [hw0]; exact hne_w
    refine v_iload_n O dX1_flower_17 rfl 1 rfl ?_
    refine v_callV (as := [.int (nI a)]) (rest := [.ref x]) O (c_X6_flower hG hRw4 hOkN (by rw [hw0]; exact hN6) hnw (a := a) (by omega) hw2) q1250 q1251 q1252 q100 q1253 hRw4.ob (show vcl[5]? = some (RX6, TX6, 5) from rfl) rfl mdX6_flower rfl (by decide) (by omega) (by omega) (by omega) (Nat.le_of_ble_eq_true rfl) rfl dX1_flower_18 (fun v9 σ8 hp9 => ?_) (fun _ _ _ h => False.elim h)
    obtain ⟨rfl, Fw7, Iw7, hRw7, hf7, hIw, hrow⟩ := hp9
    have hm9 : ∀ r ∈ [w], ∀ c, σ r ≠ some (r, c) := hm6
    have hb9 : FrL [w] σ σ8 := (FrL.mono (L := [w]) hb6 (by simp +contextual)).trans (hf7.mono (by simp))
    have hn9 := ClsAt.no hC hm9
    have hN9 := hN0.fr hb9 (hn9 _ (by simp))
    obtain ⟨wa9, ma9, hob9⟩ := hN9.ob
    have hRx9 := hR.fr hb9 (hn9 _ (by simp))
    have hDx9 := hD.fr hb9 (hn9 _ (by simp))
    refine v_iload_n O dX1_flower_21 rfl 2 rfl ?_
    have hro : ∀ r, (flowN (sN S) a) = some r → 1 ≤ r.length ∧ r.length ≤ 12 := fun r hr => by have h9 := flowN_ok hOkN haN hr; omega
    refine v_callV (as := [.ref w, .int i]) (rest := []) O (c_X1_rowTold hG (hC.frN hb9 hm9) hOk hRw7 hrow hro (i := i)) q1462 q1464 qs30 q72 q1465 hRx9.ob (show vcl[0]? = some (RX1, TX1, 6) from rfl) rfl mdX1_rowTold rfl (by decide) (by omega) (by omega) (by omega) (Nat.le_of_ble_eq_true rfl) rfl dX1_flower_22 (fun v9 σ9 hp9 => ?_) (fun E9 q9 σ9 hx9 => ?_)
    · obtain ⟨rfl, hrt, hs9⟩ := hp9
      obtain rfl := hs9.symm
      exact v_iret O rfl dX1_flower_25 (by omega) (by omega) (ans_mk (by unfold opFlower; rw [if_neg (bf hq1), cl_nI (by omega)]; exact opRow_d hrt 0) (XPost.new hC hb9 hm9))
    · obtain ⟨hx11, rfl, hxp11⟩ := hx9
      exact v_out O (fun z hz => (htb z hz).elim) (by omega) (by omega) (thr_mk (k := 1) (v := nI 0) (by unfold opFlower; rw [if_neg (bf hq1), cl_nI (by omega)]; exact hx11 0) (by decide) rfl (XPost.tr (FrX.new hb9 hm9) Fresh.rf hxp11))
  · obtain ⟨hx12, rfl, hxp12⟩ := hx9
    exact v_out O (fun z hz => (htb z hz).elim) (by omega) (by omega) (thr_mk (k := 1) (v := nI 0) (by unfold opFlower; rw [if_pos hx12]) (by decide) rfl hxp12)
