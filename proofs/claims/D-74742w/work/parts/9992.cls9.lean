theorem toldV_k {S : SysM} {k : Nat} (h : k ≤ 7) : toldV S (nI k) = if k = 0 then nI (sN S).1 else if k = 1 then nI (linesM (sN S)) else if k = 2 then nI (pairsM (sN S)) else if k = 3 then nI (topN (sN S)).1 else if k = 4 then missI (sN S) else if k = 5 then sumI (sumWf (sN S)) (sN S).1 else if k = 6 then nI (sTp S) else nI (sKs S).length := by
  have e : ∀ a b, a < 8 → b < 8 → ((nI a = nI b) = (a = b)) := fun a b ha hb => propext (nI_eq (by omega) (by omega))
  unfold toldV
  simp only [e k 0 (by omega) (by omega), e k 1 (by omega) (by omega), e k 2 (by omega) (by omega), e k 3 (by omega) (by omega), e k 4 (by omega) (by omega), e k 5 (by omega) (by omega), e k 6 (by omega) (by omega)]
theorem l_X1_told {G : vGC} (hG : vGok G) {X : vCX} {Q : State → Prop} {c0 n0 : Nat} (O : vOk G X yX1_told.cls cX1_told (some .int) 9 10 113) (hN : xn X = 4) (hcm0 : c0 ≤ 10) (hsm0 : n0 ≤ 113) {σ : vSt} {x : Nat} {W : List Nat} {S : SysM} (hC : ClsAt σ x W S) (hOk : okS S) {y : Int32} (kx : V G X Q c0 n0 σ 170 [(0, .ref x), (1, .int y), (2, .int (sumI (sumWf (sN S)) (sN S).1))] []) : ∀ (k : Nat) (a : Nat), ((sN S).1 < a + k) → (a ≤ (sN S).1) → V G X Q c0 n0 σ 114 [(0, .ref x), (1, .int y), (2, .int (sumI (sumWf (sN S)) a)), (3, .int (nI a))] [] := by
  intro k
  induction k with
  | zero => intro a h0 h1; exact absurd h0 (by omega)
  | succ k ih =>
    intro a h0 h1
    obtain ⟨ad, I, F, L, ks, rfl, hR, hD, hN0, hK, hW, hX⟩ := id hC
    obtain ⟨w1, w2, w3, w4, w5, w6⟩ := Wd hW
    obtain ⟨hX4, hX5, hXF, hXR⟩ := id hX
    obtain ⟨wa, ma, hob⟩ := hN0.ob
    obtain ⟨hS1, hS2, hS3, hS4, hOkN⟩ := id hOk
    have hn : (sN S).1 ≤ 12 := hOkN.2.1
    have hn1 : 1 ≤ (sN S).1 := hOkN.1
    refine v_iload_n O dX1_told_114 rfl 3 rfl ?_
    refine v_aload_n O dX1_told_115 rfl 0 rfl ?_
    refine v_getf (C := RX1) (T := TX1) (N := 6) (v := .ref (ad 3)) O in_X1 hR.ob rfl 3 (by decide) rfl q178 rfl dX1_told_116 ?_
    refine v_getfN (C := RX2) (T := TX2) (N := 3) (v := .int (nI ((sN S).1))) O in_X2 hob rfl 0 (by decide) rfl q154 rfl dX1_told_119 ?_
    refine v_icmp_geN (tgt := 170) O dX1_told_122 (by decide) (by omega) (by omega) (fun h_122 => ?_) (fun h_122 => ?_)
    · obtain rfl : a = (sN S).1 := by omega
      exact v_lv [0, 1, 2] rfl kx
    · refine v_iload_n O dX1_told_125 rfl 2 rfl ?_
      refine v_aload_n O dX1_told_126 rfl 0 rfl ?_
      refine v_getf (C := RX1) (T := TX1) (N := 6) (v := .ref (ad 3)) O in_X1 hR.ob rfl 3 (by decide) rfl q178 rfl dX1_told_127 ?_
      obtain ⟨adN1, IN1, FN1, LN1, hRN1, hn0N1, hwN1, hmN1⟩ := id hN0
      refine v_getfN (C := RX2) (T := TX2) (N := 3) (v := .ref (adN1 2)) O in_X2 hRN1.ob rfl 2 (by decide) rfl q162 rfl dX1_told_130 ?_
      refine v_iload_n O dX1_told_133 rfl 3 rfl ?_
      refine v_iald (f := FN1 2) O (hRN1.ar 2 rfl) (by omega) (by omega) dX1_told_134 ?_
      refine v_top (y := ((sN S).2.2 a)) (hmN1 a (by omega)) ?_
      refine v_iload_n O dX1_told_135 rfl 3 rfl ?_
      refine v_icmp_le (tgt := 161) O dX1_told_136 (by decide) (fun h_136 => ?_) (fun h_136 => ?_)
      · refine v_iconst (v := nI 0) O dX1_told_161 (by decide) ?_
        refine v_iadd (z := (sumI (sumWf (sN S)) (a + 1))) O dX1_told_162 (by rw [sumI, sumWf, if_neg (Int32.not_lt.mpr h_136)]) ?_
        refine v_istore_n (lv' := [(2, .int (sumI (sumWf (sN S)) (a + 1))), (0, .ref x), (1, .int y), (3, .int (nI a))]) O hN dX1_told_163 rfl (by decide) rfl ?_
        refine v_iinc (v := nI (a + 1)) (lv' := [(3, .int (nI (a + 1))), (2, .int (sumI (sumWf (sN S)) (a + 1))), (0, .ref x), (1, .int y)]) O hN dX1_told_164 3 rfl (nI_add a 1) (by decide) rfl ?_
        refine v_goto (tgt := 114) O dX1_told_167 (by decide) ?_
        refine v_lv [2, 3, 1, 0] rfl ?_
        exact ih (a + 1) (by omega) (by omega)
      · obtain ⟨b, hbN, hab, hba, hw⟩ := hOkN.mate (a := a) (by omega) (ne_m1 (by omega) h_136)
        refine v_aload_n O dX1_told_139 rfl 0 rfl ?_
        refine v_getf (C := RX1) (T := TX1) (N := 6) (v := .ref (ad 3)) O in_X1 hR.ob rfl 3 (by decide) rfl q178 rfl dX1_told_140 ?_
        obtain ⟨adN2, IN2, FN2, LN2, hRN2, hn0N2, hwN2, hmN2⟩ := id hN0
        refine v_getfN (C := RX2) (T := TX2) (N := 3) (v := .ref (adN2 1)) O in_X2 hRN2.ob rfl 1 (by decide) rfl q158 rfl dX1_told_143 ?_
        refine v_iload_n O dX1_told_146 rfl 3 rfl ?_
        refine v_aald (r := .ref (adN2 (100 + a))) O (hRN2.og 1 rfl) rfl rfl (by omega) (by omega) rfl dX1_told_147 ?_
        refine v_aload_n O dX1_told_148 rfl 0 rfl ?_
        refine v_getf (C := RX1) (T := TX1) (N := 6) (v := .ref (ad 3)) O in_X1 hR.ob rfl 3 (by decide) rfl q178 rfl dX1_told_149 ?_
        obtain ⟨adN3, IN3, FN3, LN3, hRN3, hn0N3, hwN3, hmN3⟩ := id hN0
        refine v_getfN (C := RX2) (T := TX2) (N := 3) (v := .ref (adN3 2)) O in_X2 hRN3.ob rfl 2 (by decide) rfl q162 rfl dX1_told_152 ?_
        refine v_iload_n O dX1_told_155 rfl 3 rfl ?_
        refine v_iald (f := FN3 2) O (hRN3.ar 2 rfl) (by omega) (by omega) dX1_told_156 ?_
        refine v_top (y := nI b) ((hmN3 a (by omega)).trans hab) ?_
        refine v_iald (f := FN2 (100 + a)) O (hRN2.ar (100 + a) (layN_row (by omega))) (by omega) (by omega) dX1_told_157 ?_
        refine v_top (y := ((sN S).2.1 a b)) (hwN2 a b (by omega) (by omega)) ?_
        refine v_goto (tgt := 162) O dX1_told_158 (by decide) ?_
        refine v_iadd (z := (sumI (sumWf (sN S)) (a + 1))) O dX1_told_162 (by rw [sumI, sumWf, if_pos (Int32.not_le.mp h_136), hab, cl, nI_clamp (by omega)]) ?_
        refine v_istore_n (lv' := [(2, .int (sumI (sumWf (sN S)) (a + 1))), (0, .ref x), (1, .int y), (3, .int (nI a))]) O hN dX1_told_163 rfl (by decide) rfl ?_
        refine v_iinc (v := nI (a + 1)) (lv' := [(3, .int (nI (a + 1))), (2, .int (sumI (sumWf (sN S)) (a + 1))), (0, .ref x), (1, .int y)]) O hN dX1_told_164 3 rfl (nI_add a 1) (by decide) rfl ?_
        refine v_goto (tgt := 114) O dX1_told_167 (by decide) ?_
        refine v_lv [2, 3, 1, 0] rfl ?_
        exact ih (a + 1) (by omega) (by omega)
theorem mdX7_init : vMd yX7_init 1 := ⟨by decide +kernel, by decide +kernel, by decide +kernel⟩
theorem c_X1_told {G : vGC} (hG : vGok G) {σ : vSt} {x : Nat} {W : List Nat} {S : SysM} (hC : ClsAt σ x W S) (hOk : okS S) {y : Int32} : Ct G yX1_told (ws_ yX1_told cX1_told 4 (some .int)) 9 10 113 σ [.ref x, .int y] (fun v σ9 => v = some (.int (opTold S y).2.1) ∧ (opTold S y).1 = 0 ∧ XPost σ σ9 x W (opTold S y).2.2) (fun E q σ9 => XThr ["java/lang/IllegalArgumentException"] E (opTold S y) ∧ XPost σ σ9 x W (opTold S y).2.2) := by
  refine ct_of hG (by decide) (Nat.le_of_ble_eq_true rfl) fun X hN O hnm htb => ?_
  show V G X _ 0 0 σ 0 [(0, .ref x), (1, .int y)] []
  obtain ⟨ad, I, F, L, ks, rfl, hR, hD, hN0, hK, hW, hX⟩ := id hC
  obtain ⟨w1, w2, w3, w4, w5, w6⟩ := Wd hW
  obtain ⟨hX4, hX5, hXF, hXR⟩ := id hX
  obtain ⟨wa, ma, hob⟩ := hN0.ob
  obtain ⟨hS1, hS2, hS3, hS4, hOkN⟩ := id hOk
  have hn : (sN S).1 ≤ 12 := hOkN.2.1
  have hn1 : 1 ≤ (sN S).1 := hOkN.1
  have hal := all_lt (N := sN S)
  have hp12 := p12 hn
  have htop : (topN (sN S)).1 ≤ 12 := dp_top hOkN hal
  refine v_aload_n O dX1_told_0 rfl 0 rfl ?_
  refine v_iload_n O dX1_told_1 rfl 1 rfl ?_
  refine v_i2l (z := (Int32.toInt64 y)) O dX1_told_2 rfl ?_
  refine v_lconst (v := 0) O dX1_told_3 (by decide) ?_
  refine v_ldc2 O q1266 dX1_told_4 ?_
  refine v_callS (as := [.long (Int32.toInt64 y), .long 0, .long 7]) (rest := [.ref x]) O (c_X1_isIn hG (x := y) (A := (nI 0)) (B := (nI 7)) rfl (by decide) (by decide)) q542 q543 q72 q544 mdX1_isIn rfl (by decide) (by omega) (by omega) (by omega) (Nat.le_of_ble_eq_true rfl) rfl dX1_told_7 (fun v9 σ9 hp9 => ?_) (fun _ _ _ h => False.elim h)
  obtain ⟨rfl, hs9⟩ := hp9
  obtain rfl := hs9.symm
  refine v_callV (as := [.int (bI (decide ((nI 0) ≤ y ∧ y ≤ (nI 7))))]) (rest := []) O (c_X1_need hG hC (b := (decide ((nI 0) ≤ y ∧ y ≤ (nI 7))))) q554 q556 qs10 q72 q557 hR.ob (show vcl[0]? = some (RX1, TX1, 6) from rfl) rfl mdX1_need rfl (by decide) (by omega) (by omega) (by omega) (Nat.le_of_ble_eq_true rfl) rfl dX1_told_10 (fun v9 σ9 hp9 => ?_) (fun E9 q9 σ9 hx9 => ?_)
  · obtain ⟨rfl, hq1, hs9⟩ := hp9
    obtain rfl := hs9.symm
    have h12 := of_decide_eq_true hq1
    obtain ⟨j, hj, rfl⟩ := nI_of2 (n := 7) (M := nI 7) rfl (Int32.not_lt.mpr h12.1) h12.2
    refine v_iload_n O dX1_told_13 rfl 1 rfl ?_
    by_cases hs_0 : j = 0
    · refine v_tableIn (off := 42) (tgt := 56) O dX1_told_14 (by rw [hs_0]; decide) (by rw [hs_0]; decide) (by rw [hs_0]; rfl) (by decide) ?_
      refine v_aload_n O dX1_told_56 rfl 0 rfl ?_
      refine v_getf (C := RX1) (T := TX1) (N := 6) (v := .ref (ad 3)) O in_X1 hR.ob rfl 3 (by decide) rfl q178 rfl dX1_told_57 ?_
      refine v_getfN (C := RX2) (T := TX2) (N := 3) (v := .int (nI ((sN S).1))) O in_X2 hob rfl 0 (by decide) rfl q154 rfl dX1_told_60 ?_
      exact v_iret O rfl dX1_told_63 (by omega) (by omega) (ans_mk (by
                    unfold opTold
                    rw [if_pos h12, toldV_k hj]
                    subst hs_0
                    rfl) (XPost.rf hC))
    by_cases hs_1 : j = 1
    · refine v_tableIn (off := 50) (tgt := 64) O dX1_told_14 (by rw [hs_1]; decide) (by rw [hs_1]; decide) (by rw [hs_1]; rfl) (by decide) ?_
      refine v_aload_n O dX1_told_64 rfl 0 rfl ?_
      refine v_getf (C := RX1) (T := TX1) (N := 6) (v := .ref (ad 3)) O in_X1 hR.ob rfl 3 (by decide) rfl q178 rfl dX1_told_65 ?_
      refine v_callV (as := []) (rest := []) O (c_X2_lines hG hN0 (by omega) ) q1132 q1133 q1134 q75 q1135 hob (show vcl[1]? = some (RX2, TX2, 3) from rfl) rfl mdX2_lines rfl (by decide) (by omega) (by omega) (by omega) (Nat.le_of_ble_eq_true rfl) rfl dX1_told_68 (fun v9 σ9 hp9 => ?_) (fun _ _ _ h => False.elim h)
      obtain ⟨rfl, hs9⟩ := hp9
      obtain rfl := hs9.symm
      exact v_iret O rfl dX1_told_71 (by omega) (by omega) (ans_mk (by
                    unfold opTold
                    rw [if_pos h12, toldV_k hj]
                    subst hs_1
                    rw [linesN_M hOkN]
                    rfl) (XPost.rf hC))
    by_cases hs_2 : j = 2
    · refine v_tableIn (off := 58) (tgt := 72) O dX1_told_14 (by rw [hs_2]; decide) (by rw [hs_2]; decide) (by rw [hs_2]; rfl) (by decide) ?_
      refine v_aload_n O dX1_told_72 rfl 0 rfl ?_
      refine v_getf (C := RX1) (T := TX1) (N := 6) (v := .ref (ad 3)) O in_X1 hR.ob rfl 3 (by decide) rfl q178 rfl dX1_told_73 ?_
      refine v_callV (as := []) (rest := []) O (c_X2_pairMany hG hN0 (by omega) ) q210 q211 q212 q75 q213 hob (show vcl[1]? = some (RX2, TX2, 3) from rfl) rfl mdX2_pairMany rfl (by decide) (by omega) (by omega) (by omega) (Nat.le_of_ble_eq_true rfl) rfl dX1_told_76 (fun v9 σ9 hp9 => ?_) (fun _ _ _ h => False.elim h)
      obtain ⟨rfl, hs9⟩ := hp9
      obtain rfl := hs9.symm
      exact v_iret O rfl dX1_told_79 (by omega) (by omega) (ans_mk (by
                    unfold opTold
                    rw [if_pos h12, toldV_k hj]
                    subst hs_2
                    rw [pairsN_M hOkN]
                    rfl) (XPost.rf hC))
    by_cases hs_3 : j = 3
    · refine v_tableIn (off := 66) (tgt := 80) O dX1_told_14 (by rw [hs_3]; decide) (by rw [hs_3]; decide) (by rw [hs_3]; rfl) (by decide) ?_
      refine v_new (fs := [.null, .null, .int 0]) (ty := tyX7) O id in_X7 tyX7_ok q214 q215 q101 (show vcl[6]? = some (RX7, TX7, 3) from rfl) (fun j hj => by match j, hj with | 0, _ => rfl | 1, _ => rfl | 2, _ => rfl) (by omega) (by omega) dX1_told_80 (fun g hq_g hz_g => ?_)
      have hne_g : ad 3 ≠ g := ne_q hob hq_g
      have hf2 : FrL [] σ (vUp σ g (g, .inr (6, [.null, .null, .int 0]))) := FrL.new hq_g
      have hw_g : (vUp σ g (g, .inr (6, [.null, .null, .int 0]))) g = some (g, .inr (6, [.null, .null, .int 0])) := vUp_s
      show V G X _ _ _ (vUp σ g (g, .inr (6, [.null, .null, .int 0]))) 83 [(0, .ref x), (1, .int (nI j))] [.ref g]
      generalize (vUp σ g (g, .inr (6, [.null, .null, .int 0]))) = σ2 at hf2 hw_g ⊢
      have hm3g : ∀ r ∈ [g], ∀ c, σ r ≠ some (r, c) := fr_cons (fun _ h => nomatch h) (fr_fresh (M := []) FrL.rf (fun _ h => nomatch h) hq_g)
      have hm3 : ∀ r ∈ [g], ∀ c, σ r ≠ some (r, c) := hm3g
      have hb3 : FrL [g] σ σ2 := (FrL.mono (L := []) FrL.rf (by simp +contextual)).trans (hf2.mono (by simp))
      have hn3 := ClsAt.no hC hm3
      have hN3 := hN0.fr hb3 (hn3 _ (by simp))
      obtain ⟨wa3, ma3, hob3⟩ := hN3.ob
      have hRx3 := hR.fr hb3 (hn3 _ (by simp))
      have hDx3 := hD.fr hb3 (hn3 _ (by simp))
      refine v_dup O dX1_told_83 rfl ?_
      refine v_aload_n O dX1_told_84 rfl 0 rfl ?_
      refine v_getf (C := RX1) (T := TX1) (N := 6) (v := .ref (ad 3)) O in_X1 hRx3.ob rfl 3 (by decide) rfl q178 rfl dX1_told_85 ?_
      refine v_callI (as := [.ref (ad 3)]) (rest := [.ref g]) O (c_X7_init hG hOkN hz_g hw_g hN3 hne_g) q216 q217 q101 q218 rfl mdX7_init rfl (by decide) (by omega) (by omega) (by omega) (Nat.le_of_ble_eq_true rfl) rfl dX1_told_88 (fun v9 σ5 hp9 => ?_) (fun _ _ _ h => False.elim h)
      obtain ⟨rfl, t, ht0, hGr4, hf4⟩ := hp9
      have hm6t : ∀ r ∈ [t, g], ∀ c, σ r ≠ some (r, c) := fr_cons hm3 (fr_fresh (M := [g]) hb3 hm3 ht0)
      have hm6 : ∀ r ∈ [t, g], ∀ c, σ r ≠ some (r, c) := hm6t
      have hb6 : FrL [t, g] σ σ5 := (FrL.mono (L := [g]) hb3 (by simp +contextual)).trans (hf4.mono (by simp))
      have hn6 := ClsAt.no hC hm6
      have hN6 := hN0.fr hb6 (hn6 _ (by simp))
      obtain ⟨wa6, ma6, hob6⟩ := hN6.ob
      have hRx6 := hR.fr hb6 (hn6 _ (by simp))
      have hDx6 := hD.fr hb6 (hn6 _ (by simp))
      refine v_getfN (C := RX7) (T := TX7) (N := 3) (v := .int (nI ((topN (sN S)).1))) O in_X7 hGr4.1 rfl 2 (by decide) rfl q303 rfl dX1_told_91 ?_
      exact v_iret O rfl dX1_told_94 (by omega) (by omega) (ans_mk (by
                    unfold opTold
                    rw [if_pos h12, toldV_k hj]
                    subst hs_3
                    rfl) (XPost.new hC hb6 hm6))
    by_cases hs_4 : j = 4
    · refine v_tableIn (off := 81) (tgt := 95) O dX1_told_14 (by rw [hs_4]; decide) (by rw [hs_4]; decide) (by rw [hs_4]; rfl) (by decide) ?_
      refine v_new (fs := [.null, .null, .int 0]) (ty := tyX7) O id in_X7 tyX7_ok q214 q215 q101 (show vcl[6]? = some (RX7, TX7, 3) from rfl) (fun j hj => by match j, hj with | 0, _ => rfl | 1, _ => rfl | 2, _ => rfl) (by omega) (by omega) dX1_told_95 (fun g hq_g hz_g => ?_)
      have hne_g : ad 3 ≠ g := ne_q hob hq_g
      have hf7 : FrL [] σ (vUp σ g (g, .inr (6, [.null, .null, .int 0]))) := FrL.new hq_g
      have hw_g : (vUp σ g (g, .inr (6, [.null, .null, .int 0]))) g = some (g, .inr (6, [.null, .null, .int 0])) := vUp_s
      show V G X _ _ _ (vUp σ g (g, .inr (6, [.null, .null, .int 0]))) 98 [(0, .ref x), (1, .int (nI j))] [.ref g]
      generalize (vUp σ g (g, .inr (6, [.null, .null, .int 0]))) = σ7 at hf7 hw_g ⊢
      have hm8g : ∀ r ∈ [g], ∀ c, σ r ≠ some (r, c) := fr_cons (fun _ h => nomatch h) (fr_fresh (M := []) FrL.rf (fun _ h => nomatch h) hq_g)
      have hm8 : ∀ r ∈ [g], ∀ c, σ r ≠ some (r, c) := hm8g
      have hb8 : FrL [g] σ σ7 := (FrL.mono (L := []) FrL.rf (by simp +contextual)).trans (hf7.mono (by simp))
      have hn8 := ClsAt.no hC hm8
      have hN8 := hN0.fr hb8 (hn8 _ (by simp))
      obtain ⟨wa8, ma8, hob8⟩ := hN8.ob
      have hRx8 := hR.fr hb8 (hn8 _ (by simp))
      have hDx8 := hD.fr hb8 (hn8 _ (by simp))
      refine v_dup O dX1_told_98 rfl ?_
      refine v_aload_n O dX1_told_99 rfl 0 rfl ?_
      refine v_getf (C := RX1) (T := TX1) (N := 6) (v := .ref (ad 3)) O in_X1 hRx8.ob rfl 3 (by decide) rfl q178 rfl dX1_told_100 ?_
      refine v_callI (as := [.ref (ad 3)]) (rest := [.ref g]) O (c_X7_init hG hOkN hz_g hw_g hN8 hne_g) q216 q217 q101 q218 rfl mdX7_init rfl (by decide) (by omega) (by omega) (by omega) (Nat.le_of_ble_eq_true rfl) rfl dX1_told_103 (fun v9 σ10 hp9 => ?_) (fun _ _ _ h => False.elim h)
      obtain ⟨rfl, t, ht0, hGr9, hf9⟩ := hp9
      have hm11t : ∀ r ∈ [t, g], ∀ c, σ r ≠ some (r, c) := fr_cons hm8 (fr_fresh (M := [g]) hb8 hm8 ht0)
      have hm11 : ∀ r ∈ [t, g], ∀ c, σ r ≠ some (r, c) := hm11t
      have hb11 : FrL [t, g] σ σ10 := (FrL.mono (L := [g]) hb8 (by simp +contextual)).trans (hf9.mono (by simp))
      have hn11 := ClsAt.no hC hm11
      have hN11 := hN0.fr hb11 (hn11 _ (by simp))
      obtain ⟨wa11, ma11, hob11⟩ := hN11.ob
      have hRx11 := hR.fr hb11 (hn11 _ (by simp))
      have hDx11 := hD.fr hb11 (hn11 _ (by simp))
      refine v_callV (as := []) (rest := []) O (c_X7_missing hG hOkN hGr9) q1267 q1268 q1269 q101 q1270 hGr9.1 (show vcl[6]? = some (RX7, TX7, 3) from rfl) rfl mdX7_missing rfl (by decide) (by omega) (by omega) (by omega) (Nat.le_of_ble_eq_true rfl) rfl dX1_told_106 (fun v9 σ9 hp9 => ?_) (fun _ _ _ h => False.elim h)
      obtain ⟨rfl, hs9⟩ := hp9
      obtain rfl := hs9.symm
      exact v_iret O rfl dX1_told_109 (by omega) (by omega) (ans_mk (by
                    unfold opTold
                    rw [if_pos h12, toldV_k hj]
                    subst hs_4
                    rfl) (XPost.new hC hb11 hm11))
    by_cases hs_5 : j = 5
    · refine v_tableIn (off := 96) (tgt := 110) O dX1_told_14 (by rw [hs_5]; decide) (by rw [hs_5]; decide) (by rw [hs_5]; rfl) (by decide) ?_
      refine v_iconst (v := nI 0) O dX1_told_110 (by decide) ?_
      refine v_istore_n (lv' := [(2, .int (nI 0)), (0, .ref x), (1, .int (nI j))]) O hN dX1_told_111 rfl (by decide) rfl ?_
      refine v_iconst (v := nI 0) O dX1_told_112 (by decide) ?_
      refine v_istore_n (lv' := [(3, .int (nI 0)), (2, .int (nI 0)), (0, .ref x), (1, .int (nI j))]) O hN dX1_told_113 rfl (by decide) rfl ?_
      refine v_lv [2, 3, 1, 0] rfl ?_
      refine l_X1_told hG O hN (by omega) (by omega) hC hOk ?_ ((sN S).1 + 1) 0 (by omega) (by omega)
      refine v_iload_n O dX1_told_170 rfl 2 rfl ?_
      exact v_iret O rfl dX1_told_171 (by omega) (by omega) (ans_mk (by
                    unfold opTold
                    rw [if_pos h12, toldV_k hj]
                    subst hs_5
                    rfl) (XPost.rf hC))
    by_cases hs_6 : j = 6
    · refine v_tableIn (off := 158) (tgt := 172) O dX1_told_14 (by rw [hs_6]; decide) (by rw [hs_6]; decide) (by rw [hs_6]; rfl) (by decide) ?_
      refine v_aload_n O dX1_told_172 rfl 0 rfl ?_
      refine v_getf (C := RX1) (T := TX1) (N := 6) (v := .int (nI (sTp S))) O in_X1 hR.ob rfl 4 (by decide) rfl q179 (congrArg (fun z => some (Value.int z)) hX4) dX1_told_173 ?_
      exact v_iret O rfl dX1_told_176 (by omega) (by omega) (ans_mk (by
                    unfold opTold
                    rw [if_pos h12, toldV_k hj]
                    subst hs_6
                    rfl) (XPost.rf hC))
    refine v_tableOut (tgt := 177) O dX1_told_14 (Or.inr (by rw [nI_toInt (by omega)]; omega)) (by decide) ?_
    refine v_aload_n O dX1_told_177 rfl 0 rfl ?_
    refine v_getf (C := RX1) (T := TX1) (N := 6) (v := .ref (ad 2)) O in_X1 hR.ob rfl 2 (by decide) rfl q177 rfl dX1_told_178 ?_
    refine v_callV (as := []) (rest := []) O (c_J1_size hG hD) q322 q323 q324 q74 q325 (Classical.choose_spec hD.ex) (show vcl[9]? = some (RJ1, TJ1, 3) from rfl) rfl mdJ1_size rfl (by decide) (by omega) (by omega) (by omega) (Nat.le_of_ble_eq_true rfl) rfl dX1_told_181 (fun v9 σ9 hp9 => ?_) (fun _ _ _ h => False.elim h)
    obtain ⟨rfl, hs9⟩ := hp9
    obtain rfl := hs9.symm
    exact v_iret O rfl dX1_told_184 (by omega) (by omega) (ans_mk (by
                  unfold opTold
                  rw [if_pos h12, toldV_k hj]
                  rw [if_neg hs_0, if_neg hs_1, if_neg hs_2, if_neg hs_3, if_neg hs_4, if_neg hs_5, if_neg hs_6, hK.1]) (XPost.rf hC))
  · obtain ⟨hx12, rfl, hxp12⟩ := hx9
    exact v_out O (fun z hz => (htb z hz).elim) (by omega) (by omega) (thr_mk (k := 1) (v := nI 0) (by unfold opTold; rw [if_neg (of_decide_eq_false hx12)]) (by decide) rfl hxp12)
