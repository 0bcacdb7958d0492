/-! Greatest -/
def TreAt (σ : vSt) (t h : Nat) : Prop := ∃ (ad : Nat → Nat) (I : Nat → Int32) (F : Nat → Nat → Int32) (L : Nat → Nat → Int64), RecAt layT σ t ad I F L ∧ ad 0 = h
theorem TreAt.fr {M : List Nat} {σ σ' : vSt} {t h : Nat} (hT : TreAt σ t h) (hf : FrL M σ σ') (hm : t ∉ M) : TreAt σ' t h := by
  obtain ⟨ad, I, F, L, hR, e⟩ := hT
  exact ⟨ad, I, F, L, hR.fr hf hm, e⟩
def GreO (σ : vSt) (g t h : Nat) (N : NetM) : Prop := σ g = some (g, .inr (6, [.ref h, .ref t, .int (nI (topN N).1)]))
def GreAt (σ : vSt) (g t h : Nat) (N : NetM) : Prop := GreO σ g t h N ∧ TreAt σ t h ∧ NetAt σ h N ∧ h ≠ t ∧ g ≠ t
theorem GreAt.fr {M : List Nat} {σ σ' : vSt} {g t h : Nat} {N : NetM} (H : GreAt σ g t h N) (hf : FrL M σ σ') (h1 : g ∉ M) (h2 : t ∉ M) (h3 : h ∉ M) : GreAt σ' g t h N := ⟨hf _ _ H.1 h1, H.2.1.fr hf h2, H.2.2.1.fr hf h3, H.2.2.2⟩
theorem sd_or (l a b : Nat) : sd l (a ||| b) = sd (sd l a) b := bits_ext fun i => by
  rw [sd_bit, sd_bit, sd_bit, Nat.testBit_or]
  cases l.testBit i <;> cases a.testBit i <;> cases b.testBit i <;> rfl
theorem dp_top {N : NetM} (hOk : okN N) {s : Nat} (hs : s < 2 ^ N.1) : (dpN N s).1 ≤ 12 := (dp_small hOk.w hOk.2.1 hs).1
theorem c_X7_missing {G : vGC} (hG : vGok G) {σ : vSt} {g t h : Nat} {N : NetM} (hOk : okN N) (hGr : GreAt σ g t h N) : Ct G yX7_missing (ws_ yX7_missing cX7_missing 1 (some .int)) 1 0 0 σ [.ref g] (fun v σ9 => v = some (.int (missI N)) ∧ σ9 = σ) vNo := by
  refine ct_of hG (by decide) (Nat.le_of_ble_eq_true rfl) fun X hN O hnm htb => ?_
  show V G X _ 0 0 σ 0 [(0, .ref g)] []
  obtain ⟨hg, hT, hN0, hht, hgt⟩ := id hGr
  obtain ⟨adt, It, Ft, Lt, hRt, had0⟩ := id hT
  obtain ⟨wa, ma, hob⟩ := hN0.ob
  have hn := hOk.2.1
  have hal := all_lt (N := N)
  have hp12 := p12 hn
  have htop := dp_top hOk hal
  have htop2 : (dp N.1 N.2.1 (allN N)).1 ≤ 12 := htop
  have htop3 : (topN N).1 ≤ 12 := htop
  have hal2 : allN N = 2 ^ N.1 - 1 := rfl
  have hp1 : 1 ≤ 2 ^ N.1 := Nat.one_le_two_pow
  refine v_aload_n O dX7_missing_0 rfl 0 rfl ?_
  refine v_getf (C := RX7) (T := TX7) (N := 3) (v := .ref h) O in_X7 hg rfl 0 (by decide) rfl q300 rfl dX7_missing_1 ?_
  refine v_getfN (C := RX2) (T := TX2) (N := 3) (v := .int (nI N.1)) O in_X2 hob rfl 0 (by decide) rfl q150 rfl dX7_missing_4 ?_
  refine v_iconst (v := nI 2) O dX7_missing_7 (by decide) ?_
  refine v_aload_n O dX7_missing_8 rfl 0 rfl ?_
  refine v_getf (C := RX7) (T := TX7) (N := 3) (v := .int (nI ((topN N).1))) O in_X7 hg rfl 2 (by decide) rfl q302 rfl dX7_missing_9 ?_
  refine v_imul (z := nI (2 * ((topN N).1))) O dX7_missing_12 (pk_mul 2 ((topN N).1)) ?_
  refine v_isub (z := (nI N.1 - nI (2 * (topN N).1))) O dX7_missing_13 rfl ?_
  exact v_iret O rfl dX7_missing_14 (by omega) (by omega) (⟨by rw [missI, ← pk_mul], rfl⟩)
theorem mdX8_most : vMd yX8_most 1 := ⟨by decide +kernel, by decide +kernel, by decide +kernel⟩
theorem l_X7_missed {G : vGC} (hG : vGok G) {X : vCX} {Q : State → Prop} {c0 n0 : Nat} (O : vOk G X yX7_missed.cls cX7_missed (some .int) 6 0 0) (hN : xn X = 3) (hcm0 : c0 ≤ 0) (hsm0 : n0 ≤ 0) {σ0 : vSt} {g t h : Nat} {N : NetM} (hOk : okN N) (kx : ∀ σ : vSt, GreAt σ g t h N → FrL [t] σ0 σ → V G X Q c0 n0 σ 58 [(0, .ref g), (1, .int (nI (misN N)))] []) : ∀ (k : Nat) (a : Nat) (σ : vSt), (N.1 < a + k) → (a ≤ N.1) → (GreAt σ g t h N) → (FrL [t] σ0 σ) → V G X Q c0 n0 σ 4 [(0, .ref g), (1, .int (nI (mk (fun a => decide ((dpN N (sd (allN N) (2 ^ a))).1 = (topN N).1)) a))), (2, .int (nI a))] [] := by
  intro k
  induction k with
  | zero => intro a σ h0 h1 hGr hf; exact absurd h0 (by omega)
  | succ k ih =>
    intro a σ h0 h1 hGr hf
    obtain ⟨hg, hT, hN0, hht, hgt⟩ := id hGr
    obtain ⟨adt, It, Ft, Lt, hRt, had0⟩ := id hT
    obtain ⟨wa, ma, hob⟩ := hN0.ob
    have hn := hOk.2.1
    have hal := all_lt (N := N)
    have hp12 := p12 hn
    have htop := dp_top hOk hal
    have htop2 : (dp N.1 N.2.1 (allN N)).1 ≤ 12 := htop
    have htop3 : (topN N).1 ≤ 12 := htop
    have hal2 : allN N = 2 ^ N.1 - 1 := rfl
    have hp1 : 1 ≤ 2 ^ N.1 := Nat.one_le_two_pow
    have hsl := sall_lt (N := N) (s := 2 ^ a)
    refine v_iload_n O dX7_missed_4 rfl 2 rfl ?_
    refine v_aload_n O dX7_missed_5 rfl 0 rfl ?_
    refine v_getf (C := RX7) (T := TX7) (N := 3) (v := .ref h) O in_X7 hg rfl 0 (by decide) rfl q300 rfl dX7_missed_6 ?_
    refine v_getfN (C := RX2) (T := TX2) (N := 3) (v := .int (nI N.1)) O in_X2 hob rfl 0 (by decide) rfl q150 rfl dX7_missed_9 ?_
    refine v_icmp_geN (tgt := 58) O dX7_missed_12 (by decide) (by omega) (by omega) (fun h_12 => ?_) (fun h_12 => ?_)
    · obtain rfl : a = N.1 := by omega
      exact v_lv [0, 1] rfl (kx σ hGr hf)
    · refine v_iload_n O dX7_missed_15 rfl 1 rfl ?_
      refine v_aload_n O dX7_missed_16 rfl 0 rfl ?_
      refine v_getf (C := RX7) (T := TX7) (N := 3) (v := .ref t) O in_X7 hg rfl 1 (by decide) rfl q301 rfl dX7_missed_17 ?_
      refine v_aload_n O dX7_missed_20 rfl 0 rfl ?_
      refine v_getf (C := RX7) (T := TX7) (N := 3) (v := .ref h) O in_X7 hg rfl 0 (by decide) rfl q300 rfl dX7_missed_21 ?_
      refine v_callV (as := []) (rest := [.ref t, .int (nI (mk (fun a => decide ((dpN N (sd (allN N) (2 ^ a))).1 = (topN N).1)) a))]) O (c_X2_all hG hN0 (by omega) ) q261 q262 q263 q75 q264 hob (show vcl[1]? = some (RX2, TX2, 3) from rfl) rfl mdX2_all rfl (by decide) (by omega) (by omega) (by omega) (Nat.le_of_ble_eq_true rfl) rfl dX7_missed_24 (fun v9 σ9 hp9 => ?_) (fun _ _ _ h => False.elim h)
      obtain ⟨rfl, hs9⟩ := hp9
      obtain rfl := hs9.symm
      refine v_iconst (v := nI 1) O dX7_missed_27 (by decide) ?_
      refine v_iload_n O dX7_missed_28 rfl 2 rfl ?_
      refine v_ishl (z := nI (2 ^ a)) O dX7_missed_29 (bx_shl1 (by omega)) ?_
      refine v_iconst (v := (-1)) O dX7_missed_30 (by decide) ?_
      refine v_ixor (z := nI (2 ^ a) ^^^ -1) O dX7_missed_31 rfl ?_
      refine v_iand (z := nI (sd (allN N) (2 ^ a))) O dX7_missed_32 (bx_sd (by omega) (by first | omega | exact Nat.pow_lt_pow_right (by omega) (by omega))) ?_
      refine v_callV (as := [.int (nI (sd (allN N) (2 ^ a)))]) (rest := [.int (nI (mk (fun a => decide ((dpN N (sd (allN N) (2 ^ a))).1 = (topN N).1)) a))]) O (c_X8_most hG hRt hOk (by rw [had0]; exact hht) (s := sd (allN N) (2 ^ a)) (by omega) (by rw [had0]; exact hN0)) q265 q266 q267 q102 q268 hRt.ob (show vcl[7]? = some (RX8, TX8, 11) from rfl) rfl mdX8_most rfl (by decide) (by omega) (by omega) (by omega) (Nat.le_of_ble_eq_true rfl) rfl dX7_missed_33 (fun v9 σ2 hp9 => ?_) (fun _ _ _ h => False.elim h)
      obtain ⟨rfl, Ft1, It1, hRt1, hf1⟩ := hp9
      have hN_3 := hN0.fr hf1 (by simpa using hht)
      obtain ⟨wa3, ma3, hob3⟩ := hN_3.ob
      have hg_4 := hf1 _ _ hg (by simpa using hgt)
      have hd1 := dp_top hOk (s := sd (allN N) (2 ^ a)) (by omega)
      have he1 : (dp N.1 N.2.1 (sd (allN N) (2 ^ a))).1 ≤ 12 := hd1
      refine v_aload_n O dX7_missed_36 rfl 0 rfl ?_
      refine v_getf (C := RX7) (T := TX7) (N := 3) (v := .int (nI ((topN N).1))) O in_X7 hg_4 rfl 2 (by decide) rfl q302 rfl dX7_missed_37 ?_
      refine v_icmp_neN (tgt := 49) O dX7_missed_40 (by decide) (by omega) (by omega) (fun h_40 => ?_) (fun h_40 => ?_)
      · refine v_iconst (v := nI 0) O dX7_missed_49 (by decide) ?_
        refine v_ior (z := nI (mk (fun a => decide ((dpN N (sd (allN N) (2 ^ a))).1 = (topN N).1)) (a + 1))) O dX7_missed_50 ((bx_or _ _).trans (congrArg nI (mk_or0 (decide_eq_false h_40)))) ?_
        refine v_istore_n (lv' := [(1, .int (nI (mk (fun a => decide ((dpN N (sd (allN N) (2 ^ a))).1 = (topN N).1)) (a + 1)))), (0, .ref g), (2, .int (nI a))]) O hN dX7_missed_51 rfl (by decide) rfl ?_
        refine v_iinc (v := nI (a + 1)) (lv' := [(2, .int (nI (a + 1))), (1, .int (nI (mk (fun a => decide ((dpN N (sd (allN N) (2 ^ a))).1 = (topN N).1)) (a + 1)))), (0, .ref g)]) O hN dX7_missed_52 2 rfl (nI_add a 1) (by decide) rfl ?_
        refine v_goto (tgt := 4) O dX7_missed_55 (by decide) ?_
        refine v_lv [2, 1, 0] rfl ?_
        exact ih (a + 1) _ (by omega) (by omega) ⟨hg_4, ⟨_, _, _, _, hRt1, had0⟩, hN_3, hht, hgt⟩ (hf.trans hf1)
      · refine v_iconst (v := nI 1) O dX7_missed_43 (by decide) ?_
        refine v_iload_n O dX7_missed_44 rfl 2 rfl ?_
        refine v_ishl (z := nI (2 ^ a)) O dX7_missed_45 (bx_shl1 (by omega)) ?_
        refine v_goto (tgt := 50) O dX7_missed_46 (by decide) ?_
        refine v_ior (z := nI (mk (fun a => decide ((dpN N (sd (allN N) (2 ^ a))).1 = (topN N).1)) (a + 1))) O dX7_missed_50 ((bx_or _ _).trans (congrArg nI (mk_or (decide_eq_true h_40)))) ?_
        refine v_istore_n (lv' := [(1, .int (nI (mk (fun a => decide ((dpN N (sd (allN N) (2 ^ a))).1 = (topN N).1)) (a + 1)))), (0, .ref g), (2, .int (nI a))]) O hN dX7_missed_51 rfl (by decide) rfl ?_
        refine v_iinc (v := nI (a + 1)) (lv' := [(2, .int (nI (a + 1))), (1, .int (nI (mk (fun a => decide ((dpN N (sd (allN N) (2 ^ a))).1 = (topN N).1)) (a + 1)))), (0, .ref g)]) O hN dX7_missed_52 2 rfl (nI_add a 1) (by decide) rfl ?_
        refine v_goto (tgt := 4) O dX7_missed_55 (by decide) ?_
        refine v_lv [2, 1, 0] rfl ?_
        exact ih (a + 1) _ (by omega) (by omega) ⟨hg_4, ⟨_, _, _, _, hRt1, had0⟩, hN_3, hht, hgt⟩ (hf.trans hf1)
theorem c_X7_missed {G : vGC} (hG : vGok G) {σ : vSt} {g t h : Nat} {N : NetM} (hOk : okN N) (hGr : GreAt σ g t h N) : Ct G yX7_missed (ws_ yX7_missed cX7_missed 3 (some .int)) 6 0 0 σ [.ref g] (fun v σ9 => v = some (.int (nI (misN N))) ∧ GreAt σ9 g t h N ∧ FrL [t] σ σ9) vNo := by
  refine ct_of hG (by decide) (Nat.le_of_ble_eq_true rfl) fun X hN O hnm htb => ?_
  show V G X _ 0 0 σ 0 [(0, .ref g)] []
  obtain ⟨hg, hT, hN0, hht, hgt⟩ := id hGr
  obtain ⟨adt, It, Ft, Lt, hRt, had0⟩ := id hT
  obtain ⟨wa, ma, hob⟩ := hN0.ob
  have hn := hOk.2.1
  have hal := all_lt (N := N)
  have hp12 := p12 hn
  have htop := dp_top hOk hal
  have htop2 : (dp N.1 N.2.1 (allN N)).1 ≤ 12 := htop
  have htop3 : (topN N).1 ≤ 12 := htop
  have hal2 : allN N = 2 ^ N.1 - 1 := rfl
  have hp1 : 1 ≤ 2 ^ N.1 := Nat.one_le_two_pow
  refine v_iconst (v := nI 0) O dX7_missed_0 (by decide) ?_
  refine v_istore_n (lv' := [(1, .int (nI 0)), (0, .ref g)]) O hN dX7_missed_1 rfl (by decide) rfl ?_
  refine v_iconst (v := nI 0) O dX7_missed_2 (by decide) ?_
  refine v_istore_n (lv' := [(2, .int (nI 0)), (1, .int (nI 0)), (0, .ref g)]) O hN dX7_missed_3 rfl (by decide) rfl ?_
  refine v_lv [2, 1, 0] rfl ?_
  refine l_X7_missed hG O hN (by omega) (by omega) hOk (fun σZ hZ hfZ => ?_) (N.1 + 1) 0 σ (by omega) (by omega) hGr FrL.rf
  refine v_iload_n O dX7_missed_58 rfl 1 rfl ?_
  exact v_iret O rfl dX7_missed_59 (by omega) (by omega) ⟨rfl, hZ, hfZ⟩
theorem l_X7_beside {G : vGC} (hG : vGok G) {X : vCX} {Q : State → Prop} {c0 n0 : Nat} (O : vOk G X yX7_beside.cls cX7_beside (some .int) 7 0 0) (hN : xn X = 4) (hcm0 : c0 ≤ 0) (hsm0 : n0 ≤ 0) {σ : vSt} {g t h : Nat} {N : NetM} (hOk : okN N) (hGr : GreAt σ g t h N) (kx : V G X Q c0 n0 σ 57 [(0, .ref g), (1, .int (nI (misN N))), (2, .int (nI (bsdN N)))] []) : ∀ (k : Nat) (a : Nat), (N.1 < a + k) → (a ≤ N.1) → V G X Q c0 n0 σ 9 [(0, .ref g), (1, .int (nI (misN N))), (2, .int (nI (mk (fun a => !(misN N).testBit a && decide (besN N a &&& misN N ≠ 0)) a))), (3, .int (nI a))] [] := by
  intro k
  induction k with
  | zero => intro a h0 h1; exact absurd h0 (by omega)
  | succ k ih =>
    intro a h0 h1
    obtain ⟨hg, hT, hN0, hht, hgt⟩ := id hGr
    obtain ⟨adt, It, Ft, Lt, hRt, had0⟩ := id hT
    obtain ⟨wa, ma, hob⟩ := hN0.ob
    have hn := hOk.2.1
    have hal := all_lt (N := N)
    have hp12 := p12 hn
    have htop := dp_top hOk hal
    have htop2 : (dp N.1 N.2.1 (allN N)).1 ≤ 12 := htop
    have htop3 : (topN N).1 ≤ 12 := htop
    have hal2 : allN N = 2 ^ N.1 - 1 := rfl
    have hp1 : 1 ≤ 2 ^ N.1 := Nat.one_le_two_pow
    have hmi := misN_lt hn
    have hbe : besN N a < 4096 := mk_4096 _ hn
    have hb2 : besN N a &&& misN N < 4096 := Nat.lt_of_le_of_lt Nat.and_le_left hbe
    refine v_iload_n O dX7_beside_9 rfl 3 rfl ?_
    refine v_aload_n O dX7_beside_10 rfl 0 rfl ?_
    refine v_getf (C := RX7) (T := TX7) (N := 3) (v := .ref h) O in_X7 hg rfl 0 (by decide) rfl q300 rfl dX7_beside_11 ?_
    refine v_getfN (C := RX2) (T := TX2) (N := 3) (v := .int (nI N.1)) O in_X2 hob rfl 0 (by decide) rfl q150 rfl dX7_beside_14 ?_
    refine v_icmp_geN (tgt := 57) O dX7_beside_17 (by decide) (by omega) (by omega) (fun h_17 => ?_) (fun h_17 => ?_)
    · obtain rfl : a = N.1 := by omega
      exact v_lv [0, 1, 2] rfl kx
    · refine v_iload_n O dX7_beside_20 rfl 2 rfl ?_
      refine v_iload_n O dX7_beside_21 rfl 1 rfl ?_
      refine v_iload_n O dX7_beside_22 rfl 3 rfl ?_
      refine v_callSN (as := [.int (nI (misN N)), .int (nI a)]) (rest := [.int (nI (mk (fun a => !(misN N).testBit a && decide (besN N a &&& misN N ≠ 0)) a))]) O (c_X1_has hG (s := misN N) (k := a) (by omega) (by omega)) q316 q271 q72 q272 mdX1_has rfl (by decide) (by omega) (by omega) (by omega) (Nat.le_of_ble_eq_true rfl) rfl dX7_beside_23 (fun v9 σ9 hp9 => ?_) (fun _ _ _ h => False.elim h)
      obtain ⟨rfl, hs9⟩ := hp9
      obtain rfl := hs9.symm
      refine v_if_neB (tgt := 48) O dX7_beside_26 (by decide) (fun h_26 => ?_) (fun h_26 => ?_)
      · refine v_iconst (v := nI 0) O dX7_beside_48 (by decide) ?_
        refine v_ior (z := nI (mk (fun a => !(misN N).testBit a && decide (besN N a &&& misN N ≠ 0)) (a + 1))) O dX7_beside_49 ((bx_or _ _).trans (congrArg nI (mk_or0 (by simp [h_26])))) ?_
        refine v_istore_n (lv' := [(2, .int (nI (mk (fun a => !(misN N).testBit a && decide (besN N a &&& misN N ≠ 0)) (a + 1)))), (0, .ref g), (1, .int (nI (misN N))), (3, .int (nI a))]) O hN dX7_beside_50 rfl (by decide) rfl ?_
        refine v_iinc (v := nI (a + 1)) (lv' := [(3, .int (nI (a + 1))), (2, .int (nI (mk (fun a => !(misN N).testBit a && decide (besN N a &&& misN N ≠ 0)) (a + 1)))), (0, .ref g), (1, .int (nI (misN N)))]) O hN dX7_beside_51 3 rfl (nI_add a 1) (by decide) rfl ?_
        refine v_goto (tgt := 9) O dX7_beside_54 (by decide) ?_
        refine v_lv [2, 3, 1, 0] rfl ?_
        exact ih (a + 1) (by omega) (by omega)
      · refine v_aload_n O dX7_beside_29 rfl 0 rfl ?_
        refine v_getf (C := RX7) (T := TX7) (N := 3) (v := .ref h) O in_X7 hg rfl 0 (by decide) rfl q300 rfl dX7_beside_30 ?_
        refine v_iload_n O dX7_beside_33 rfl 3 rfl ?_
        refine v_callV (as := [.int (nI a)]) (rest := [.int (nI (mk (fun a => !(misN N).testBit a && decide (besN N a &&& misN N ≠ 0)) a))]) O (c_X2_beside hG hN0 (by omega) (a := a) (by omega)) q1399 q1137 q1138 q75 q1139 hob (show vcl[1]? = some (RX2, TX2, 3) from rfl) rfl mdX2_beside rfl (by decide) (by omega) (by omega) (by omega) (Nat.le_of_ble_eq_true rfl) rfl dX7_beside_34 (fun v9 σ9 hp9 => ?_) (fun _ _ _ h => False.elim h)
        obtain ⟨rfl, hs9⟩ := hp9
        obtain rfl := hs9.symm
        refine v_iload_n O dX7_beside_37 rfl 1 rfl ?_
        refine v_iand (z := nI ((besN N a) &&& (misN N))) O dX7_beside_38 (bx_and (besN N a) (misN N)) ?_
        refine v_if_eqN (tgt := 48) O dX7_beside_39 (by decide) (by omega) (fun h_39 => ?_) (fun h_39 => ?_)
        · refine v_iconst (v := nI 0) O dX7_beside_48 (by decide) ?_
          refine v_ior (z := nI (mk (fun a => !(misN N).testBit a && decide (besN N a &&& misN N ≠ 0)) (a + 1))) O dX7_beside_49 ((bx_or _ _).trans (congrArg nI (mk_or0 (by simp [h_26, h_39])))) ?_
          refine v_istore_n (lv' := [(2, .int (nI (mk (fun a => !(misN N).testBit a && decide (besN N a &&& misN N ≠ 0)) (a + 1)))), (0, .ref g), (1, .int (nI (misN N))), (3, .int (nI a))]) O hN dX7_beside_50 rfl (by decide) rfl ?_
          refine v_iinc (v := nI (a + 1)) (lv' := [(3, .int (nI (a + 1))), (2, .int (nI (mk (fun a => !(misN N).testBit a && decide (besN N a &&& misN N ≠ 0)) (a + 1)))), (0, .ref g), (1, .int (nI (misN N)))]) O hN dX7_beside_51 3 rfl (nI_add a 1) (by decide) rfl ?_
          refine v_goto (tgt := 9) O dX7_beside_54 (by decide) ?_
          refine v_lv [2, 3, 1, 0] rfl ?_
          exact ih (a + 1) (by omega) (by omega)
        · refine v_iconst (v := nI 1) O dX7_beside_42 (by decide) ?_
          refine v_iload_n O dX7_beside_43 rfl 3 rfl ?_
          refine v_ishl (z := nI (2 ^ a)) O dX7_beside_44 (bx_shl1 (by omega)) ?_
          refine v_goto (tgt := 49) O dX7_beside_45 (by decide) ?_
          refine v_ior (z := nI (mk (fun a => !(misN N).testBit a && decide (besN N a &&& misN N ≠ 0)) (a + 1))) O dX7_beside_49 ((bx_or _ _).trans (congrArg nI (mk_or (by simp [h_26, h_39])))) ?_
          refine v_istore_n (lv' := [(2, .int (nI (mk (fun a => !(misN N).testBit a && decide (besN N a &&& misN N ≠ 0)) (a + 1)))), (0, .ref g), (1, .int (nI (misN N))), (3, .int (nI a))]) O hN dX7_beside_50 rfl (by decide) rfl ?_
          refine v_iinc (v := nI (a + 1)) (lv' := [(3, .int (nI (a + 1))), (2, .int (nI (mk (fun a => !(misN N).testBit a && decide (besN N a &&& misN N ≠ 0)) (a + 1)))), (0, .ref g), (1, .int (nI (misN N)))]) O hN dX7_beside_51 3 rfl (nI_add a 1) (by decide) rfl ?_
          refine v_goto (tgt := 9) O dX7_beside_54 (by decide) ?_
          refine v_lv [2, 3, 1, 0] rfl ?_
          exact ih (a + 1) (by omega) (by omega)
theorem mdX7_missed : vMd yX7_missed 0 := ⟨by decide +kernel, by decide +kernel, by decide +kernel⟩
theorem c_X7_beside {G : vGC} (hG : vGok G) {σ : vSt} {g t h : Nat} {N : NetM} (hOk : okN N) (hGr : GreAt σ g t h N) : Ct G yX7_beside (ws_ yX7_beside cX7_beside 4 (some .int)) 7 0 0 σ [.ref g] (fun v σ9 => v = some (.int (nI (bsdN N))) ∧ GreAt σ9 g t h N ∧ FrL [t] σ σ9) vNo := by
  refine ct_of hG (by decide) (Nat.le_of_ble_eq_true rfl) fun X hN O hnm htb => ?_
  show V G X _ 0 0 σ 0 [(0, .ref g)] []
  obtain ⟨hg, hT, hN0, hht, hgt⟩ := id hGr
  obtain ⟨adt, It, Ft, Lt, hRt, had0⟩ := id hT
  obtain ⟨wa, ma, hob⟩ := hN0.ob
  have hn := hOk.2.1
  have hal := all_lt (N := N)
  have hp12 := p12 hn
  have htop := dp_top hOk hal
  have htop2 : (dp N.1 N.2.1 (allN N)).1 ≤ 12 := htop
  have htop3 : (topN N).1 ≤ 12 := htop
  have hal2 : allN N = 2 ^ N.1 - 1 := rfl
  have hp1 : 1 ≤ 2 ^ N.1 := Nat.one_le_two_pow
  refine v_aload_n O dX7_beside_0 rfl 0 rfl ?_
  refine v_callV (as := []) (rest := []) O (c_X7_missed hG hOk ⟨hg, ⟨_, _, _, _, hRt, had0⟩, hN0, hht, hgt⟩ ) q1398 q1391 q1392 q101 q1393 hg (show vcl[6]? = some (RX7, TX7, 3) from rfl) rfl mdX7_missed rfl (by decide) (by omega) (by omega) (by omega) (Nat.le_of_ble_eq_true rfl) rfl dX7_beside_1 (fun v9 σ2 hp9 => ?_) (fun _ _ _ h => False.elim h)
  obtain ⟨rfl, hGr1, hf1⟩ := hp9
  obtain ⟨hg1, hT1, hN1, -, -⟩ := id hGr1
  obtain ⟨adt1, It1, Ft1, Lt1, hRt1, had1⟩ := id hT1
  obtain ⟨wa1, ma1, hob1⟩ := hN1.ob
  refine v_istore_n (lv' := [(1, .int (nI (misN N))), (0, .ref g)]) O hN dX7_beside_4 rfl (by decide) rfl ?_
  refine v_iconst (v := nI 0) O dX7_beside_5 (by decide) ?_
  refine v_istore_n (lv' := [(2, .int (nI 0)), (1, .int (nI (misN N))), (0, .ref g)]) O hN dX7_beside_6 rfl (by decide) rfl ?_
  refine v_iconst (v := nI 0) O dX7_beside_7 (by decide) ?_
  refine v_istore_n (lv' := [(3, .int (nI 0)), (2, .int (nI 0)), (1, .int (nI (misN N))), (0, .ref g)]) O hN dX7_beside_8 rfl (by decide) rfl ?_
  refine v_lv [3, 2, 1, 0] rfl ?_
  refine l_X7_beside hG O hN (by omega) (by omega) hOk ⟨hg1, ⟨_, _, _, _, hRt1, had1⟩, hN1, hht, hgt⟩ ?_ (N.1 + 1) 0 (by omega) (by omega)
  refine v_iload_n O dX7_beside_57 rfl 2 rfl ?_
  exact v_iret O rfl dX7_beside_58 (by omega) (by omega) ⟨rfl, ⟨hg1, ⟨_, _, _, _, hRt1, had1⟩, hN1, hht, hgt⟩, hf1⟩
