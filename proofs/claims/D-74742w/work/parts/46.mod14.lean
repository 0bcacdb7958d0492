theorem cnt_congr {p q : Nat → Bool} : ∀ n, (∀ i, i < n → p i = q i) → cnt p n = cnt q n
  | 0, _ => rfl
  | n + 1, h => by rw [cnt, cnt, cnt_congr n (fun i hi => h i (by omega)), h n (by omega)]
theorem cnt_ext {p : Nat → Bool} {n : Nat} : ∀ m, n ≤ m → cnt (fun i => decide (i < n) && p i) m = cnt p n
  | 0, h => by
    obtain rfl : n = 0 := by omega
    rfl
  | m + 1, h => by
    by_cases e : n = m + 1
    · subst e
      exact cnt_congr _ fun i hi => by rw [decide_eq_true hi]; rfl
    · rw [cnt, cnt_ext m (by omega), decide_eq_false (show ¬ m < n by omega)]
      rfl
theorem pcn_mk {p : Nat → Bool} {n : Nat} (h : n ≤ 12) : pcn (mk p n) = cnt p n := by
  unfold pcn
  rw [← cnt_ext 12 h]
  exact cnt_congr _ fun i _ => mk_bit p n i
theorem deg_eq {N : NetM} (h : okN N) {a : Nat} (ha : a < N.1) : cnt (fun b => !decide (b = a) && ln N a b) N.1 = pcn (besN N a) := by
  unfold besN
  rw [pcn_mk h.2.1]
  refine cnt_congr _ fun i _ => ?_
  by_cases e : i = a
  · subst e
    have h1 : ln N i i = false := by
      have := h.2.2.2.1 i ha
      simp [ln, this]
    rw [h1, Bool.and_false]
  · rw [decide_eq_false e]
    rfl
theorem l_X3_node {G : vGC} (hG : vGok G) {X : vCX} {Q : State → Prop} {c0 n0 : Nat} (O : vOk G X yX3_node.cls cX3_node (some .int) 16 0 0) (hN : xn X = 5) (hcm0 : c0 ≤ 0) (hsm0 : n0 ≤ 0) {σ : vSt} {m : Nat} {ad : Nat → Nat} {I : Nat → Int32} {F : Nat → Nat → Int32} {L : Nat → Nat → Int64} (hR : RecAt layM σ m ad I F L) {N : NetM} (hE : Enc (F 9) N) (hn : N.1 ≤ 12) {a j : Nat} (ha : a < N.1) (hj : j < 5) (kx : V G X Q c0 n0 σ 97 [(0, .ref m), (1, .int (nI a)), (2, .int (nI j)), (3, .int (nI (cnt (fun b => !decide (b = a) && ln N a b) N.1)))] []) : ∀ (k : Nat) (b : Nat), (N.1 < b + k) → (b ≤ N.1) → V G X Q c0 n0 σ 57 [(0, .ref m), (1, .int (nI a)), (2, .int (nI j)), (3, .int (nI (cnt (fun b => !decide (b = a) && ln N a b) b))), (4, .int (nI b))] [] := by
  intro k
  induction k with
  | zero => intro b h0 h1; exact absurd h0 (by omega)
  | succ k ih =>
    intro b h0 h1
    refine v_iload O dX3_node_57 4 rfl ?_
    refine v_aload_n O dX3_node_59 rfl 0 rfl ?_
    refine v_callV (as := []) (rest := [.int (nI b)]) O (c_X3_nodes hG hR hE (by first | omega | exact hn)) q1677 q1679 qs47 q77 q1680 hR.ob (show vcl[2]? = some (RX3, TX3, 27) from rfl) rfl mdX3_nodes rfl (by decide) (by omega) (by omega) (by omega) (Nat.le_of_ble_eq_true rfl) rfl dX3_node_60 (fun v9 σ9 hp9 => ?_) (fun _ _ _ h => False.elim h)
    obtain ⟨rfl, hs9⟩ := hp9
    obtain rfl := hs9.symm
    refine v_icmp_geN (tgt := 97) O dX3_node_63 (by decide) (by omega) (by omega) (fun h_63 => ?_) (fun h_63 => ?_)
    · obtain rfl : b = N.1 := by omega
      exact v_lv [0, 1, 2, 3] rfl kx
    · refine v_iload_n O dX3_node_66 rfl 3 rfl ?_
      refine v_iload O dX3_node_67 4 rfl ?_
      refine v_iload_n O dX3_node_69 rfl 1 rfl ?_
      refine v_icmp_eqN (tgt := 88) O dX3_node_70 (by decide) (by omega) (by omega) (fun h_70 => ?_) (fun h_70 => ?_)
      · refine v_iconst (v := nI 0) O dX3_node_88 (by decide) ?_
        refine v_iadd (z := nI (cnt (fun b => !decide (b = a) && ln N a b) (b + 1))) O dX3_node_89 ((nI_add _ _).trans (congrArg nI (by rw [cnt, if_neg (by simp [h_70])]))) ?_
        refine v_istore_n (lv' := [(3, .int (nI (cnt (fun b => !decide (b = a) && ln N a b) (b + 1)))), (0, .ref m), (1, .int (nI a)), (2, .int (nI j)), (4, .int (nI b))]) O hN dX3_node_90 rfl (by decide) rfl ?_
        refine v_iinc (v := nI (b + 1)) (lv' := [(4, .int (nI (b + 1))), (3, .int (nI (cnt (fun b => !decide (b = a) && ln N a b) (b + 1)))), (0, .ref m), (1, .int (nI a)), (2, .int (nI j))]) O hN dX3_node_91 4 rfl (nI_add b 1) (by decide) rfl ?_
        refine v_goto (tgt := 57) O dX3_node_94 (by decide) ?_
        refine v_lv [2, 3, 4, 1, 0] rfl ?_
        exact ih (b + 1) (by omega) (by omega)
      · refine v_aload_n O dX3_node_73 rfl 0 rfl ?_
        refine v_iload_n O dX3_node_74 rfl 1 rfl ?_
        refine v_iload O dX3_node_75 4 rfl ?_
        refine v_callV (as := [.int (nI a), .int (nI b)]) (rest := [.int (nI (cnt (fun b => !decide (b = a) && ln N a b) b))]) O (c_X3_weight hG hR hE (by first | omega | exact hn) (a := a) (b := b) (by omega) (by omega)) q1681 q1683 qs48 q77 q1684 hR.ob (show vcl[2]? = some (RX3, TX3, 27) from rfl) rfl mdX3_weight rfl (by decide) (by omega) (by omega) (by omega) (Nat.le_of_ble_eq_true rfl) rfl dX3_node_77 (fun v9 σ9 hp9 => ?_) (fun _ _ _ h => False.elim h)
        obtain ⟨rfl, hs9⟩ := hp9
        obtain rfl := hs9.symm
        refine v_iconst (v := (-1)) O dX3_node_80 (by decide) ?_
        refine v_icmp_eq (tgt := 88) O dX3_node_81 (by decide) (fun h_81 => ?_) (fun h_81 => ?_)
        · refine v_iconst (v := nI 0) O dX3_node_88 (by decide) ?_
          refine v_iadd (z := nI (cnt (fun b => !decide (b = a) && ln N a b) (b + 1))) O dX3_node_89 ((nI_add _ _).trans (congrArg nI (by rw [cnt, if_neg (by simp [h_70, h_81, ln])]))) ?_
          refine v_istore_n (lv' := [(3, .int (nI (cnt (fun b => !decide (b = a) && ln N a b) (b + 1)))), (0, .ref m), (1, .int (nI a)), (2, .int (nI j)), (4, .int (nI b))]) O hN dX3_node_90 rfl (by decide) rfl ?_
          refine v_iinc (v := nI (b + 1)) (lv' := [(4, .int (nI (b + 1))), (3, .int (nI (cnt (fun b => !decide (b = a) && ln N a b) (b + 1)))), (0, .ref m), (1, .int (nI a)), (2, .int (nI j))]) O hN dX3_node_91 4 rfl (nI_add b 1) (by decide) rfl ?_
          refine v_goto (tgt := 57) O dX3_node_94 (by decide) ?_
          refine v_lv [2, 3, 4, 1, 0] rfl ?_
          exact ih (b + 1) (by omega) (by omega)
        · refine v_iconst (v := nI 1) O dX3_node_84 (by decide) ?_
          refine v_goto (tgt := 89) O dX3_node_85 (by decide) ?_
          refine v_iadd (z := nI (cnt (fun b => !decide (b = a) && ln N a b) (b + 1))) O dX3_node_89 ((nI_add _ _).trans (congrArg nI (by rw [cnt, if_pos (by simp [ln, h_70, h_81])]))) ?_
          refine v_istore_n (lv' := [(3, .int (nI (cnt (fun b => !decide (b = a) && ln N a b) (b + 1)))), (0, .ref m), (1, .int (nI a)), (2, .int (nI j)), (4, .int (nI b))]) O hN dX3_node_90 rfl (by decide) rfl ?_
          refine v_iinc (v := nI (b + 1)) (lv' := [(4, .int (nI (b + 1))), (3, .int (nI (cnt (fun b => !decide (b = a) && ln N a b) (b + 1)))), (0, .ref m), (1, .int (nI a)), (2, .int (nI j))]) O hN dX3_node_91 4 rfl (nI_add b 1) (by decide) rfl ?_
          refine v_goto (tgt := 57) O dX3_node_94 (by decide) ?_
          refine v_lv [2, 3, 4, 1, 0] rfl ?_
          exact ih (b + 1) (by omega) (by omega)
theorem h163 {e o a : Nat} (h : e.testBit a = false) (h2 : (sd o e).testBit a = true) : o.testBit a = true := by
  rw [sd_bit, h] at h2
  simpa using h2
theorem h163n {e o a : Nat} (h : e.testBit a = false) (h2 : (sd o e).testBit a = false) : ¬ o.testBit a = true := by
  rw [sd_bit, h] at h2
  simpa using h2
theorem c_X3_node {G : vGC} (hG : vGok G) {σ : vSt} {m : Nat} {S : SysM} {t0 : Nat} (hA : ModAt σ m S t0) (hS : okS S) {x q : Int32} : Ct G yX3_node (ws_ yX3_node cX3_node 5 (some .int)) 16 0 0 σ [.ref m, .int x, .int q] (fun v σ9 => v = some (.int (opNode S x q).2.1) ∧ ModAt σ9 m (opNode S x q).2.2 (opNode S x q).1 ∧ FrL [m] σ σ9) vNo := by
  refine ct_of hG (by decide) (Nat.le_of_ble_eq_true rfl) fun X hN O hnm htb => ?_
  show V G X _ 0 0 σ 0 [(0, .ref m), (1, .int x), (2, .int q)] []
  obtain ⟨ad, I, F, L, hR, hM⟩ := id hA
  have hd := okS.d S hS
  have hn1 : 1 ≤ (sN S).1 := hd.1
  have hn : (sN S).1 ≤ 12 := hd.2.1
  have hp12 := p12 hn
  have hal := all_lt (N := sN S)
  have hsl1 := allN_lt hn
  obtain ⟨hev, hod⟩ := labs_lt hn
  have hsl2 := sd_lt (b := evS (sN S)) hsl1
  have hsl3 := sd_lt (b := evS (sN S)) hod
  have hsl4 := misN_lt hn
  have hsl5 := bsdN_lt (N := sN S) hn
  refine v_aload_n O dX3_node_0 rfl 0 rfl ?_
  refine v_iconst (v := nI 0) O dX3_node_1 (by decide) ?_
  refine r_puti (K := layM) (I' := (va_up I 0 (nI 0))) (ty0 := tyX3) O hR in_X3 tyX3_ok nmX3 (show vcl[2]? = some (RX3, TX3, 27) from rfl) 0 (by decide) rfl q1492 rfl (tyX3_ok 0 (by decide)) rfl rfl (Nat.le_of_ble_eq_true rfl) rfl dX3_node_2 (fun σ1 hR1 hf1 => ?_)
  refine v_aload_n O dX3_node_5 rfl 0 rfl ?_
  refine v_aload_n O dX3_node_6 rfl 0 rfl ?_
  refine v_iload_n O dX3_node_7 rfl 1 rfl ?_
  refine v_callV (as := [.int x]) (rest := [.ref m]) O (c_X3_isNode hG hR1 (hM.thr 0).e9 (by first | omega | exact hn) (x := x) (by omega)) q1697 q1699 qs49 q77 q1700 hR1.ob (show vcl[2]? = some (RX3, TX3, 27) from rfl) rfl mdX3_isNode rfl (by decide) (by omega) (by omega) (by omega) (Nat.le_of_ble_eq_true rfl) rfl dX3_node_8 (fun v9 σ9 hp9 => ?_) (fun _ _ _ h => False.elim h)
  obtain ⟨rfl, hs9⟩ := hp9
  obtain rfl := hs9.symm
  refine v_if_neB (tgt := 18) O dX3_node_11 (by decide) (fun h_11 => ?_) (fun h_11 => ?_)
  · obtain ⟨a, ha, rfl⟩ := isNd_t hn1 hn h_11
    refine v_iconst (v := nI 0) O dX3_node_18 (by decide) ?_
    refine v_iconst (v := nI 1) O dX3_node_19 (by decide) ?_
    refine v_iconst (v := nI 0) O dX3_node_20 (by decide) ?_
    refine v_callV (as := [.int (nI 0), .int (nI 1), .int (nI 0)]) (rest := []) O (c_X3_bad hG (p := false) (w := 1) (r := 0) hR1 (by omega) (by omega) rfl) q1590 q1592 qs32 q77 q1593 hR1.ob (show vcl[2]? = some (RX3, TX3, 27) from rfl) rfl mdX3_bad rfl (by decide) (by omega) (by omega) (by omega) (Nat.le_of_ble_eq_true rfl) rfl dX3_node_21 (fun v9 σ3 hp9 => ?_) (fun _ _ _ h => False.elim h)
    obtain ⟨rfl, hR2, hf2⟩ := hp9
    replace hR2 : RecAt layM σ3 m ad (va_up I 0 (nI 0)) F L := hR2
    refine v_if_neB (tgt := 50) O dX3_node_24 (by decide) (fun h_24 => ?_) (fun h_24 => ?_)
    · exact absurd h_24 (by decide)
    · refine v_aload_n O dX3_node_27 rfl 0 rfl ?_
      refine v_iload_n O dX3_node_28 rfl 2 rfl ?_
      refine v_iconst (v := nI 0) O dX3_node_29 (by decide) ?_
      refine v_iconst (v := nI 4) O dX3_node_30 (by decide) ?_
      refine v_callS (as := [.int q, .int (nI 0), .int (nI 4)]) (rest := [.ref m]) O (c_X3_in hG (x := q) (lo := nI 0) (hi := nI 4)) q1587 q1588 q77 q1589 mdX3_in rfl (by decide) (by omega) (by omega) (by omega) (Nat.le_of_ble_eq_true rfl) rfl dX3_node_31 (fun v9 σ9 hp9 => ?_) (fun _ _ _ h => False.elim h)
      obtain ⟨rfl, hs9⟩ := hp9
      obtain rfl := hs9.symm
      refine v_if_neB (tgt := 41) O dX3_node_34 (by decide) (fun h_34 => ?_) (fun h_34 => ?_)
      · have h12 := of_decide_eq_true h_34
        obtain ⟨j, hj, rfl⟩ := nI_of2 (n := 4) (M := nI 4) rfl (Int32.not_lt.mpr h12.1) h12.2
        refine v_iconst (v := nI 0) O dX3_node_41 (by decide) ?_
        refine v_iconst (v := nI 2) O dX3_node_42 (by decide) ?_
        refine v_iconst (v := nI 1) O dX3_node_43 (by decide) ?_
        refine v_callV (as := [.int (nI 0), .int (nI 2), .int (nI 1)]) (rest := []) O (c_X3_bad hG (p := false) (w := 2) (r := 1) hR2 (by omega) (by omega) rfl) q1590 q1592 qs32 q77 q1593 hR2.ob (show vcl[2]? = some (RX3, TX3, 27) from rfl) rfl mdX3_bad rfl (by decide) (by omega) (by omega) (by omega) (Nat.le_of_ble_eq_true rfl) rfl dX3_node_44 (fun v9 σ5 hp9 => ?_) (fun _ _ _ h => False.elim h)
        obtain ⟨rfl, hR4, hf4⟩ := hp9
        replace hR4 : RecAt layM σ5 m ad (va_up I 0 (nI 0)) F L := hR4
        refine v_if_eqB (tgt := 52) O dX3_node_47 (by decide) (fun h_47 => ?_) (fun h_47 => ?_)
        · refine v_iconst (v := nI 0) O dX3_node_52 (by decide) ?_
          refine v_istore_n (lv' := [(3, .int (nI 0)), (0, .ref m), (1, .int (nI a)), (2, .int (nI j))]) O hN dX3_node_53 rfl (by decide) rfl ?_
          refine v_iconst (v := nI 0) O dX3_node_54 (by decide) ?_
          refine v_istore (lv' := [(4, .int (nI 0)), (3, .int (nI 0)), (0, .ref m), (1, .int (nI a)), (2, .int (nI j))]) O hN dX3_node_55 (by decide) rfl ?_
          refine v_lv [2, 3, 4, 1, 0] rfl ?_
          refine l_X3_node hG O hN (by omega) (by omega) hR4 (hM.thr 0).e9 hn ha (by omega) ?_ ((sN S).1 + 1) 0 (by omega) (by omega)
          refine v_iload_n O dX3_node_97 rfl 2 rfl ?_
          by_cases hs_0 : j = 0
          · refine v_tableIn (off := 30) (tgt := 128) O dX3_node_98 (by rw [hs_0]; decide) (by rw [hs_0]; decide) (by rw [hs_0]; rfl) (by decide) ?_
            refine v_iload_n O dX3_node_128 rfl 3 rfl ?_
            exact v_iret O rfl dX3_node_129 (by omega) (by omega) (by rw [show opNode S (nI a) (nI j) = (0, nodeV (sN S) a (nI j), S) from by simp [opNode, h_11, cl, nI_clamp (show a < 2 ^ 31 by omega), show nI 0 ≤ nI j ∧ nI j ≤ nI 4 from of_decide_eq_true h_34]]; exact ⟨(by subst hs_0; rw [nodeV, if_pos rfl]; rw [deg_eq hS.2.2.2.2 ha]), ⟨ad, _, _, _, hR4, (hM.thr 0)⟩, ((hf1.trans hf2).trans hf4)⟩)
          by_cases hs_1 : j = 1
          · refine v_tableIn (off := 32) (tgt := 130) O dX3_node_98 (by rw [hs_1]; decide) (by rw [hs_1]; decide) (by rw [hs_1]; rfl) (by decide) ?_
            refine v_aload_n O dX3_node_130 rfl 0 rfl ?_
            refine v_iload_n O dX3_node_131 rfl 1 rfl ?_
            refine v_callV (as := [.int (nI a)]) (rest := []) O (c_X3_mate hG hR4 (hM.thr 0).e9 (by first | omega | exact hn) (a := a) (by omega)) q1705 q1707 qs50 q77 q1708 hR4.ob (show vcl[2]? = some (RX3, TX3, 27) from rfl) rfl mdX3_mate rfl (by decide) (by omega) (by omega) (by omega) (Nat.le_of_ble_eq_true rfl) rfl dX3_node_132 (fun v9 σ9 hp9 => ?_) (fun _ _ _ h => False.elim h)
            obtain ⟨rfl, hs9⟩ := hp9
            obtain rfl := hs9.symm
            exact v_iret O rfl dX3_node_135 (by omega) (by omega) (by rw [show opNode S (nI a) (nI j) = (0, nodeV (sN S) a (nI j), S) from by simp [opNode, h_11, cl, nI_clamp (show a < 2 ^ 31 by omega), show nI 0 ≤ nI j ∧ nI j ≤ nI 4 from of_decide_eq_true h_34]]; exact ⟨(by subst hs_1; rw [nodeV, if_neg (by decide), if_pos rfl]), ⟨ad, _, _, _, hR4, (hM.thr 0)⟩, ((hf1.trans hf2).trans hf4)⟩)
          by_cases hs_2 : j = 2
          · refine v_tableIn (off := 38) (tgt := 136) O dX3_node_98 (by rw [hs_2]; decide) (by rw [hs_2]; decide) (by rw [hs_2]; rfl) (by decide) ?_
            refine v_aload_n O dX3_node_136 rfl 0 rfl ?_
            refine v_callV (as := []) (rest := []) O (c_X3_labels hG hR4 (hM.thr 0) hS) q1796 q1798 qs63 q77 q1799 hR4.ob (show vcl[2]? = some (RX3, TX3, 27) from rfl) rfl mdX3_labels rfl (by decide) (by omega) (by omega) (by omega) (Nat.le_of_ble_eq_true rfl) rfl dX3_node_137 (fun v9 σ62 hp9 => ?_) (fun _ _ _ h => False.elim h)
            obtain ⟨rfl, I61, F61, L61, hR61, hM61, h2261, h2361, hf61⟩ := hp9
            have hE61 : Enc (F61 9) (sN S) := hM61.e9
            refine v_aload_n O dX3_node_140 rfl 0 rfl ?_
            refine v_getf (C := RX3) (T := TX3) (N := 27) (v := .int (nI (evS (sN S)))) O in_X3 hR61.ob rfl 22 (by decide) rfl q1514 (congrArg (fun z => some (Value.int z)) h2261) dX3_node_141 ?_
            refine v_iload_n O dX3_node_144 rfl 1 rfl ?_
            refine v_callS (as := [.int (nI (evS (sN S))), .int (nI a)]) (rest := []) O (c_X3_has hG (s := evS (sN S)) (k := a) (by omega) (by omega)) q1741 q1742 q77 q1743 mdX3_has rfl (by decide) (by omega) (by omega) (by omega) (Nat.le_of_ble_eq_true rfl) rfl dX3_node_145 (fun v9 σ9 hp9 => ?_) (fun _ _ _ h => False.elim h)
            obtain ⟨rfl, hs9⟩ := hp9
            obtain rfl := hs9.symm
            refine v_if_eqB (tgt := 155) O dX3_node_148 (by decide) (fun h_148 => ?_) (fun h_148 => ?_)
            · refine v_aload_n O dX3_node_155 rfl 0 rfl ?_
              refine v_getf (C := RX3) (T := TX3) (N := 27) (v := .int (nI (sd (odS (sN S)) (evS (sN S))))) O in_X3 hR61.ob rfl 23 (by decide) rfl q1515 (congrArg (fun z => some (Value.int z)) h2361) dX3_node_156 ?_
              refine v_iload_n O dX3_node_159 rfl 1 rfl ?_
              refine v_callS (as := [.int (nI (sd (odS (sN S)) (evS (sN S)))), .int (nI a)]) (rest := []) O (c_X3_has hG (s := sd (odS (sN S)) (evS (sN S))) (k := a) (by omega) (by omega)) q1741 q1742 q77 q1743 mdX3_has rfl (by decide) (by omega) (by omega) (by omega) (Nat.le_of_ble_eq_true rfl) rfl dX3_node_160 (fun v9 σ9 hp9 => ?_) (fun _ _ _ h => False.elim h)
              obtain ⟨rfl, hs9⟩ := hp9
              obtain rfl := hs9.symm
              refine v_if_eqB (tgt := 170) O dX3_node_163 (by decide) (fun h_163 => ?_) (fun h_163 => ?_)
              · refine v_iconst (v := nI 2) O dX3_node_170 (by decide) ?_
                exact v_iret O rfl dX3_node_171 (by omega) (by omega) (by rw [show opNode S (nI a) (nI j) = (0, nodeV (sN S) a (nI j), S) from by simp [opNode, h_11, cl, nI_clamp (show a < 2 ^ 31 by omega), show nI 0 ≤ nI j ∧ nI j ≤ nI 4 from of_decide_eq_true h_34]]; exact ⟨(by subst hs_2; rw [nodeV, if_neg (by decide), if_neg (by decide), if_pos rfl]; rw [if_neg (by rw [h_148]; decide)]; rw [if_neg (h163n h_148 h_163)]), ⟨ad, _, _, _, hR61, hM61⟩, (((hf1.trans hf2).trans hf4).trans hf61)⟩)
              · refine v_iconst (v := nI 1) O dX3_node_166 (by decide) ?_
                refine v_goto (tgt := 171) O dX3_node_167 (by decide) ?_
                exact v_iret O rfl dX3_node_171 (by omega) (by omega) (by rw [show opNode S (nI a) (nI j) = (0, nodeV (sN S) a (nI j), S) from by simp [opNode, h_11, cl, nI_clamp (show a < 2 ^ 31 by omega), show nI 0 ≤ nI j ∧ nI j ≤ nI 4 from of_decide_eq_true h_34]]; exact ⟨(by subst hs_2; rw [nodeV, if_neg (by decide), if_neg (by decide), if_pos rfl]; rw [if_neg (by rw [h_148]; decide)]; rw [if_pos (h163 h_148 h_163)]), ⟨ad, _, _, _, hR61, hM61⟩, (((hf1.trans hf2).trans hf4).trans hf61)⟩)
            · refine v_iconst (v := nI 0) O dX3_node_151 (by decide) ?_
              refine v_goto (tgt := 171) O dX3_node_152 (by decide) ?_
              exact v_iret O rfl dX3_node_171 (by omega) (by omega) (by rw [show opNode S (nI a) (nI j) = (0, nodeV (sN S) a (nI j), S) from by simp [opNode, h_11, cl, nI_clamp (show a < 2 ^ 31 by omega), show nI 0 ≤ nI j ∧ nI j ≤ nI 4 from of_decide_eq_true h_34]]; exact ⟨(by subst hs_2; rw [nodeV, if_neg (by decide), if_neg (by decide), if_pos rfl]; rw [if_pos h_148]), ⟨ad, _, _, _, hR61, hM61⟩, (((hf1.trans hf2).trans hf4).trans hf61)⟩)
          by_cases hs_3 : j = 3
          · refine v_tableIn (off := 74) (tgt := 172) O dX3_node_98 (by rw [hs_3]; decide) (by rw [hs_3]; decide) (by rw [hs_3]; rfl) (by decide) ?_
            refine v_aload_n O dX3_node_172 rfl 0 rfl ?_
            refine v_iconst (v := nI 0) O dX3_node_173 (by decide) ?_
            refine v_callV (as := [.int (nI 0)]) (rest := []) O (c_X3_setOf hG hR4 (hM.thr 0) hS (j := 0) (by omega)) q1807 q1809 qs65 q77 q1810 hR4.ob (show vcl[2]? = some (RX3, TX3, 27) from rfl) rfl mdX3_setOf rfl (by decide) (by omega) (by omega) (by omega) (Nat.le_of_ble_eq_true rfl) rfl dX3_node_174 (fun v9 σ64 hp9 => ?_) (fun _ _ _ h => False.elim h)
            obtain ⟨rfl, I63, F63, L63, hR63, hM63, hf63⟩ := hp9
            have hE63 : Enc (F63 9) (sN S) := hM63.e9
            rw [show setV (sN S) (nI 0) = misN (sN S) from rfl]
            refine v_iload_n O dX3_node_177 rfl 1 rfl ?_
            refine v_callS (as := [.int (nI (misN (sN S))), .int (nI a)]) (rest := []) O (c_X3_has hG (s := misN (sN S)) (k := a) (by omega) (by omega)) q1741 q1742 q77 q1743 mdX3_has rfl (by decide) (by omega) (by omega) (by omega) (Nat.le_of_ble_eq_true rfl) rfl dX3_node_178 (fun v9 σ9 hp9 => ?_) (fun _ _ _ h => False.elim h)
            obtain ⟨rfl, hs9⟩ := hp9
            obtain rfl := hs9.symm
            refine v_if_eqB (tgt := 188) O dX3_node_181 (by decide) (fun h_181 => ?_) (fun h_181 => ?_)
            · refine v_aload_n O dX3_node_188 rfl 0 rfl ?_
              refine v_iconst (v := nI 1) O dX3_node_189 (by decide) ?_
              refine v_callV (as := [.int (nI 1)]) (rest := []) O (c_X3_setOf hG hR63 hM63 hS (j := 1) (by omega)) q1807 q1809 qs65 q77 q1810 hR63.ob (show vcl[2]? = some (RX3, TX3, 27) from rfl) rfl mdX3_setOf rfl (by decide) (by omega) (by omega) (by omega) (Nat.le_of_ble_eq_true rfl) rfl dX3_node_190 (fun v9 σ66 hp9 => ?_) (fun _ _ _ h => False.elim h)
              obtain ⟨rfl, I65, F65, L65, hR65, hM65, hf65⟩ := hp9
              have hE65 : Enc (F65 9) (sN S) := hM65.e9
              rw [show setV (sN S) (nI 1) = bsdN (sN S) from by rw [setV, if_neg (by decide), if_pos rfl]]
              refine v_iload_n O dX3_node_193 rfl 1 rfl ?_
              refine v_callS (as := [.int (nI (bsdN (sN S))), .int (nI a)]) (rest := []) O (c_X3_has hG (s := bsdN (sN S)) (k := a) (by omega) (by omega)) q1741 q1742 q77 q1743 mdX3_has rfl (by decide) (by omega) (by omega) (by omega) (Nat.le_of_ble_eq_true rfl) rfl dX3_node_194 (fun v9 σ9 hp9 => ?_) (fun _ _ _ h => False.elim h)
              obtain ⟨rfl, hs9⟩ := hp9
              obtain rfl := hs9.symm
              refine v_if_eqB (tgt := 204) O dX3_node_197 (by decide) (fun h_197 => ?_) (fun h_197 => ?_)
              · refine v_iconst (v := nI 2) O dX3_node_204 (by decide) ?_
                exact v_iret O rfl dX3_node_205 (by omega) (by omega) (by rw [show opNode S (nI a) (nI j) = (0, nodeV (sN S) a (nI j), S) from by simp [opNode, h_11, cl, nI_clamp (show a < 2 ^ 31 by omega), show nI 0 ≤ nI j ∧ nI j ≤ nI 4 from of_decide_eq_true h_34]]; exact ⟨(by subst hs_3; rw [nodeV, if_neg (by decide), if_neg (by decide), if_neg (by decide), if_pos rfl]; rw [if_neg (by rw [show (misN (sN S)).testBit a = false from h_181]; decide), if_neg (by rw [show (bsdN (sN S)).testBit a = false from h_197]; decide)]), ⟨ad, _, _, _, hR65, hM65⟩, ((((hf1.trans hf2).trans hf4).trans hf63).trans hf65)⟩)
              · refine v_iconst (v := nI 1) O dX3_node_200 (by decide) ?_
                refine v_goto (tgt := 205) O dX3_node_201 (by decide) ?_
                exact v_iret O rfl dX3_node_205 (by omega) (by omega) (by rw [show opNode S (nI a) (nI j) = (0, nodeV (sN S) a (nI j), S) from by simp [opNode, h_11, cl, nI_clamp (show a < 2 ^ 31 by omega), show nI 0 ≤ nI j ∧ nI j ≤ nI 4 from of_decide_eq_true h_34]]; exact ⟨(by subst hs_3; rw [nodeV, if_neg (by decide), if_neg (by decide), if_neg (by decide), if_pos rfl]; rw [if_neg (by rw [show (misN (sN S)).testBit a = false from h_181]; decide), if_pos h_197]), ⟨ad, _, _, _, hR65, hM65⟩, ((((hf1.trans hf2).trans hf4).trans hf63).trans hf65)⟩)
            · refine v_iconst (v := nI 0) O dX3_node_184 (by decide) ?_
              refine v_goto (tgt := 205) O dX3_node_185 (by decide) ?_
              exact v_iret O rfl dX3_node_205 (by omega) (by omega) (by rw [show opNode S (nI a) (nI j) = (0, nodeV (sN S) a (nI j), S) from by simp [opNode, h_11, cl, nI_clamp (show a < 2 ^ 31 by omega), show nI 0 ≤ nI j ∧ nI j ≤ nI 4 from of_decide_eq_true h_34]]; exact ⟨(by subst hs_3; rw [nodeV, if_neg (by decide), if_neg (by decide), if_neg (by decide), if_pos rfl]; rw [if_pos h_181]), ⟨ad, _, _, _, hR63, hM63⟩, (((hf1.trans hf2).trans hf4).trans hf63)⟩)
          refine v_tableOut (tgt := 206) O dX3_node_98 (Or.inr (by rw [nI_toInt (by omega)]; omega)) (by decide) ?_
          refine v_aload_n O dX3_node_206 rfl 0 rfl ?_
          refine v_callV (as := []) (rest := []) O (c_X3_laysFirst hG hR4 (hM.thr 0) hS) q1748 q1750 qs56 q77 q1751 hR4.ob (show vcl[2]? = some (RX3, TX3, 27) from rfl) rfl mdX3_laysFirst rfl (by decide) (by omega) (by omega) (by omega) (Nat.le_of_ble_eq_true rfl) rfl dX3_node_207 (fun v9 σ68 hp9 => ?_) (fun _ _ _ h => False.elim h)
          obtain ⟨rfl, I67, F67, L67, hR67, hM67, h2067, hf67⟩ := hp9
          have hE67 : Enc (F67 9) (sN S) := hM67.e9
          refine v_aload_n O dX3_node_210 rfl 0 rfl ?_
          refine v_getf (C := RX3) (T := TX3) (N := 27) (v := .ref (ad 20)) O in_X3 hR67.ob rfl 20 (by decide) rfl q1512 rfl dX3_node_211 ?_
          refine v_iload_n O dX3_node_214 rfl 1 rfl ?_
          refine v_iald (f := F67 20) O (hR67.ar 20 rfl) (by omega) (by omega) dX3_node_215 ?_
          refine v_top (y := (firstR (sN S) a)) (h2067 _ (by omega)) ?_
          exact v_iret O rfl dX3_node_216 (by omega) (by omega) (by rw [show opNode S (nI a) (nI j) = (0, nodeV (sN S) a (nI j), S) from by simp [opNode, h_11, cl, nI_clamp (show a < 2 ^ 31 by omega), show nI 0 ≤ nI j ∧ nI j ≤ nI 4 from of_decide_eq_true h_34]]; exact ⟨(by obtain rfl : j = 4 := (by omega); rw [nodeV, if_neg (by decide), if_neg (by decide), if_neg (by decide), if_neg (by decide)]), ⟨ad, _, _, _, hR67, hM67⟩, (((hf1.trans hf2).trans hf4).trans hf67)⟩)
        · exact absurd h_47 (by decide)
      · refine v_iconst (v := nI 1) O dX3_node_37 (by decide) ?_
        refine v_goto (tgt := 42) O dX3_node_38 (by decide) ?_
        refine v_iconst (v := nI 2) O dX3_node_42 (by decide) ?_
        refine v_iconst (v := nI 1) O dX3_node_43 (by decide) ?_
        refine v_callV (as := [.int (nI 1), .int (nI 2), .int (nI 1)]) (rest := []) O (c_X3_bad hG (p := true) (w := 2) (r := 1) hR2 (by omega) (by omega) rfl) q1590 q1592 qs32 q77 q1593 hR2.ob (show vcl[2]? = some (RX3, TX3, 27) from rfl) rfl mdX3_bad rfl (by decide) (by omega) (by omega) (by omega) (Nat.le_of_ble_eq_true rfl) rfl dX3_node_44 (fun v9 σ7 hp9 => ?_) (fun _ _ _ h => False.elim h)
        obtain ⟨rfl, hR6, hf6⟩ := hp9
        replace hR6 : RecAt layM σ7 m ad (va_up (va_up I 0 (nI 0)) 0 (nI 2)) (va_up F 1 (va_up (F 1) 1 ((F 1) 1 + nI 1))) L := hR6
        refine v_if_eqB (tgt := 52) O dX3_node_47 (by decide) (fun h_47 => ?_) (fun h_47 => ?_)
        · exact absurd h_47 (by decide)
        · refine v_iconst (v := nI 0) O dX3_node_50 (by decide) ?_
          exact v_iret O rfl dX3_node_51 (by omega) (by omega) (by rw [show opNode S (nI a) q = (2, nI 0, refS S 1) from by simp [opNode, h_11, show ¬ (nI 0 ≤ q ∧ q ≤ nI 4) from of_decide_eq_false h_34]]; exact ⟨rfl, ⟨ad, _, _, _, hR6, (((hM.thr 0).rf (r := 1) (by omega)).thr 2)⟩, ((hf1.trans hf2).trans hf6)⟩)
  · refine v_iconst (v := nI 1) O dX3_node_14 (by decide) ?_
    refine v_goto (tgt := 19) O dX3_node_15 (by decide) ?_
    refine v_iconst (v := nI 1) O dX3_node_19 (by decide) ?_
    refine v_iconst (v := nI 0) O dX3_node_20 (by decide) ?_
    refine v_callV (as := [.int (nI 1), .int (nI 1), .int (nI 0)]) (rest := []) O (c_X3_bad hG (p := true) (w := 1) (r := 0) hR1 (by omega) (by omega) rfl) q1590 q1592 qs32 q77 q1593 hR1.ob (show vcl[2]? = some (RX3, TX3, 27) from rfl) rfl mdX3_bad rfl (by decide) (by omega) (by omega) (by omega) (Nat.le_of_ble_eq_true rfl) rfl dX3_node_21 (fun v9 σ9 hp9 => ?_) (fun _ _ _ h => False.elim h)
    obtain ⟨rfl, hR8, hf8⟩ := hp9
    replace hR8 : RecAt layM σ9 m ad (va_up (va_up I 0 (nI 0)) 0 (nI 1)) (va_up F 1 (va_up (F 1) 0 ((F 1) 0 + nI 1))) L := hR8
    refine v_if_neB (tgt := 50) O dX3_node_24 (by decide) (fun h_24 => ?_) (fun h_24 => ?_)
    · refine v_iconst (v := nI 0) O dX3_node_50 (by decide) ?_
      exact v_iret O rfl dX3_node_51 (by omega) (by omega) (by rw [show opNode S x q = (1, nI 0, refS S 0) from by simp [opNode, h_11]]; exact ⟨rfl, ⟨ad, _, _, _, hR8, (((hM.thr 0).rf (r := 0) (by omega)).thr 1)⟩, (hf1.trans hf8)⟩)
    · exact absurd h_24 (by decide)
def prA (N : NetM) : Nat → Int64
  | 0 => 0
  | k + 1 => 31 * prA N k + (N.2.2 k).toInt64
def prB (N : NetM) (a : Nat) (v : Int64) : Nat → Int64
  | 0 => v
  | k + 1 => if a < k ∧ ln N a k = true then 31 * prB N a v k + (N.2.1 a k).toInt64 else prB N a v k
def prC (N : NetM) : Nat → Int64
  | 0 => prA N N.1
  | k + 1 => prB N k (prC N k) N.1
def opPrint (S : SysM) : Int64 := prC (sN S) (sN S).1
theorem prB_low {N : NetM} {a : Nat} {v : Int64} : ∀ k, k ≤ a + 1 → prB N a v k = v
  | 0, _ => rfl
  | k + 1, h => by rw [prB, if_neg (by omega), prB_low k (by omega)]
theorem l_X3_print_a {G : vGC} (hG : vGok G) {X : vCX} {Q : State → Prop} {c0 n0 : Nat} (O : vOk G X yX3_print.cls cX3_print (some .long) 2 0 0) (hN : xn X = 5) (hcm0 : c0 ≤ 0) (hsm0 : n0 ≤ 0) {σ : vSt} {m : Nat} {ad : Nat → Nat} {I : Nat → Int32} {F : Nat → Nat → Int32} {L : Nat → Nat → Int64} (hR : RecAt layM σ m ad I F L) {N : NetM} (hE : Enc (F 9) N) (hn : N.1 ≤ 12) (kx : V G X Q c0 n0 σ 36 [(0, .ref m), (1, .long (prA N N.1))] []) : ∀ (k : Nat) (a : Nat), (N.1 < a + k) → (a ≤ N.1) → V G X Q c0 n0 σ 9 [(0, .ref m), (1, .long (prA N a)), (3, .int (nI a))] [] := by
  intro k
  induction k with
  | zero => intro a h0 h1; exact absurd h0 (by omega)
  | succ k ih =>
    intro a h0 h1
    refine v_iload_n O dX3_print_9 rfl 2 rfl ?_
    refine v_aload_n O dX3_print_10 rfl 0 rfl ?_
    refine v_callV (as := []) (rest := [.int (nI a)]) O (c_X3_nodes hG hR hE (by first | omega | exact hn)) q1677 q1679 qs47 q77 q1680 hR.ob (show vcl[2]? = some (RX3, TX3, 27) from rfl) rfl mdX3_nodes rfl (by decide) (by omega) (by omega) (by omega) (Nat.le_of_ble_eq_true rfl) rfl dX3_print_11 (fun v9 σ9 hp9 => ?_) (fun _ _ _ h => False.elim h)
    obtain ⟨rfl, hs9⟩ := hp9
    obtain rfl := hs9.symm
    refine v_icmp_geN (tgt := 36) O dX3_print_14 (by decide) (by omega) (by omega) (fun h_14 => ?_) (fun h_14 => ?_)
    · obtain rfl : a = N.1 := by omega
      exact v_lv [0, 1] rfl kx
    · refine v_ldc2 O q1863 dX3_print_17 ?_
      refine v_lload_n O dX3_print_20 rfl 1 rfl ?_
      refine v_lmul (z := (31 * (prA N a))) O dX3_print_21 rfl ?_
      refine v_aload_n O dX3_print_22 rfl 0 rfl ?_
      refine v_iload_n O dX3_print_23 rfl 2 rfl ?_
      refine v_callV (as := [.int (nI a)]) (rest := [.long (31 * (prA N a))]) O (c_X3_mate hG hR hE (by first | omega | exact hn) (a := a) (by omega)) q1705 q1707 qs50 q77 q1708 hR.ob (show vcl[2]? = some (RX3, TX3, 27) from rfl) rfl mdX3_mate rfl (by decide) (by omega) (by omega) (by omega) (Nat.le_of_ble_eq_true rfl) rfl dX3_print_24 (fun v9 σ9 hp9 => ?_) (fun _ _ _ h => False.elim h)
      obtain ⟨rfl, hs9⟩ := hp9
      obtain rfl := hs9.symm
      refine v_i2l (z := (Int32.toInt64 (N.2.2 a))) O dX3_print_27 rfl ?_
      refine v_ladd (z := (prA N (a + 1))) O dX3_print_28 rfl ?_
      refine v_lstore_n (lv' := [(1, .long (prA N (a + 1))), (0, .ref m), (3, .int (nI a))]) O hN dX3_print_29 rfl (by decide) rfl ?_
      refine v_iinc (v := nI (a + 1)) (lv' := [(3, .int (nI (a + 1))), (1, .long (prA N (a + 1))), (0, .ref m)]) O hN dX3_print_30 2 rfl (nI_add a 1) (by decide) rfl ?_
      refine v_goto (tgt := 9) O dX3_print_33 (by decide) ?_
      refine v_lv [2, 1, 0] rfl ?_
      exact ih (a + 1) (by omega) (by omega)
theorem l_X3_print_i {G : vGC} (hG : vGok G) {X : vCX} {Q : State → Prop} {c0 n0 : Nat} (O : vOk G X yX3_print.cls cX3_print (some .long) 2 0 0) (hN : xn X = 5) (hcm0 : c0 ≤ 0) (hsm0 : n0 ≤ 0) {σ : vSt} {m : Nat} {ad : Nat → Nat} {I : Nat → Int32} {F : Nat → Nat → Int32} {L : Nat → Nat → Int64} (hR : RecAt layM σ m ad I F L) {N : NetM} (hE : Enc (F 9) N) (hn : N.1 ≤ 12) {a : Nat} {v : Int64} (ha : a < N.1) (kx : V G X Q c0 n0 σ 92 [(0, .ref m), (1, .long (prB N a v N.1)), (3, .int (nI a))] []) : ∀ (k : Nat) (b : Nat), (N.1 < b + k) → (a < b ∧ b ≤ N.1) → V G X Q c0 n0 σ 51 [(0, .ref m), (1, .long (prB N a v b)), (3, .int (nI a)), (4, .int (nI b))] [] := by
  intro k
  induction k with
  | zero => intro b h0 h1; exact absurd h0 (by omega)
  | succ k ih =>
    intro b h0 h1
    refine v_iload O dX3_print_51 3 rfl ?_
    refine v_aload_n O dX3_print_53 rfl 0 rfl ?_
    refine v_callV (as := []) (rest := [.int (nI b)]) O (c_X3_nodes hG hR hE (by first | omega | exact hn)) q1677 q1679 qs47 q77 q1680 hR.ob (show vcl[2]? = some (RX3, TX3, 27) from rfl) rfl mdX3_nodes rfl (by decide) (by omega) (by omega) (by omega) (Nat.le_of_ble_eq_true rfl) rfl dX3_print_54 (fun v9 σ9 hp9 => ?_) (fun _ _ _ h => False.elim h)
    obtain ⟨rfl, hs9⟩ := hp9
    obtain rfl := hs9.symm
    refine v_icmp_geN (tgt := 92) O dX3_print_57 (by decide) (by omega) (by omega) (fun h_57 => ?_) (fun h_57 => ?_)
    · refine v_lv [0, 1, 2] rfl ?_
      obtain rfl : b = N.1 := by omega
      exact kx
    · refine v_aload_n O dX3_print_60 rfl 0 rfl ?_
      refine v_iload_n O dX3_print_61 rfl 2 rfl ?_
      refine v_iload O dX3_print_62 3 rfl ?_
      refine v_callV (as := [.int (nI a), .int (nI b)]) (rest := []) O (c_X3_weight hG hR hE (by first | omega | exact hn) (a := a) (b := b) (by omega) (by omega)) q1681 q1683 qs48 q77 q1684 hR.ob (show vcl[2]? = some (RX3, TX3, 27) from rfl) rfl mdX3_weight rfl (by decide) (by omega) (by omega) (by omega) (Nat.le_of_ble_eq_true rfl) rfl dX3_print_64 (fun v9 σ9 hp9 => ?_) (fun _ _ _ h => False.elim h)
      obtain ⟨rfl, hs9⟩ := hp9
      obtain rfl := hs9.symm
      refine v_iconst (v := (-1)) O dX3_print_67 (by decide) ?_
      refine v_icmp_eq (tgt := 86) O dX3_print_68 (by decide) (fun h_68 => ?_) (fun h_68 => ?_)
      · rw [show prB N a v b = prB N a v (b + 1) from by rw [prB, if_neg (by simp [ln, h_68])]]
        refine v_iinc (v := nI (b + 1)) (lv' := [(4, .int (nI (b + 1))), (0, .ref m), (1, .long (prB N a v (b + 1))), (3, .int (nI a))]) O hN dX3_print_86 3 rfl (nI_add b 1) (by decide) rfl ?_
        refine v_goto (tgt := 51) O dX3_print_89 (by decide) ?_
        refine v_lv [1, 2, 3, 0] rfl ?_
        exact ih (b + 1) (by omega) (by omega)
      · refine v_ldc2 O q1863 dX3_print_71 ?_
        refine v_lload_n O dX3_print_74 rfl 1 rfl ?_
        refine v_lmul (z := (31 * (prB N a v b))) O dX3_print_75 rfl ?_
        refine v_aload_n O dX3_print_76 rfl 0 rfl ?_
        refine v_iload_n O dX3_print_77 rfl 2 rfl ?_
        refine v_iload O dX3_print_78 3 rfl ?_
        refine v_callV (as := [.int (nI a), .int (nI b)]) (rest := [.long (31 * (prB N a v b))]) O (c_X3_weight hG hR hE (by first | omega | exact hn) (a := a) (b := b) (by omega) (by omega)) q1681 q1683 qs48 q77 q1684 hR.ob (show vcl[2]? = some (RX3, TX3, 27) from rfl) rfl mdX3_weight rfl (by decide) (by omega) (by omega) (by omega) (Nat.le_of_ble_eq_true rfl) rfl dX3_print_80 (fun v9 σ9 hp9 => ?_) (fun _ _ _ h => False.elim h)
        obtain ⟨rfl, hs9⟩ := hp9
        obtain rfl := hs9.symm
        refine v_i2l (z := (Int32.toInt64 (N.2.1 a b))) O dX3_print_83 rfl ?_
        refine v_ladd (z := (prB N a v (b + 1))) O dX3_print_84 (by rw [prB, if_pos ⟨h1.1, decide_eq_true h_68⟩]) ?_
        refine v_lstore_n (lv' := [(1, .long (prB N a v (b + 1))), (0, .ref m), (3, .int (nI a)), (4, .int (nI b))]) O hN dX3_print_85 rfl (by decide) rfl ?_
        refine v_iinc (v := nI (b + 1)) (lv' := [(4, .int (nI (b + 1))), (1, .long (prB N a v (b + 1))), (0, .ref m), (3, .int (nI a))]) O hN dX3_print_86 3 rfl (nI_add b 1) (by decide) rfl ?_
        refine v_goto (tgt := 51) O dX3_print_89 (by decide) ?_
        refine v_lv [2, 1, 3, 0] rfl ?_
        exact ih (b + 1) (by omega) (by omega)
theorem l_X3_print {G : vGC} (hG : vGok G) {X : vCX} {Q : State → Prop} {c0 n0 : Nat} (O : vOk G X yX3_print.cls cX3_print (some .long) 2 0 0) (hN : xn X = 5) (hcm0 : c0 ≤ 0) (hsm0 : n0 ≤ 0) {σ : vSt} {m : Nat} {ad : Nat → Nat} {I : Nat → Int32} {F : Nat → Nat → Int32} {L : Nat → Nat → Int64} (hR : RecAt layM σ m ad I F L) {N : NetM} (hE : Enc (F 9) N) (hn : N.1 ≤ 12) (kx : V G X Q c0 n0 σ 98 [(0, .ref m), (1, .long (prC N N.1))] []) : ∀ (k : Nat) (a : Nat), (N.1 < a + k) → (a ≤ N.1) → V G X Q c0 n0 σ 38 [(0, .ref m), (1, .long (prC N a)), (3, .int (nI a))] [] := by
  intro k
  induction k with
  | zero => intro a h0 h1; exact absurd h0 (by omega)
  | succ k ih =>
    intro a h0 h1
    refine v_iload_n O dX3_print_38 rfl 2 rfl ?_
    refine v_aload_n O dX3_print_39 rfl 0 rfl ?_
    refine v_callV (as := []) (rest := [.int (nI a)]) O (c_X3_nodes hG hR hE (by first | omega | exact hn)) q1677 q1679 qs47 q77 q1680 hR.ob (show vcl[2]? = some (RX3, TX3, 27) from rfl) rfl mdX3_nodes rfl (by decide) (by omega) (by omega) (by omega) (Nat.le_of_ble_eq_true rfl) rfl dX3_print_40 (fun v9 σ9 hp9 => ?_) (fun _ _ _ h => False.elim h)
    obtain ⟨rfl, hs9⟩ := hp9
    obtain rfl := hs9.symm
    refine v_icmp_geN (tgt := 98) O dX3_print_43 (by decide) (by omega) (by omega) (fun h_43 => ?_) (fun h_43 => ?_)
    · obtain rfl : a = N.1 := by omega
      exact v_lv [0, 1] rfl kx
    · refine v_iload_n O dX3_print_46 rfl 2 rfl ?_
      refine v_iconst (v := nI 1) O dX3_print_47 (by decide) ?_
      refine v_iadd (z := nI (a + 1)) O dX3_print_48 (nI_add a 1) ?_
      refine v_istore (lv' := [(4, .int (nI (a + 1))), (0, .ref m), (1, .long (prC N a)), (3, .int (nI a))]) O hN dX3_print_49 (by decide) rfl ?_
      refine v_lv [1, 2, 3, 0] rfl ?_
      rw [show prC N a = prB N a (prC N a) (a + 1) from (prB_low _ (by omega)).symm]
      refine l_X3_print_i hG O hN hcm0 hsm0 hR hE hn (a := a) (v := prC N a) (by omega) ?_ N.1 (a + 1) (by omega) (by omega)
      refine v_iinc (v := nI (a + 1)) (lv' := [(3, .int (nI (a + 1))), (0, .ref m), (1, .long (prC N (a + 1)))]) O hN dX3_print_92 2 rfl (nI_add a 1) (by decide) rfl ?_
      refine v_goto (tgt := 38) O dX3_print_95 (by decide) ?_
      refine v_lv [1, 2, 0] rfl ?_
      exact ih (a + 1) (by omega) (by omega)
theorem c_X3_print {G : vGC} (hG : vGok G) {σ : vSt} {m : Nat} {S : SysM} {t0 : Nat} (hA : ModAt σ m S t0) (hS : okS S) : Ct G yX3_print (ws_ yX3_print cX3_print 5 (some .long)) 2 0 0 σ [.ref m] (fun v σ9 => v = some (.long (opPrint S)) ∧ ModAt σ9 m S 0 ∧ FrL [m] σ σ9) vNo := by
  refine ct_of hG (by decide) (Nat.le_of_ble_eq_true rfl) fun X hN O hnm htb => ?_
  show V G X _ 0 0 σ 0 [(0, .ref m)] []
  obtain ⟨ad, I, F, L, hR, hM⟩ := id hA
  have hd := okS.d S hS
  have hn1 : 1 ≤ (sN S).1 := hd.1
  have hn : (sN S).1 ≤ 12 := hd.2.1
  refine v_aload_n O dX3_print_0 rfl 0 rfl ?_
  refine v_iconst (v := nI 0) O dX3_print_1 (by decide) ?_
  refine r_puti (K := layM) (I' := (va_up I 0 (nI 0))) (ty0 := tyX3) O hR in_X3 tyX3_ok nmX3 (show vcl[2]? = some (RX3, TX3, 27) from rfl) 0 (by decide) rfl q1492 rfl (tyX3_ok 0 (by decide)) rfl rfl (Nat.le_of_ble_eq_true rfl) rfl dX3_print_2 (fun σ1 hR1 hf1 => ?_)
  refine v_lconst (v := 0) O dX3_print_5 (by decide) ?_
  refine v_lstore_n (lv' := [(1, .long 0), (0, .ref m)]) O hN dX3_print_6 rfl (by decide) rfl ?_
  refine v_iconst (v := nI 0) O dX3_print_7 (by decide) ?_
  refine v_istore_n (lv' := [(3, .int (nI 0)), (1, .long 0), (0, .ref m)]) O hN dX3_print_8 rfl (by decide) rfl ?_
  refine v_lv [2, 1, 0] rfl ?_
  refine l_X3_print_a hG O hN (by omega) (by omega) hR1 (hM.thr 0).e9 hn ?_ ((sN S).1 + 1) 0 (by omega) (by omega)
  refine v_iconst (v := nI 0) O dX3_print_36 (by decide) ?_
  refine v_istore_n (lv' := [(3, .int (nI 0)), (0, .ref m), (1, .long (prA (sN S) (sN S).1))]) O hN dX3_print_37 rfl (by decide) rfl ?_
  refine v_lv [1, 2, 0] rfl ?_
  refine l_X3_print hG O hN (by omega) (by omega) hR1 (hM.thr 0).e9 hn ?_ ((sN S).1 + 1) 0 (by omega) (by omega)
  refine v_lload_n O dX3_print_98 rfl 1 rfl ?_
  exact v_lret O rfl dX3_print_99 (by omega) (by omega) ⟨rfl, ⟨ad, _, _, _, hR1, (hM.thr 0)⟩, hf1⟩
