theorem rowV_get {r : List Nat} {i : Nat} (h : i < r.length) : r.reverse.drop i = rowV r i :: r.reverse.drop (i + 1) := by
  have h2 : i < r.reverse.length := by rw [List.length_reverse]; exact h
  rw [List.drop_eq_getElem_cons h2]
  congr 1
  unfold rowV
  rw [List.getD_eq_getElem?_getD, List.getElem?_eq_getElem h2]
  rfl
theorem matR_step {M : NetM} {r : List Nat} {i : Nat} (h : i + 1 < r.length) : matR M (r.reverse.drop i) = matR (setM M (rowV r i) (rowV r (i + 1))) (r.reverse.drop (i + 2)) := by
  rw [rowV_get (show i < r.length by omega), rowV_get h]
  rfl
theorem l_X3_better {G : vGC} (hG : vGok G) {X : vCX} {Q : State → Prop} {c0 n0 : Nat} (O : vOk G X yX3_better.cls cX3_better (some .int) 16 0 0) (hN : xn X = 3) (hcm0 : c0 ≤ 0) (hsm0 : n0 ≤ 0) {σ0 : vSt} {m : Nat} {ad : Nat → Nat} {I : Nat → Int32} {L : Nat → Nat → Int64} {S : SysM} {r : List Nat} {z : Nat} (h25 : I 25 = nI r.length) (hl2 : r.length ≤ 12) (hev : r.length % 2 = 0) (hrg : ∀ i ∈ r, i < (sN S).1) (hn : (sN S).1 ≤ 12) (kx : ∀ (σ : vSt) (F' : Nat → Nat → Int32), RecAt layM σ m ad I F' L → FrL [m] σ0 σ → ModIs I F' L (keepS S (matR (sN S) r.reverse)) 0 Enc → V G X Q c0 n0 σ 89 [(0, .ref m)] []) : ∀ (k : Nat) (i : Nat) (σ : vSt) (F' : Nat → Nat → Int32) (M : NetM), (r.length < i + k) → (i ≤ r.length ∧ i % 2 = 0) → (RecAt layM σ m ad I F' L) → (FrL [m] σ0 σ) → (RowIs (F' 24) r) → (ModIs I F' L (keepS S M) 0 Enc) → (M.1 = (sN S).1) → (matR M (r.reverse.drop i) = matR (sN S) r.reverse) → V G X Q c0 n0 σ 57 [(0, .ref m), (1, .int (nI z)), (2, .int (nI i))] [] := by
  intro k
  induction k with
  | zero => intro i σ F' M h0 h1 hR hf hrow hM hM1 h2; exact absurd h0 (by omega)
  | succ k ih =>
    intro i σ F' M h0 h1 hR hf hrow hM hM1 h2
    have hE : Enc (F' 9) M := hM.e9
    refine v_iload_n O dX3_better_57 rfl 2 rfl ?_
    refine v_aload_n O dX3_better_58 rfl 0 rfl ?_
    refine v_getf (C := RX3) (T := TX3) (N := 27) (v := .int (nI r.length)) O in_X3 hR.ob rfl 25 (by decide) rfl q1517 (congrArg (fun z => some (Value.int z)) h25) dX3_better_59 ?_
    refine v_icmp_geN (tgt := 89) O dX3_better_62 (by decide) (by omega) (by omega) (fun h_62 => ?_) (fun h_62 => ?_)
    · obtain rfl : i = r.length := by omega
      have e9 : M = matR (sN S) r.reverse := by
        rw [← h2, List.drop_eq_nil_of_le (by rw [List.length_reverse]; exact Nat.le_refl _)]
        rfl
      rw [e9] at hM
      exact v_lv [0] rfl (kx σ F' hR hf hM)
    · have hi1 : i + 1 < r.length := by omega
      have hva : rowV r i < M.1 := by rw [hM1]; exact hrg _ (rowV_mem (by omega))
      have hvb : rowV r (i + 1) < M.1 := by rw [hM1]; exact hrg _ (rowV_mem hi1)
      refine v_aload_n O dX3_better_65 rfl 0 rfl ?_
      refine v_aload_n O dX3_better_66 rfl 0 rfl ?_
      refine v_getf (C := RX3) (T := TX3) (N := 27) (v := .ref (ad 24)) O in_X3 hR.ob rfl 24 (by decide) rfl q1516 rfl dX3_better_67 ?_
      refine v_iload_n O dX3_better_70 rfl 2 rfl ?_
      refine v_iald (f := F' 24) O (hR.ar 24 rfl) (by omega) (by omega) dX3_better_71 ?_
      refine v_top (y := nI (rowV r i)) (hrow.get i (by omega)) ?_
      refine v_aload_n O dX3_better_72 rfl 0 rfl ?_
      refine v_getf (C := RX3) (T := TX3) (N := 27) (v := .ref (ad 24)) O in_X3 hR.ob rfl 24 (by decide) rfl q1516 rfl dX3_better_73 ?_
      refine v_iload_n O dX3_better_76 rfl 2 rfl ?_
      refine v_iconst (v := nI 1) O dX3_better_77 (by decide) ?_
      refine v_iadd (z := nI (i + 1)) O dX3_better_78 (nI_add i 1) ?_
      refine v_iald (f := F' 24) O (hR.ar 24 rfl) (by omega) (by omega) dX3_better_79 ?_
      refine v_top (y := nI (rowV r (i + 1))) (hrow.get (i + 1) (by omega)) ?_
      refine v_callV (as := [.int (nI (rowV r i)), .int (nI (rowV r (i + 1)))]) (rest := []) O (c_X3_mates hG hR hE (by first | omega | exact hn) (a := rowV r i) (b := rowV r (i + 1)) (by omega) (by omega)) q1717 q1719 qs52 q77 q1720 hR.ob (show vcl[2]? = some (RX3, TX3, 27) from rfl) rfl mdX3_mates rfl (by decide) (by omega) (by omega) (by omega) (Nat.le_of_ble_eq_true rfl) rfl dX3_better_80 (fun v9 σ2 hp9 => ?_) (fun _ _ _ h => False.elim h)
      obtain ⟨rfl, hR1, hf1⟩ := hp9
      refine v_iinc (v := nI (i + 2)) (lv' := [(2, .int (nI (i + 2))), (0, .ref m), (1, .int (nI z))]) O hN dX3_better_83 2 rfl (nI_add i 2) (by decide) rfl ?_
      refine v_goto (tgt := 57) O dX3_better_86 (by decide) ?_
      refine v_lv [1, 2, 0] rfl ?_
      exact ih (i + 2) _ _ (setM M (rowV r i) (rowV r (i + 1))) (by omega) (by omega) hR1 (hf.trans hf1) (hrow.congr (fun j _ => by simp [va_up])) (hM.nowm (hE.mates (x := nI (rowV r (i + 1))) (y := nI (rowV r i)) (by omega) (a := rowV r i) (b := rowV r (i + 1)) (by omega) (by omega)) rfl rfl) hM1 (by rw [← h2]; exact (matR_step hi1).symm)
theorem matR_ok {M : NetM} : ∀ (l : List Nat), (matR M l).1 = M.1 ∧ (matR M l).2.1 = M.2.1
  | [] => ⟨rfl, rfl⟩
  | [_] => ⟨rfl, rfl⟩
  | a :: b :: l => by
    have h := matR_ok (M := setM M a b) l
    exact ⟨h.1.trans rfl, h.2.trans rfl⟩
theorem c_X3_better {G : vGC} (hG : vGok G) {σ : vSt} {m : Nat} {S : SysM} {t0 : Nat} (hA : ModAt σ m S t0) (hS : okS S) {x : Int32} : Ct G yX3_better (ws_ yX3_better cX3_better 3 (some .int)) 16 0 0 σ [.ref m, .int x] (fun v σ9 => v = some (.int (opBetter S x).2.1) ∧ ModAt σ9 m (opBetter S x).2.2 (opBetter S x).1 ∧ FrL [m] σ σ9) vNo := by
  refine ct_of hG (by decide) (Nat.le_of_ble_eq_true rfl) fun X hN O hnm htb => ?_
  show V G X _ 0 0 σ 0 [(0, .ref m), (1, .int x)] []
  obtain ⟨ad, I, F, L, hR, hM⟩ := id hA
  have hd := okS.d S hS
  have hn1 : 1 ≤ (sN S).1 := hd.1
  have hn : (sN S).1 ≤ 12 := hd.2.1
  refine v_aload_n O dX3_better_0 rfl 0 rfl ?_
  refine v_iconst (v := nI 0) O dX3_better_1 (by decide) ?_
  refine r_puti (K := layM) (I' := (va_up I 0 (nI 0))) (ty0 := tyX3) O hR in_X3 tyX3_ok nmX3 (show vcl[2]? = some (RX3, TX3, 27) from rfl) 0 (by decide) rfl q1492 rfl (tyX3_ok 0 (by decide)) rfl rfl (Nat.le_of_ble_eq_true rfl) rfl dX3_better_2 (fun σ1 hR1 hf1 => ?_)
  refine v_aload_n O dX3_better_5 rfl 0 rfl ?_
  refine v_aload_n O dX3_better_6 rfl 0 rfl ?_
  refine v_iload_n O dX3_better_7 rfl 1 rfl ?_
  refine v_callV (as := [.int x]) (rest := [.ref m]) O (c_X3_isNode hG hR1 (hM.thr 0).e9 (by first | omega | exact hn) (x := x) (by omega)) q1697 q1699 qs49 q77 q1700 hR1.ob (show vcl[2]? = some (RX3, TX3, 27) from rfl) rfl mdX3_isNode rfl (by decide) (by omega) (by omega) (by omega) (Nat.le_of_ble_eq_true rfl) rfl dX3_better_8 (fun v9 σ9 hp9 => ?_) (fun _ _ _ h => False.elim h)
  obtain ⟨rfl, hs9⟩ := hp9
  obtain rfl := hs9.symm
  refine v_if_neB (tgt := 18) O dX3_better_11 (by decide) (fun h_11 => ?_) (fun h_11 => ?_)
  · obtain ⟨a, ha, rfl⟩ := isNd_t hn1 hn h_11
    refine v_iconst (v := nI 0) O dX3_better_18 (by decide) ?_
    refine v_iconst (v := nI 1) O dX3_better_19 (by decide) ?_
    refine v_iconst (v := nI 0) O dX3_better_20 (by decide) ?_
    refine v_callV (as := [.int (nI 0), .int (nI 1), .int (nI 0)]) (rest := []) O (c_X3_bad hG (p := false) (w := 1) (r := 0) hR1 (by omega) (by omega) rfl) q1590 q1592 qs32 q77 q1593 hR1.ob (show vcl[2]? = some (RX3, TX3, 27) from rfl) rfl mdX3_bad rfl (by decide) (by omega) (by omega) (by omega) (Nat.le_of_ble_eq_true rfl) rfl dX3_better_21 (fun v9 σ3 hp9 => ?_) (fun _ _ _ h => False.elim h)
    obtain ⟨rfl, hR2, hf2⟩ := hp9
    replace hR2 : RecAt layM σ3 m ad (va_up I 0 (nI 0)) F L := hR2
    refine v_if_neB (tgt := 49) O dX3_better_24 (by decide) (fun h_24 => ?_) (fun h_24 => ?_)
    · exact absurd h_24 (by decide)
    · refine v_aload_n O dX3_better_27 rfl 0 rfl ?_
      refine v_aload_n O dX3_better_28 rfl 0 rfl ?_
      refine v_iload_n O dX3_better_29 rfl 1 rfl ?_
      refine v_callV (as := [.int (nI a)]) (rest := [.ref m]) O (c_X3_findsPath hG hR2 (hM.thr 0).e9 hS.2.2.2.2 (a := a) ha) q1733 q1735 qs54 q77 q1736 hR2.ob (show vcl[2]? = some (RX3, TX3, 27) from rfl) rfl mdX3_findsPath rfl (by decide) (by omega) (by omega) (by omega) (Nat.le_of_ble_eq_true rfl) rfl dX3_better_30 (fun v9 σ5 hp9 => ?_) (fun _ _ _ h => False.elim h)
      obtain ⟨rfl, I4, F4, hR4, hf4, hI4, ho4, hr4⟩ := hp9
      have hM4 : ModIs I4 F4 L S 0 Enc := ((hM.thr 0)).row hI4 ho4
      have hE4 := hM4.e9
      refine v_if_neB (tgt := 40) O dX3_better_33 (by decide) (fun h_33 => ?_) (fun h_33 => ?_)
      · obtain ⟨r, hp⟩ := isSome_t h_33
        obtain ⟨h25, hrow⟩ := hr4 r hp
        obtain ⟨hl1, hl2, hl3, hrg⟩ := pathN_ok hn ha hp
        refine v_iconst (v := nI 0) O dX3_better_40 (by decide) ?_
        refine v_iconst (v := nI 2) O dX3_better_41 (by decide) ?_
        refine v_iconst (v := nI 2) O dX3_better_42 (by decide) ?_
        refine v_callV (as := [.int (nI 0), .int (nI 2), .int (nI 2)]) (rest := []) O (c_X3_bad hG (p := false) (w := 2) (r := 2) hR4 (by omega) (by omega) hM4.1) q1590 q1592 qs32 q77 q1593 hR4.ob (show vcl[2]? = some (RX3, TX3, 27) from rfl) rfl mdX3_bad rfl (by decide) (by omega) (by omega) (by omega) (Nat.le_of_ble_eq_true rfl) rfl dX3_better_43 (fun v9 σ7 hp9 => ?_) (fun _ _ _ h => False.elim h)
        obtain ⟨rfl, hR6, hf6⟩ := hp9
        replace hR6 : RecAt layM σ7 m ad I4 F4 L := hR6
        refine v_if_eqB (tgt := 51) O dX3_better_46 (by decide) (fun h_46 => ?_) (fun h_46 => ?_)
        · refine v_aload_n O dX3_better_51 rfl 0 rfl ?_
          refine v_callV (as := []) (rest := []) O (c_X3_remembers hG hR6 hM4 hd.2.2.1 hd.2.1 hd.2.2.2) q1666 q1668 qs45 q77 q1669 hR6.ob (show vcl[2]? = some (RX3, TX3, 27) from rfl) rfl mdX3_remembers rfl (by decide) (by omega) (by omega) (by omega) (Nat.le_of_ble_eq_true rfl) rfl dX3_better_52 (fun v9 σ9 hp9 => ?_) (fun _ _ _ h => False.elim h)
          obtain ⟨rfl, I8, F8, hR8, hM8, hF8, hf8, hK8⟩ := hp9
          have hE8 : Enc (F8 9) (sN S) := hM8.e9
          refine v_iconst (v := nI 0) O dX3_better_55 (by decide) ?_
          refine v_istore_n (lv' := [(2, .int (nI 0)), (0, .ref m), (1, .int (nI a))]) O hN dX3_better_56 rfl (by decide) rfl ?_
          refine v_lv [1, 2, 0] rfl ?_
          have hK25 : I8 25 = nI r.length := by rw [hK8 25 (by omega)]; exact h25
          have hrow2 : RowIs (F8 24) r := hrow.congr (fun j _ => by rw [hF8 24 (by omega)])
          refine l_X3_better hG O hN (by omega) (by omega) (S := S) hK25 (by omega) hl3 hrg.1 hn (fun σZ FZ hRZ hfZ hMZ => ?_) (r.length + 1) 0 _ _ (sN S) (by omega) (by omega) hR8 FrL.rf hrow2 hM8 rfl (by rw [List.drop_zero])
          have hNZ := (matR_ok (M := sN S) r.reverse).1
          have hEZ := hMZ.e9
          have hnZ : (sN (keepS S (matR (sN S) r.reverse))).1 ≤ 12 := by rw [show (sN (keepS S (matR (sN S) r.reverse))).1 = (sN S).1 from hNZ]; exact hn
          refine v_aload_n O dX3_better_89 rfl 0 rfl ?_
          refine v_callV (as := []) (rest := []) O (c_X3_pairsNow hG hRZ hEZ hnZ) q1721 q1723 qs53 q77 q1724 hRZ.ob (show vcl[2]? = some (RX3, TX3, 27) from rfl) rfl mdX3_pairsNow rfl (by decide) (by omega) (by omega) (by omega) (Nat.le_of_ble_eq_true rfl) rfl dX3_better_90 (fun v9 σ9 hp9 => ?_) (fun _ _ _ h => False.elim h)
          obtain ⟨rfl, hs9⟩ := hp9
          obtain rfl := hs9.symm
          exact v_iret O rfl dX3_better_93 (by omega) (by omega) (by rw [show opBetter S (nI a) = (0, nI (pairsM (matR (sN S) r.reverse)), keepS S (matR (sN S) r.reverse)) from by rw [opBetter, if_neg (by rw [h_11]; decide), show cl (nI a) = a from nI_clamp (by omega), hp]]; exact ⟨rfl, ⟨ad, _, _, _, hRZ, hMZ⟩, (((((hf1.trans hf2).trans hf4).trans hf6).trans hf8).trans hfZ)⟩)
        · exact absurd h_46 (by decide)
      · refine v_iconst (v := nI 1) O dX3_better_36 (by decide) ?_
        refine v_goto (tgt := 41) O dX3_better_37 (by decide) ?_
        refine v_iconst (v := nI 2) O dX3_better_41 (by decide) ?_
        refine v_iconst (v := nI 2) O dX3_better_42 (by decide) ?_
        refine v_callV (as := [.int (nI 1), .int (nI 2), .int (nI 2)]) (rest := []) O (c_X3_bad hG (p := true) (w := 2) (r := 2) hR4 (by omega) (by omega) hM4.1) q1590 q1592 qs32 q77 q1593 hR4.ob (show vcl[2]? = some (RX3, TX3, 27) from rfl) rfl mdX3_bad rfl (by decide) (by omega) (by omega) (by omega) (Nat.le_of_ble_eq_true rfl) rfl dX3_better_43 (fun v9 σ11 hp9 => ?_) (fun _ _ _ h => False.elim h)
        obtain ⟨rfl, hR10, hf10⟩ := hp9
        replace hR10 : RecAt layM σ11 m ad (va_up I4 0 (nI 2)) (va_up F4 1 (va_up (F4 1) 2 ((F4 1) 2 + nI 1))) L := hR10
        refine v_if_eqB (tgt := 51) O dX3_better_46 (by decide) (fun h_46 => ?_) (fun h_46 => ?_)
        · exact absurd h_46 (by decide)
        · refine v_iconst (v := nI 0) O dX3_better_49 (by decide) ?_
          exact v_iret O rfl dX3_better_50 (by omega) (by omega) (by rw [show opBetter S (nI a) = (2, nI 0, refS S 2) from by rw [opBetter, if_neg (by rw [h_11]; decide), show cl (nI a) = a from nI_clamp (by omega), isSome_f h_33]]; exact ⟨rfl, ⟨ad, _, _, _, hR10, ((hM4.rf (r := 2) (by omega)).thr 2)⟩, (((hf1.trans hf2).trans hf4).trans hf10)⟩)
  · refine v_iconst (v := nI 1) O dX3_better_14 (by decide) ?_
    refine v_goto (tgt := 19) O dX3_better_15 (by decide) ?_
    refine v_iconst (v := nI 1) O dX3_better_19 (by decide) ?_
    refine v_iconst (v := nI 0) O dX3_better_20 (by decide) ?_
    refine v_callV (as := [.int (nI 1), .int (nI 1), .int (nI 0)]) (rest := []) O (c_X3_bad hG (p := true) (w := 1) (r := 0) hR1 (by omega) (by omega) rfl) q1590 q1592 qs32 q77 q1593 hR1.ob (show vcl[2]? = some (RX3, TX3, 27) from rfl) rfl mdX3_bad rfl (by decide) (by omega) (by omega) (by omega) (Nat.le_of_ble_eq_true rfl) rfl dX3_better_21 (fun v9 σ13 hp9 => ?_) (fun _ _ _ h => False.elim h)
    obtain ⟨rfl, hR12, hf12⟩ := hp9
    replace hR12 : RecAt layM σ13 m ad (va_up (va_up I 0 (nI 0)) 0 (nI 1)) (va_up F 1 (va_up (F 1) 0 ((F 1) 0 + nI 1))) L := hR12
    refine v_if_neB (tgt := 49) O dX3_better_24 (by decide) (fun h_24 => ?_) (fun h_24 => ?_)
    · refine v_iconst (v := nI 0) O dX3_better_49 (by decide) ?_
      exact v_iret O rfl dX3_better_50 (by omega) (by omega) (by rw [show opBetter S x = (1, nI 0, refS S 0) from by rw [opBetter, if_pos h_11]]; exact ⟨rfl, ⟨ad, _, _, _, hR12, (((hM.thr 0).rf (r := 0) (by omega)).thr 1)⟩, (hf1.trans hf12)⟩)
    · exact absurd h_24 (by decide)
