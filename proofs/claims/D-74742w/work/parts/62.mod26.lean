def prsR (M : NetM) : List (Nat × Nat) → Option NetM
  | [] => some M
  | q :: l => if M.2.1 q.1 q.2 = -1 ∨ M.2.2 q.1 ≠ -1 ∨ M.2.2 q.2 ≠ -1 then none else prsR (setM M q.1 q.2) l
def PrIs (f : Nat → Int32) (ps : List (Nat × Nat)) : Prop := ∀ i, i < ps.length → f (2 * i) = nI (ps.getD i (0, 0)).1 ∧ f (2 * i + 1) = nI (ps.getD i (0, 0)).2
theorem Enc.ofe {f f' : Nat → Int32} {M : NetM} (h : Enc f M) (e : f' = f) : Enc f' M := e ▸ h
theorem drop_getD {ps : List (Nat × Nat)} {i : Nat} (h : i < ps.length) : ps.drop i = ps.getD i (0, 0) :: ps.drop (i + 1) := by
  rw [List.drop_eq_getElem_cons h, List.getD_eq_getElem?_getD, List.getElem?_eq_getElem h]
  rfl
theorem l_X3_arePairs {G : vGC} (hG : vGok G) {X : vCX} {Q : State → Prop} {c0 n0 : Nat} (O : vOk G X yX3_arePairs.cls cX3_arePairs (some .boolean) 2 0 0) (hN : xn X = 4) (hcm0 : c0 ≤ 0) (hsm0 : n0 ≤ 0) {σ0 : vSt} {m : Nat} {ad : Nat → Nat} {I : Nat → Int32} {F : Nat → Nat → Int32} {L : Nat → Nat → Int64} {nn : Nat} (hnn : nn ≤ 12) {ps : List (Nat × Nat)} (hps : ps.length ≤ 250) (h14 : I 14 = nI (2 * ps.length)) (hP0 : PrIs (F 13) ps) (hin : ∀ q ∈ ps, q.1 < nn ∧ q.2 < nn) {r0 : Option NetM} (kx : r0 = none → ∀ (σ : vSt) (F' : Nat → Nat → Int32), RecAt layM σ m ad I F' L → FrL [m] σ0 σ → (∀ j, j ≠ 10 → F' j = F j) → V G X Q c0 n0 σ 68 [(0, .ref m)] []) (kt : ∀ M, r0 = some M → ∀ (σ : vSt) (F' : Nat → Nat → Int32), RecAt layM σ m ad I F' L → FrL [m] σ0 σ → (∀ j, j ≠ 10 → F' j = F j) → Enc (F' 10) M → V G X Q c0 n0 σ 94 [(0, .ref m)] []) : ∀ (k : Nat) (i : Nat) (σ : vSt) (F' : Nat → Nat → Int32) (M : NetM), (ps.length < i + k) → (i ≤ ps.length) → (RecAt layM σ m ad I F' L) → (FrL [m] σ0 σ) → (∀ j, j ≠ 10 → F' j = F j) → (Enc (F' 10) M) → (M.1 = nn) → (prsR M (ps.drop i) = r0) → V G X Q c0 n0 σ 2 [(0, .ref m), (1, .int (nI (2 * i)))] [] := by
  intro k
  induction k with
  | zero => intro i σ F' M h0 h1 hR hf ho hE hM1 h2; exact absurd h0 (by omega)
  | succ k ih =>
    intro i σ F' M h0 h1 hR hf ho hE hM1 h2
    refine v_iload_n O dX3_arePairs_2 rfl 1 rfl ?_
    refine v_aload_n O dX3_arePairs_3 rfl 0 rfl ?_
    refine v_getf (C := RX3) (T := TX3) (N := 27) (v := .int (nI (2 * ps.length))) O in_X3 hR.ob rfl 14 (by decide) rfl q1506 (congrArg (fun z => some (Value.int z)) h14) dX3_arePairs_4 ?_
    refine v_icmp_geN (tgt := 94) O dX3_arePairs_7 (by decide) (by omega) (by omega) (fun h_7 => ?_) (fun h_7 => ?_)
    · obtain rfl : i = ps.length := by omega
      rw [List.drop_length] at h2
      exact v_lv [0] rfl (kt M h2.symm σ F' hR hf ho hE)
    · have hi : i < ps.length := by omega
      have hpi := hP0 i hi
      have hmem : ps.getD i (0, 0) ∈ ps := by rw [List.getD_eq_getElem?_getD, List.getElem?_eq_getElem hi]; exact List.getElem_mem hi
      obtain ⟨ha, hb⟩ := hin _ hmem
      refine v_aload_n O dX3_arePairs_10 rfl 0 rfl ?_
      refine v_getf (C := RX3) (T := TX3) (N := 27) (v := .ref (ad 13)) O in_X3 hR.ob rfl 13 (by decide) rfl q1505 rfl dX3_arePairs_11 ?_
      refine v_iload_n O dX3_arePairs_14 rfl 1 rfl ?_
      refine v_iald (f := F' 13) O (hR.ar 13 rfl) (by omega) (by omega) dX3_arePairs_15 ?_
      refine v_top (y := nI ((ps.getD i (0, 0)).1)) (by rw [ho 13 (by omega)]; exact hpi.1) ?_
      refine v_istore_n (lv' := [(2, .int (nI ((ps.getD i (0, 0)).1))), (0, .ref m), (1, .int (nI (2 * i)))]) O hN dX3_arePairs_16 rfl (by decide) rfl ?_
      refine v_aload_n O dX3_arePairs_17 rfl 1 rfl ?_
      refine v_getf (C := RX3) (T := TX3) (N := 27) (v := .ref (ad 13)) O in_X3 hR.ob rfl 13 (by decide) rfl q1505 rfl dX3_arePairs_18 ?_
      refine v_iload_n O dX3_arePairs_21 rfl 2 rfl ?_
      refine v_iconst (v := nI 1) O dX3_arePairs_22 (by decide) ?_
      refine v_iadd (z := nI ((2 * i) + 1)) O dX3_arePairs_23 (nI_add (2 * i) 1) ?_
      refine v_iald (f := F' 13) O (hR.ar 13 rfl) (by omega) (by omega) dX3_arePairs_24 ?_
      refine v_top (y := nI ((ps.getD i (0, 0)).2)) (by rw [ho 13 (by omega)]; exact hpi.2) ?_
      refine v_istore_n (lv' := [(3, .int (nI ((ps.getD i (0, 0)).2))), (2, .int (nI ((ps.getD i (0, 0)).1))), (0, .ref m), (1, .int (nI (2 * i)))]) O hN dX3_arePairs_25 rfl (by decide) rfl ?_
      refine v_aload_n O dX3_arePairs_26 rfl 2 rfl ?_
      refine v_getf (C := RX3) (T := TX3) (N := 27) (v := .ref (ad 10)) O in_X3 hR.ob rfl 10 (by decide) rfl q1502 rfl dX3_arePairs_27 ?_
      refine v_bipush (v := nI 13) O dX3_arePairs_30 (by decide) ?_
      refine v_bipush (v := nI 12) O dX3_arePairs_32 (by decide) ?_
      refine v_iload_n O dX3_arePairs_34 rfl 1 rfl ?_
      refine v_imul (z := nI (12 * ((ps.getD i (0, 0)).1))) O dX3_arePairs_35 (pk_mul 12 ((ps.getD i (0, 0)).1)) ?_
      refine v_iadd (z := nI (13 + (12 * ((ps.getD i (0, 0)).1)))) O dX3_arePairs_36 (nI_add 13 (12 * ((ps.getD i (0, 0)).1))) ?_
      refine v_iload_n O dX3_arePairs_37 rfl 0 rfl ?_
      refine v_iadd (z := nI ((13 + (12 * ((ps.getD i (0, 0)).1))) + ((ps.getD i (0, 0)).2))) O dX3_arePairs_38 (nI_add (13 + (12 * ((ps.getD i (0, 0)).1))) ((ps.getD i (0, 0)).2)) ?_
      refine v_iald (f := F' 10) O (hR.ar 10 rfl) (by omega) (by omega) dX3_arePairs_39 ?_
      refine v_top (y := (M.2.1 (ps.getD i (0, 0)).1 (ps.getD i (0, 0)).2)) (hE.2.2 _ _ (by omega) (by omega)) ?_
      refine v_iconst (v := (-1)) O dX3_arePairs_40 (by decide) ?_
      refine v_icmp_eq (tgt := 68) O dX3_arePairs_41 (by decide) (fun h_41 => ?_) (fun h_41 => ?_)
      · rw [drop_getD hi, prsR, if_pos (Or.inl h_41)] at h2
        exact v_lv [2] rfl (kx h2.symm σ F' hR hf ho)
      · refine v_aload_n O dX3_arePairs_44 rfl 2 rfl ?_
        refine v_getf (C := RX3) (T := TX3) (N := 27) (v := .ref (ad 10)) O in_X3 hR.ob rfl 10 (by decide) rfl q1502 rfl dX3_arePairs_45 ?_
        refine v_iconst (v := nI 1) O dX3_arePairs_48 (by decide) ?_
        refine v_iload_n O dX3_arePairs_49 rfl 1 rfl ?_
        refine v_iadd (z := nI (1 + ((ps.getD i (0, 0)).1))) O dX3_arePairs_50 (nI_add 1 ((ps.getD i (0, 0)).1)) ?_
        refine v_iald (f := F' 10) O (hR.ar 10 rfl) (by omega) (by omega) dX3_arePairs_51 ?_
        refine v_top (y := (M.2.2 (ps.getD i (0, 0)).1)) (hE.2.1 _ (by omega)) ?_
        refine v_iconst (v := (-1)) O dX3_arePairs_52 (by decide) ?_
        refine v_icmp_ne (tgt := 68) O dX3_arePairs_53 (by decide) (fun h_53 => ?_) (fun h_53 => ?_)
        · rw [drop_getD hi, prsR, if_pos (Or.inr (Or.inl h_53))] at h2
          exact v_lv [2] rfl (kx h2.symm σ F' hR hf ho)
        · refine v_aload_n O dX3_arePairs_56 rfl 2 rfl ?_
          refine v_getf (C := RX3) (T := TX3) (N := 27) (v := .ref (ad 10)) O in_X3 hR.ob rfl 10 (by decide) rfl q1502 rfl dX3_arePairs_57 ?_
          refine v_iconst (v := nI 1) O dX3_arePairs_60 (by decide) ?_
          refine v_iload_n O dX3_arePairs_61 rfl 0 rfl ?_
          refine v_iadd (z := nI (1 + ((ps.getD i (0, 0)).2))) O dX3_arePairs_62 (nI_add 1 ((ps.getD i (0, 0)).2)) ?_
          refine v_iald (f := F' 10) O (hR.ar 10 rfl) (by omega) (by omega) dX3_arePairs_63 ?_
          refine v_top (y := (M.2.2 (ps.getD i (0, 0)).2)) (hE.2.1 _ (by omega)) ?_
          refine v_iconst (v := (-1)) O dX3_arePairs_64 (by decide) ?_
          refine v_icmp_eq (tgt := 70) O dX3_arePairs_65 (by decide) (fun h_65 => ?_) (fun h_65 => ?_)
          · refine v_aload_n O dX3_arePairs_70 rfl 2 rfl ?_
            refine v_getf (C := RX3) (T := TX3) (N := 27) (v := .ref (ad 10)) O in_X3 hR.ob rfl 10 (by decide) rfl q1502 rfl dX3_arePairs_71 ?_
            refine v_iconst (v := nI 1) O dX3_arePairs_74 (by decide) ?_
            refine v_iload_n O dX3_arePairs_75 rfl 1 rfl ?_
            refine v_iadd (z := nI (1 + ((ps.getD i (0, 0)).1))) O dX3_arePairs_76 (nI_add 1 ((ps.getD i (0, 0)).1)) ?_
            refine v_iload_n O dX3_arePairs_77 rfl 0 rfl ?_
            refine r_iast (K := layM) O hR 10 rfl (by omega) (by omega) dX3_arePairs_78 (fun σ1 hR1 hf1 => ?_)
            refine v_aload_n O dX3_arePairs_79 rfl 2 rfl ?_
            refine v_getf (C := RX3) (T := TX3) (N := 27) (v := .ref (ad 10)) O in_X3 hR1.ob rfl 10 (by decide) rfl q1502 rfl dX3_arePairs_80 ?_
            refine v_iconst (v := nI 1) O dX3_arePairs_83 (by decide) ?_
            refine v_iload_n O dX3_arePairs_84 rfl 0 rfl ?_
            refine v_iadd (z := nI (1 + ((ps.getD i (0, 0)).2))) O dX3_arePairs_85 (nI_add 1 ((ps.getD i (0, 0)).2)) ?_
            refine v_iload_n O dX3_arePairs_86 rfl 1 rfl ?_
            refine r_iast (K := layM) O hR1 10 rfl (by omega) (by omega) dX3_arePairs_87 (fun σ2 hR2 hf2 => ?_)
            refine v_iinc (v := nI (2 * (i + 1))) (lv' := [(1, .int (nI (2 * (i + 1)))), (3, .int (nI ((ps.getD i (0, 0)).2))), (2, .int (nI ((ps.getD i (0, 0)).1))), (0, .ref m)]) O hN dX3_arePairs_88 3 rfl (nI_add (2 * i) 2) (by decide) rfl ?_
            refine v_goto (tgt := 2) O dX3_arePairs_91 (by decide) ?_
            refine v_lv [3, 0] rfl ?_
            exact ih (i + 1) _ _ (setM M (ps.getD i (0, 0)).1 (ps.getD i (0, 0)).2) (by omega) (by omega) hR2 (hf.trans (hf1.trans hf2)) (fun j hj => by rw [← ho j hj]; funext z; simp [va_up, hj]) (Enc.ofe (hE.mates (x := nI (ps.getD i (0, 0)).2) (y := nI (ps.getD i (0, 0)).1) (by omega) (a := (ps.getD i (0, 0)).1) (b := (ps.getD i (0, 0)).2) (by omega) (by omega)) (by funext z; simp [va_up])) hM1 (by rw [drop_getD hi, prsR, if_neg (fun h => h.elim h_41 (fun h => h.elim (fun h => h h_53) (fun h => h h_65)))] at h2; exact h2)
          · rw [drop_getD hi, prsR, if_pos (Or.inr (Or.inr h_65))] at h2
            exact v_lv [2] rfl (kx h2.symm σ F' hR hf ho)
theorem c_X3_arePairs {G : vGC} (hG : vGok G) {σ : vSt} {m : Nat} {ad : Nat → Nat} {I : Nat → Int32} {F : Nat → Nat → Int32} {L : Nat → Nat → Int64} (hR : RecAt layM σ m ad I F L) {M : NetM} (hE : Enc (F 10) M) (hM : M.1 ≤ 12) {ps : List (Nat × Nat)} (hps : ps.length ≤ 250) (h14 : I 14 = nI (2 * ps.length)) (hP0 : PrIs (F 13) ps) (hin : ∀ q ∈ ps, q.1 < M.1 ∧ q.2 < M.1) : Ct G yX3_arePairs (ws_ yX3_arePairs cX3_arePairs 4 (some .boolean)) 2 0 0 σ [.ref m] (fun v σ9 => v = some (.int (bI (prsR M ps).isSome)) ∧ ∃ F' : Nat → Nat → Int32, RecAt layM σ9 m ad I F' L ∧ FrL [m] σ σ9 ∧ (∀ j, j ≠ 10 → F' j = F j) ∧ ∀ M', prsR M ps = some M' → Enc (F' 10) M') vNo := by
  refine ct_of hG (by decide) (Nat.le_of_ble_eq_true rfl) fun X hN O hnm htb => ?_
  show V G X _ 0 0 σ 0 [(0, .ref m)] []
  refine v_iconst (v := nI 0) O dX3_arePairs_0 (by decide) ?_
  refine v_istore_n (lv' := [(1, .int (nI 0)), (0, .ref m)]) O hN dX3_arePairs_1 rfl (by decide) rfl ?_
  refine v_lv [1, 0] rfl ?_
  refine l_X3_arePairs hG O hN (by omega) (by omega) hM hps h14 hP0 hin (r0 := prsR M ps) (fun hr σ6 F6 hR6 hf6 ho6 => ?_) (fun M6 hr σ6 F6 hR6 hf6 ho6 hE6 => ?_) (ps.length + 1) 0 σ F M (by omega) (by omega) hR FrL.rf (fun _ _ => rfl) hE rfl (by rw [List.drop_zero])
  · refine v_iconst (v := nI 0) O dX3_arePairs_68 (by decide) ?_
    exact v_zret O rfl rfl dX3_arePairs_69 (by omega) (by omega) ⟨by rw [hr]; rfl, F6, hR6, hf6, ho6, fun M' h9 => by rw [hr] at h9; cases h9⟩
  · refine v_iconst (v := nI 1) O dX3_arePairs_94 (by decide) ?_
    exact v_zret O rfl rfl dX3_arePairs_95 (by omega) (by omega) ⟨by rw [hr]; rfl, F6, hR6, hf6, ho6, fun M' h9 => by rw [hr] at h9; cases h9; exact hE6⟩
