theorem s_X6_labelsFrom {G : vGC} (hG : vGok G) {k9 : Nat} (hrec : LfrC G k9) {σ : vSt} {w : Nat} {ad : Nat → Nat} {I : Nat → Int32} {F : Nat → Nat → Int32} {L : Nat → Nat → Int64} (hR : RecAt layW σ w ad I F L) {N : NetM} (hOk : okN N) (hNt : NetAt σ (ad 0) N) (hne : ad 0 ≠ w) {a : Nat} {l : List Nat} {f E U : Nat} (hg : RgL N (a :: l)) (hl : (a :: l).length % 2 = 1) (hf : f + (a :: l).length = 14) (h3 : I 3 = nI E) (h4 : I 4 = nI U) (hk9 : 12 < (a :: l).length + 2 * (k9 + 1)) : Ct G yX6_labelsFrom (ws_ yX6_labelsFrom cX6_labelsFrom 5 none) (2 + (k9 + 1)) 0 0 σ [.ref w, .int (nI a), .int (nI (msk (a :: l)))] (fun v σ9 => v = none ∧ ∃ I' : Nat → Int32, RecAt layW σ9 w ad I' F L ∧ FrL [w] σ σ9 ∧ I' 3 = nI (E ||| (labF N f (a :: l)).1) ∧ I' 4 = nI (U ||| (labF N f (a :: l)).2) ∧ ∀ j, j ≠ 3 → j ≠ 4 → I' j = I j) vNo := by
  refine ct_of hG (by decide) (Nat.le_of_ble_eq_true rfl) fun X hN O hnm htb => ?_
  show V G X _ 0 0 σ 0 [(0, .ref w), (1, .int (nI a)), (2, .int (nI (msk (a :: l))))] []
  obtain ⟨wa, ma, hob⟩ := hNt.ob
  have hn := hOk.2.1
  obtain ⟨hm12, hl12⟩ := hg.lt hn
  have haN := hg.1 a (List.mem_cons_self ..)
  obtain ⟨f0, rfl⟩ : ∃ f0, f = f0 + 2 := ⟨f - 2, by omega⟩
  refine v_aload_n O dX6_labelsFrom_0 rfl 0 rfl ?_
  refine v_dup O dX6_labelsFrom_1 rfl ?_
  refine v_getf (C := RX6) (T := TX6) (N := 5) (v := .int (nI E)) O in_X6 hR.ob rfl 3 (by decide) rfl q1218 (congrArg (fun z => some (Value.int z)) h3) dX6_labelsFrom_2 ?_
  refine v_iconst (v := nI 1) O dX6_labelsFrom_5 (by decide) ?_
  refine v_iload_n O dX6_labelsFrom_6 rfl 1 rfl ?_
  refine v_ishl (z := nI (2 ^ a)) O dX6_labelsFrom_7 (bx_shl1 (by omega)) ?_
  refine v_ior (z := nI (E ||| (2 ^ a))) O dX6_labelsFrom_8 (bx_or E (2 ^ a)) ?_
  refine r_puti (K := layW) (I' := (va_up I 3 (nI (E ||| (2 ^ a))))) (ty0 := tyX6) O hR in_X6 tyX6_ok nmX6 (show vcl[5]? = some (RX6, TX6, 5) from rfl) 3 (by decide) rfl q1218 rfl (tyX6_ok 3 (by decide)) rfl rfl (Nat.le_of_ble_eq_true rfl) rfl dX6_labelsFrom_9 (fun σ1 hR1 hf1 => ?_)
  have hN_2 := hNt.fr hf1 (by simp [hne])
  obtain ⟨wa2, ma2, hob2⟩ := hN_2.ob
  refine v_iconst (v := nI 0) O dX6_labelsFrom_12 (by decide) ?_
  refine v_istore_n (lv' := [(3, .int (nI 0)), (0, .ref w), (1, .int (nI a)), (2, .int (nI (msk (a :: l))))]) O hN dX6_labelsFrom_13 rfl (by decide) rfl ?_
  refine v_lv [1, 2, 3, 0] rfl ?_
  refine l_X6_labelsFrom hG O hN (by omega) (by omega) (σ0 := σ1) (I := I) hOk hne (f := f0) (E := E) (U := U) hg hl hf hrec hk9 (fun σZ IZ hRZ hfZ hIZ hZ3 hZ4 => ?_) (N.1 + 1) 0 _ _ (by omega) (by omega) hR1 FrL.rf (fun j q1 q2 => by simp [va_up, q1]) (by simp [va_up, orF]) (by simp [va_up, orF]; exact h4) hN_2
  exact v_vret O rfl dX6_labelsFrom_121 (by omega) (by omega) ⟨rfl, IZ, hRZ, hf1.trans hfZ, by rw [hZ3, labF_2 hOk hl, or3], by rw [hZ4, labF_2 hOk hl], hIZ⟩
theorem c_X6_labelsFrom {G : vGC} (hG : vGok G) (k : Nat) : LfrC G k := by
  induction k with
  | zero =>
    intro σ w ad I F L hR N hOk hNt hne a l f E U hg hl hf h3 h4 hk
    have := (hg.lt hOk.2.1).2
    omega
  | succ k ih => intro σ w ad I F L hR N hOk hNt hne a l f E U hg hl hf h3 h4 hk; exact s_X6_labelsFrom hG ih hR hOk hNt hne hg hl hf h3 h4 hk
theorem l_X6_labels {G : vGC} (hG : vGok G) {X : vCX} {Q : State → Prop} {c0 n0 : Nat} (O : vOk G X yX6_labels.cls cX6_labels (some (.object "OddPairs$Walk")) 9 0 0) (hN : xn X = 2) (hcm0 : c0 ≤ 0) (hsm0 : n0 ≤ 0) {σ0 : vSt} {w : Nat} {ad : Nat → Nat} {I : Nat → Int32} {F : Nat → Nat → Int32} {L : Nat → Nat → Int64} {N : NetM} (hOk : okN N) (hne : ad 0 ≠ w) (kx : ∀ (σ : vSt) (I' : Nat → Int32), RecAt layW σ w ad I' F L → FrL [w] σ0 σ → (∀ j, j ≠ 3 → j ≠ 4 → I' j = I j) → I' 3 = nI (evS N) → I' 4 = nI (odS N) → V G X Q c0 n0 σ 40 [(0, .ref w), (1, .int (nI N.1))] []) : ∀ (k : Nat) (a : Nat) (σ : vSt) (I' : Nat → Int32), (N.1 < a + k) → (a ≤ N.1) → (RecAt layW σ w ad I' F L) → (FrL [w] σ0 σ) → (∀ j, j ≠ 3 → j ≠ 4 → I' j = I j) → (I' 3 = nI (orF (fun a => if N.2.2 a = -1 then labF N 13 [a] else (0, 0)) a).1) → (I' 4 = nI (orF (fun a => if N.2.2 a = -1 then labF N 13 [a] else (0, 0)) a).2) → (NetAt σ (ad 0) N) → V G X Q c0 n0 σ 2 [(0, .ref w), (1, .int (nI a))] [] := by
  intro k
  induction k with
  | zero => intro a σ I' h0 h1 hR hfr hIo hI3 hI4 hNt; exact absurd h0 (by omega)
  | succ k ih =>
    intro a σ I' h0 h1 hR hfr hIo hI3 hI4 hNt
    obtain ⟨wa, ma, hob⟩ := hNt.ob
    have hn := hOk.2.1
    refine v_iload_n O dX6_labels_2 rfl 1 rfl ?_
    refine v_aload_n O dX6_labels_3 rfl 0 rfl ?_
    refine v_getf (C := RX6) (T := TX6) (N := 5) (v := .ref (ad 0)) O in_X6 hR.ob rfl 0 (by decide) rfl q1213 rfl dX6_labels_4 ?_
    refine v_getfN (C := RX2) (T := TX2) (N := 3) (v := .int (nI N.1)) O in_X2 hob rfl 0 (by decide) rfl q151 rfl dX6_labels_7 ?_
    refine v_icmp_geN (tgt := 40) O dX6_labels_10 (by decide) (by omega) (by omega) (fun h_10 => ?_) (fun h_10 => ?_)
    · obtain rfl : a = N.1 := by omega
      exact v_lv [0, 1] rfl (kx σ I' hR hfr hIo hI3 hI4)
    · refine v_aload_n O dX6_labels_13 rfl 0 rfl ?_
      obtain ⟨adN1, IN1, FN1, LN1, hRN1, hn0N1, hwN1, hmN1⟩ := id hNt
      refine v_getf (C := RX6) (T := TX6) (N := 5) (v := .ref (ad 0)) O in_X6 hR.ob rfl 0 (by decide) rfl q1213 rfl dX6_labels_14 ?_
      refine v_getfN (C := RX2) (T := TX2) (N := 3) (v := .ref (adN1 2)) O in_X2 hRN1.ob rfl 2 (by decide) rfl q160 rfl dX6_labels_17 ?_
      refine v_iload_n O dX6_labels_20 rfl 1 rfl ?_
      refine v_iald (f := FN1 2) O (hRN1.ar 2 rfl) (by omega) (by omega) dX6_labels_21 ?_
      refine v_top (y := (N.2.2 a)) (hmN1 a (by omega)) ?_
      refine v_iconst (v := (-1)) O dX6_labels_22 (by decide) ?_
      refine v_icmp_ne (tgt := 34) O dX6_labels_23 (by decide) (fun h_23 => ?_) (fun h_23 => ?_)
      · refine v_iinc (v := nI (a + 1)) (lv' := [(1, .int (nI (a + 1))), (0, .ref w)]) O hN dX6_labels_34 1 rfl (nI_add a 1) (by decide) rfl ?_
        refine v_goto (tgt := 2) O dX6_labels_37 (by decide) ?_
        refine v_lv [1, 0] rfl ?_
        exact ih (a + 1) _ _ (by omega) (by omega) hR hfr hIo (by rw [orF, if_neg h_23]; show _ = nI (_ ||| 0); rw [Nat.or_zero]; exact hI3) (by rw [orF, if_neg h_23]; show _ = nI (_ ||| 0); rw [Nat.or_zero]; exact hI4) hNt
      · refine v_aload_n O dX6_labels_26 rfl 0 rfl ?_
        refine v_iload_n O dX6_labels_27 rfl 1 rfl ?_
        refine v_iconst (v := nI 1) O dX6_labels_28 (by decide) ?_
        refine v_iload_n O dX6_labels_29 rfl 1 rfl ?_
        refine v_ishl (z := nI (2 ^ a)) O dX6_labels_30 (bx_shl1 (by omega)) ?_
        rw [show 2 ^ a = msk [a] by rw [msk, msk, Nat.zero_or]]
        refine v_callV (as := [.int (nI a), .int (nI (msk [a]))]) (rest := []) O (c_X6_labelsFrom hG 6 hR hOk hNt hne (a := a) (l := []) (f := 13) (E := (orF (fun a => if N.2.2 a = -1 then labF N 13 [a] else (0, 0)) a).1) (U := (orF (fun a => if N.2.2 a = -1 then labF N 13 [a] else (0, 0)) a).2) (RgL.one hn (by omega)) rfl rfl hI3 hI4 (by simp)) q1370 q1372 qs29 q100 q1373 hR.ob (show vcl[5]? = some (RX6, TX6, 5) from rfl) rfl mdX6_labelsFrom rfl (by decide) (by omega) (by omega) (by omega) (Nat.le_of_ble_eq_true rfl) rfl dX6_labels_31 (fun v9 σ3 hp9 => ?_) (fun _ _ _ h => False.elim h)
        obtain ⟨rfl, I2, hR2, hf2, h32, h42, hI2⟩ := hp9
        have hN_4 := hNt.fr hf2 (by simp [hne])
        obtain ⟨wa4, ma4, hob4⟩ := hN_4.ob
        refine v_iinc (v := nI (a + 1)) (lv' := [(1, .int (nI (a + 1))), (0, .ref w)]) O hN dX6_labels_34 1 rfl (nI_add a 1) (by decide) rfl ?_
        refine v_goto (tgt := 2) O dX6_labels_37 (by decide) ?_
        refine v_lv [1, 0] rfl ?_
        exact ih (a + 1) _ _ (by omega) (by omega) hR2 (hfr.trans hf2) (fun j q1 q2 => (hI2 j q1 q2).trans (hIo j q1 q2)) (by rw [h32, orF, if_pos h_23]) (by rw [h42, orF, if_pos h_23]) hN_4
theorem c_X6_labels {G : vGC} (hG : vGok G) {σ : vSt} {w : Nat} {ad : Nat → Nat} {I : Nat → Int32} {F : Nat → Nat → Int32} {L : Nat → Nat → Int64} (hR : RecAt layW σ w ad I F L) {N : NetM} (hOk : okN N) (hNt : NetAt σ (ad 0) N) (hne : ad 0 ≠ w) (h3 : I 3 = nI 0) (h4 : I 4 = nI 0) : Ct G yX6_labels (ws_ yX6_labels cX6_labels 2 (some (.object "OddPairs$Walk"))) 9 0 0 σ [.ref w] (fun v σ9 => v = some (.ref w) ∧ ∃ I' : Nat → Int32, RecAt layW σ9 w ad I' F L ∧ FrL [w] σ σ9 ∧ I' 3 = nI (evS N) ∧ I' 4 = nI (sd (odS N) (evS N)) ∧ ∀ j, j ≠ 3 → j ≠ 4 → I' j = I j) vNo := by
  refine ct_of hG (by decide) (Nat.le_of_ble_eq_true rfl) fun X hN O hnm htb => ?_
  show V G X _ 0 0 σ 0 [(0, .ref w)] []
  obtain ⟨wa, ma, hob⟩ := hNt.ob
  have hn := hOk.2.1
  obtain ⟨hev, hod⟩ := labs_lt hn
  refine v_iconst (v := nI 0) O dX6_labels_0 (by decide) ?_
  refine v_istore_n (lv' := [(1, .int (nI 0)), (0, .ref w)]) O hN dX6_labels_1 rfl (by decide) rfl ?_
  refine v_lv [1, 0] rfl ?_
  refine l_X6_labels hG O hN (by omega) (by omega) (σ0 := σ) (I := I) hOk hne (fun σZ IZ hRZ hfZ hIZ hZ3 hZ4 => ?_) (N.1 + 1) 0 _ _ (by omega) (by omega) hR FrL.rf (fun _ _ _ => rfl) h3 h4 hNt
  refine v_aload_n O dX6_labels_40 rfl 0 rfl ?_
  refine v_dup O dX6_labels_41 rfl ?_
  refine v_getf (C := RX6) (T := TX6) (N := 5) (v := .int (nI (odS N))) O in_X6 hRZ.ob rfl 4 (by decide) rfl q1220 (congrArg (fun z => some (Value.int z)) hZ4) dX6_labels_42 ?_
  refine v_aload_n O dX6_labels_45 rfl 0 rfl ?_
  refine v_getf (C := RX6) (T := TX6) (N := 5) (v := .int (nI (evS N))) O in_X6 hRZ.ob rfl 3 (by decide) rfl q1218 (congrArg (fun z => some (Value.int z)) hZ3) dX6_labels_46 ?_
  refine v_iconst (v := (-1)) O dX6_labels_49 (by decide) ?_
  refine v_ixor (z := nI (evS N) ^^^ -1) O dX6_labels_50 rfl ?_
  refine v_iand (z := nI (sd (odS N) (evS N))) O dX6_labels_51 (bx_sd (by omega) (by first | omega | exact Nat.pow_lt_pow_right (by omega) (by omega))) ?_
  refine r_puti (K := layW) (I' := (va_up IZ 4 (nI (sd (odS N) (evS N))))) (ty0 := tyX6) O hRZ in_X6 tyX6_ok nmX6 (show vcl[5]? = some (RX6, TX6, 5) from rfl) 4 (by decide) rfl q1220 rfl (tyX6_ok 4 (by decide)) rfl rfl (Nat.le_of_ble_eq_true rfl) rfl dX6_labels_52 (fun σ61 hR61 hf61 => ?_)
  refine v_aload_n O dX6_labels_55 rfl 0 rfl ?_
  exact v_aret O rfl (Or.inl ⟨_, rfl⟩) (Or.inr ⟨_, rfl⟩) dX6_labels_56 (by omega) (by omega) (⟨rfl, _, hR61, (hfZ.trans hf61), by simp [va_up]; exact hZ3, by simp [va_up], fun j q1 q2 => by rw [← hIZ j q1 q2]; simp [va_up, q2]⟩)
