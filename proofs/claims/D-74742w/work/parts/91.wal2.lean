theorem or3 (x p q : Nat) : (x ||| p) ||| q = x ||| (q ||| p) := by rw [Nat.or_assoc, Nat.or_comm p q]
theorem lab2_no {N : NetM} {f : Nat} {l : List Nat} {b : Nat} (h : ¬ altB N l b = true) : lab2 N f l b = (0, 0) := if_neg h
theorem lab2_odd {N : NetM} {f : Nat} {l : List Nat} {b : Nat} (h : altB N l b = true) (hg : goM N l b = false) : lab2 N f l b = (0, 2 ^ b) := by
  unfold lab2
  rw [if_pos h, hg]
  show (0, 0 ||| 2 ^ b) = _
  rw [Nat.zero_or]
theorem lab2_go {N : NetM} {f : Nat} {l : List Nat} {b : Nat} (h : altB N l b = true) (hg : goM N l b = true) : lab2 N f l b = ((labF N f (cl (N.2.2 b) :: b :: l)).1, (labF N f (cl (N.2.2 b) :: b :: l)).2 ||| 2 ^ b) := by
  unfold lab2
  rw [if_pos h, if_pos hg]
theorem mate_or {N : NetM} (hN : okN N) {b : Nat} (hb : b < N.1) (h : N.2.2 b ≠ -1) : ∃ c, c < N.1 ∧ N.2.2 b = nI c ∧ cl (N.2.2 b) = c := by
  have hn := hN.2.1
  obtain ⟨d, hd, h3, -, -⟩ := hN.mate hb h
  exact ⟨d, hd, h3, by rw [h3]; exact nI_clamp (by omega)⟩
def LfrC (G : vGC) (k : Nat) : Prop := ∀ {σ : vSt} {w : Nat} {ad : Nat → Nat} {I : Nat → Int32} {F : Nat → Nat → Int32} {L : Nat → Nat → Int64} (hR : RecAt layW σ w ad I F L) {N : NetM} (hOk : okN N) (hNt : NetAt σ (ad 0) N) (hne : ad 0 ≠ w) {a : Nat} {l : List Nat} {f E U : Nat} (hg : RgL N (a :: l)) (hl : (a :: l).length % 2 = 1) (hf : f + (a :: l).length = 14) (h3 : I 3 = nI E) (h4 : I 4 = nI U), 12 < (a :: l).length + 2 * k → Ct G yX6_labelsFrom (ws_ yX6_labelsFrom cX6_labelsFrom 5 none) (2 + k) 0 0 σ [.ref w, .int (nI a), .int (nI (msk (a :: l)))] (fun v σ9 => v = none ∧ ∃ I' : Nat → Int32, RecAt layW σ9 w ad I' F L ∧ FrL [w] σ σ9 ∧ I' 3 = nI (E ||| (labF N f (a :: l)).1) ∧ I' 4 = nI (U ||| (labF N f (a :: l)).2) ∧ ∀ j, j ≠ 3 → j ≠ 4 → I' j = I j) vNo
theorem mdX6_labelsFrom : vMd yX6_labelsFrom 2 := ⟨by decide +kernel, by decide +kernel, by decide +kernel⟩
theorem l_X6_labelsFrom {G : vGC} (hG : vGok G) {X : vCX} {Q : State → Prop} {c0 n0 k9 : Nat} (O : vOk G X yX6_labelsFrom.cls cX6_labelsFrom none (2 + (k9 + 1)) 0 0) (hN : xn X = 5) (hcm0 : c0 ≤ 0) (hsm0 : n0 ≤ 0) {σ0 : vSt} {w : Nat} {ad : Nat → Nat} {I : Nat → Int32} {F : Nat → Nat → Int32} {L : Nat → Nat → Int64} {N : NetM} (hOk : okN N) (hne : ad 0 ≠ w) {a : Nat} {l : List Nat} {f E U : Nat} (hg : RgL N (a :: l)) (hl : (a :: l).length % 2 = 1) (hf : f + 2 + (a :: l).length = 14) (hrec : LfrC G k9) (hk9 : 12 < (a :: l).length + 2 * (k9 + 1)) (kx : ∀ (σ : vSt) (I' : Nat → Int32), RecAt layW σ w ad I' F L → FrL [w] σ0 σ → (∀ j, j ≠ 3 → j ≠ 4 → I' j = I j) → I' 3 = nI (E ||| 2 ^ a ||| (orF (lab2 N f (a :: l)) N.1).1) → I' 4 = nI (U ||| (orF (lab2 N f (a :: l)) N.1).2) → V G X Q c0 n0 σ 121 [(0, .ref w), (1, .int (nI a)), (2, .int (nI (msk (a :: l)))), (3, .int (nI N.1))] []) : ∀ (k : Nat) (b : Nat) (σ : vSt) (I' : Nat → Int32), (N.1 < b + k) → (b ≤ N.1) → (RecAt layW σ w ad I' F L) → (FrL [w] σ0 σ) → (∀ j, j ≠ 3 → j ≠ 4 → I' j = I j) → (I' 3 = nI (E ||| 2 ^ a ||| (orF (lab2 N f (a :: l)) b).1)) → (I' 4 = nI (U ||| (orF (lab2 N f (a :: l)) b).2)) → (NetAt σ (ad 0) N) → V G X Q c0 n0 σ 14 [(0, .ref w), (1, .int (nI a)), (2, .int (nI (msk (a :: l)))), (3, .int (nI b))] [] := by
  intro k
  induction k with
  | zero => intro b σ I' h0 h1 hR hfr hIo hI3 hI4 hNt; exact absurd h0 (by omega)
  | succ k ih =>
    intro b σ I' h0 h1 hR hfr hIo hI3 hI4 hNt
    obtain ⟨wa, ma, hob⟩ := hNt.ob
    have hn := hOk.2.1
    obtain ⟨hm12, hl12⟩ := hg.lt hn
    have haN := hg.1 a (List.mem_cons_self ..)
    refine v_iload_n O dX6_labelsFrom_14 rfl 3 rfl ?_
    refine v_aload_n O dX6_labelsFrom_15 rfl 0 rfl ?_
    refine v_getf (C := RX6) (T := TX6) (N := 5) (v := .ref (ad 0)) O in_X6 hR.ob rfl 0 (by decide) rfl q1213 rfl dX6_labelsFrom_16 ?_
    refine v_getfN (C := RX2) (T := TX2) (N := 3) (v := .int (nI N.1)) O in_X2 hob rfl 0 (by decide) rfl q151 rfl dX6_labelsFrom_19 ?_
    refine v_icmp_geN (tgt := 121) O dX6_labelsFrom_22 (by decide) (by omega) (by omega) (fun h_22 => ?_) (fun h_22 => ?_)
    · obtain rfl : b = N.1 := by omega
      exact v_lv [0, 1, 2, 3] rfl (kx σ I' hR hfr hIo hI3 hI4)
    · refine v_iload_n O dX6_labelsFrom_25 rfl 2 rfl ?_
      refine v_iload_n O dX6_labelsFrom_26 rfl 3 rfl ?_
      refine v_callSN (as := [.int (nI (msk (a :: l))), .int (nI b)]) (rest := []) O (c_X1_has hG (s := msk (a :: l)) (k := b) (by omega) (by omega)) q1241 q271 q72 q272 mdX1_has rfl (by decide) (by omega) (by omega) (by omega) (Nat.le_of_ble_eq_true rfl) rfl dX6_labelsFrom_27 (fun v9 σ9 hp9 => ?_) (fun _ _ _ h => False.elim h)
      obtain ⟨rfl, hs9⟩ := hp9
      obtain rfl := hs9.symm
      refine v_if_neB (tgt := 115) O dX6_labelsFrom_30 (by decide) (fun h_30 => ?_) (fun h_30 => ?_)
      · have hna : ¬ altB N (a :: l) b = true := fun hh => by rw [(altB_m.mp hh).1] at h_30; cases h_30
        refine v_iinc (v := nI (b + 1)) (lv' := [(3, .int (nI (b + 1))), (0, .ref w), (1, .int (nI a)), (2, .int (nI (msk (a :: l))))]) O hN dX6_labelsFrom_115 3 rfl (nI_add b 1) (by decide) rfl ?_
        refine v_goto (tgt := 14) O dX6_labelsFrom_118 (by decide) ?_
        refine v_lv [1, 2, 3, 0] rfl ?_
        exact ih (b + 1) _ _ (by omega) (by omega) hR hfr hIo (by rw [orF, lab2_no hna]; show _ = nI (E ||| 2 ^ a ||| (_ ||| 0)); rw [Nat.or_zero]; exact hI3) (by rw [orF, lab2_no hna]; show _ = nI (U ||| (_ ||| 0)); rw [Nat.or_zero]; exact hI4) hNt
      · refine v_aload_n O dX6_labelsFrom_33 rfl 0 rfl ?_
        refine v_getf (C := RX6) (T := TX6) (N := 5) (v := .ref (ad 0)) O in_X6 hR.ob rfl 0 (by decide) rfl q1213 rfl dX6_labelsFrom_34 ?_
        refine v_iload_n O dX6_labelsFrom_37 rfl 1 rfl ?_
        refine v_iload_n O dX6_labelsFrom_38 rfl 3 rfl ?_
        refine v_callV (as := [.int (nI a), .int (nI b)]) (rest := []) O (c_X2_isLine hG hNt (by omega) (a := a) (b := b) (by omega) (by omega)) q1242 q281 q282 q75 q283 hob (show vcl[1]? = some (RX2, TX2, 3) from rfl) rfl mdX2_isLine rfl (by decide) (by omega) (by omega) (by omega) (Nat.le_of_ble_eq_true rfl) rfl dX6_labelsFrom_39 (fun v9 σ9 hp9 => ?_) (fun _ _ _ h => False.elim h)
        obtain ⟨rfl, hs9⟩ := hp9
        obtain rfl := hs9.symm
        refine v_if_eqB (tgt := 115) O dX6_labelsFrom_42 (by decide) (fun h_42 => ?_) (fun h_42 => ?_)
        · have hna : ¬ altB N (a :: l) b = true := fun hh => by rw [(altB_m.mp hh).2.1] at h_42; cases h_42
          refine v_iinc (v := nI (b + 1)) (lv' := [(3, .int (nI (b + 1))), (0, .ref w), (1, .int (nI a)), (2, .int (nI (msk (a :: l))))]) O hN dX6_labelsFrom_115 3 rfl (nI_add b 1) (by decide) rfl ?_
          refine v_goto (tgt := 14) O dX6_labelsFrom_118 (by decide) ?_
          refine v_lv [1, 2, 3, 0] rfl ?_
          exact ih (b + 1) _ _ (by omega) (by omega) hR hfr hIo (by rw [orF, lab2_no hna]; show _ = nI (E ||| 2 ^ a ||| (_ ||| 0)); rw [Nat.or_zero]; exact hI3) (by rw [orF, lab2_no hna]; show _ = nI (U ||| (_ ||| 0)); rw [Nat.or_zero]; exact hI4) hNt
        · refine v_aload_n O dX6_labelsFrom_45 rfl 0 rfl ?_
          obtain ⟨adN1, IN1, FN1, LN1, hRN1, hn0N1, hwN1, hmN1⟩ := id hNt
          refine v_getf (C := RX6) (T := TX6) (N := 5) (v := .ref (ad 0)) O in_X6 hR.ob rfl 0 (by decide) rfl q1213 rfl dX6_labelsFrom_46 ?_
          refine v_getfN (C := RX2) (T := TX2) (N := 3) (v := .ref (adN1 2)) O in_X2 hRN1.ob rfl 2 (by decide) rfl q160 rfl dX6_labelsFrom_49 ?_
          refine v_iload_n O dX6_labelsFrom_52 rfl 1 rfl ?_
          refine v_iald (f := FN1 2) O (hRN1.ar 2 rfl) (by omega) (by omega) dX6_labelsFrom_53 ?_
          refine v_top (y := (N.2.2 a)) (hmN1 a (by omega)) ?_
          refine v_iload_n O dX6_labelsFrom_54 rfl 3 rfl ?_
          refine v_icmp_ne (tgt := 61) O dX6_labelsFrom_55 (by decide) (fun h_55 => ?_) (fun h_55 => ?_)
          · have hya : altB N (a :: l) b = true := altB_m.mpr ⟨h_30, h_42, fun hh => absurd hh h_55, fun hh => by omega⟩
            refine v_aload_n O dX6_labelsFrom_61 rfl 0 rfl ?_
            refine v_dup O dX6_labelsFrom_62 rfl ?_
            refine v_getf (C := RX6) (T := TX6) (N := 5) (v := .int (nI (U ||| (orF (lab2 N f (a :: l)) b).2))) O in_X6 hR.ob rfl 4 (by decide) rfl q1220 (congrArg (fun z => some (Value.int z)) hI4) dX6_labelsFrom_63 ?_
            refine v_iconst (v := nI 1) O dX6_labelsFrom_66 (by decide) ?_
            refine v_iload_n O dX6_labelsFrom_67 rfl 3 rfl ?_
            refine v_ishl (z := nI (2 ^ b)) O dX6_labelsFrom_68 (bx_shl1 (by omega)) ?_
            refine v_ior (z := nI ((U ||| (orF (lab2 N f (a :: l)) b).2) ||| (2 ^ b))) O dX6_labelsFrom_69 (bx_or (U ||| (orF (lab2 N f (a :: l)) b).2) (2 ^ b)) ?_
            refine r_puti (K := layW) (I' := (va_up I' 4 (nI ((U ||| (orF (lab2 N f (a :: l)) b).2) ||| (2 ^ b))))) (ty0 := tyX6) O hR in_X6 tyX6_ok nmX6 (show vcl[5]? = some (RX6, TX6, 5) from rfl) 4 (by decide) rfl q1220 rfl (tyX6_ok 4 (by decide)) rfl rfl (Nat.le_of_ble_eq_true rfl) rfl dX6_labelsFrom_70 (fun σ2 hR2 hf2 => ?_)
            have hN_3 := hNt.fr hf2 (by simp [hne])
            obtain ⟨wa3, ma3, hob3⟩ := hN_3.ob
            refine v_aload_n O dX6_labelsFrom_73 rfl 0 rfl ?_
            obtain ⟨adN4, IN4, FN4, LN4, hRN4, hn0N4, hwN4, hmN4⟩ := id hN_3
            refine v_getf (C := RX6) (T := TX6) (N := 5) (v := .ref (ad 0)) O in_X6 hR2.ob rfl 0 (by decide) rfl q1213 rfl dX6_labelsFrom_74 ?_
            refine v_getfN (C := RX2) (T := TX2) (N := 3) (v := .ref (adN4 2)) O in_X2 hRN4.ob rfl 2 (by decide) rfl q160 rfl dX6_labelsFrom_77 ?_
            refine v_iload_n O dX6_labelsFrom_80 rfl 3 rfl ?_
            refine v_iald (f := FN4 2) O (hRN4.ar 2 rfl) (by omega) (by omega) dX6_labelsFrom_81 ?_
            refine v_top (y := (N.2.2 b)) (hmN4 b (by omega)) ?_
            refine v_istore (lv' := [(4, .int (N.2.2 b)), (0, .ref w), (1, .int (nI a)), (2, .int (nI (msk (a :: l)))), (3, .int (nI b))]) O hN dX6_labelsFrom_82 (by decide) rfl ?_
            refine v_iload O dX6_labelsFrom_84 0 rfl ?_
            refine v_iconst (v := (-1)) O dX6_labelsFrom_86 (by decide) ?_
            refine v_icmp_eq (tgt := 115) O dX6_labelsFrom_87 (by decide) (fun h_87 => ?_) (fun h_87 => ?_)
            · have hgo : goM N (a :: l) b = false := by unfold goM; rw [decide_eq_false (fun hh => hh h_87)]; rfl
              refine v_iinc (v := nI (b + 1)) (lv' := [(3, .int (nI (b + 1))), (4, .int (N.2.2 b)), (0, .ref w), (1, .int (nI a)), (2, .int (nI (msk (a :: l))))]) O hN dX6_labelsFrom_115 4 rfl (nI_add b 1) (by decide) rfl ?_
              refine v_goto (tgt := 14) O dX6_labelsFrom_118 (by decide) ?_
              refine v_lv [2, 3, 4, 0] rfl ?_
              exact ih (b + 1) _ _ (by omega) (by omega) hR2 (hfr.trans hf2) (fun j q1 q2 => by rw [← hIo j q1 q2]; simp [va_up, q2]) (by rw [orF, lab2_odd hya hgo]; show va_up I' 4 _ 3 = nI (E ||| 2 ^ a ||| (_ ||| 0)); rw [Nat.or_zero]; simp [va_up]; exact hI3) (by rw [orF, lab2_odd hya hgo]; simp [va_up, Nat.or_assoc]) hN_3
            · obtain ⟨c, hcN, hcI, hcc⟩ := mate_or hOk (b := b) (by omega) h_87
              rw [hcI]
              refine v_iload_n O dX6_labelsFrom_90 rfl 3 rfl ?_
              refine v_iload O dX6_labelsFrom_91 0 rfl ?_
              refine v_callSN (as := [.int (nI (msk (a :: l))), .int (nI c)]) (rest := []) O (c_X1_has hG (s := msk (a :: l)) (k := c) (by omega) (by omega)) q1241 q271 q72 q272 mdX1_has rfl (by decide) (by omega) (by omega) (by omega) (Nat.le_of_ble_eq_true rfl) rfl dX6_labelsFrom_93 (fun v9 σ9 hp9 => ?_) (fun _ _ _ h => False.elim h)
              obtain ⟨rfl, hs9⟩ := hp9
              obtain rfl := hs9.symm
              refine v_if_neB (tgt := 115) O dX6_labelsFrom_96 (by decide) (fun h_96 => ?_) (fun h_96 => ?_)
              · have hgo : goM N (a :: l) b = false := by unfold goM; rw [hcc, h_96]; simp
                refine v_iinc (v := nI (b + 1)) (lv' := [(3, .int (nI (b + 1))), (4, .int (nI c)), (0, .ref w), (1, .int (nI a)), (2, .int (nI (msk (a :: l))))]) O hN dX6_labelsFrom_115 4 rfl (nI_add b 1) (by decide) rfl ?_
                refine v_goto (tgt := 14) O dX6_labelsFrom_118 (by decide) ?_
                refine v_lv [2, 3, 4, 0] rfl ?_
                exact ih (b + 1) _ _ (by omega) (by omega) hR2 (hfr.trans hf2) (fun j q1 q2 => by rw [← hIo j q1 q2]; simp [va_up, q2]) (by rw [orF, lab2_odd hya hgo]; show va_up I' 4 _ 3 = nI (E ||| 2 ^ a ||| (_ ||| 0)); rw [Nat.or_zero]; simp [va_up]; exact hI3) (by rw [orF, lab2_odd hya hgo]; simp [va_up, Nat.or_assoc]) hN_3
              · have hgo : goM N (a :: l) b = true := by unfold goM; rw [hcc, h_96, hcI, decide_eq_true (nI_ne (by omega))]; rfl
                have hbc := (goM_lt hOk (b := b) (by omega) hgo).2.2.1
                rw [hcc] at hbc
                have hg2 : RgL N (c :: b :: a :: l) := (hg.add hn (by omega) h_30).add hn hcN (by rw [msk, Nat.testBit_or, h_96, Nat.testBit_two_pow, decide_eq_false (Ne.symm hbc)]; rfl)
                refine v_aload_n O dX6_labelsFrom_99 rfl 1 rfl ?_
                refine v_iload O dX6_labelsFrom_100 0 rfl ?_
                refine v_iload_n O dX6_labelsFrom_102 rfl 3 rfl ?_
                refine v_iconst (v := nI 1) O dX6_labelsFrom_103 (by decide) ?_
                refine v_iload_n O dX6_labelsFrom_104 rfl 4 rfl ?_
                refine v_ishl (z := nI (2 ^ b)) O dX6_labelsFrom_105 (bx_shl1 (by omega)) ?_
                refine v_ior (z := nI ((msk (a :: l)) ||| (2 ^ b))) O dX6_labelsFrom_106 (bx_or (msk (a :: l)) (2 ^ b)) ?_
                refine v_iconst (v := nI 1) O dX6_labelsFrom_107 (by decide) ?_
                refine v_iload O dX6_labelsFrom_108 0 rfl ?_
                refine v_ishl (z := nI (2 ^ c)) O dX6_labelsFrom_110 (bx_shl1 (by omega)) ?_
                refine v_ior (z := nI (((msk (a :: l)) ||| (2 ^ b)) ||| (2 ^ c))) O dX6_labelsFrom_111 (bx_or ((msk (a :: l)) ||| (2 ^ b)) (2 ^ c)) ?_
                rw [show msk (a :: l) ||| 2 ^ b ||| 2 ^ c = msk (c :: b :: a :: l) from rfl]
                refine v_callV (as := [.int (nI c), .int (nI (msk (c :: b :: a :: l)))]) (rest := []) O (hrec hR2 hOk hN_3 hne (a := c) (l := b :: a :: l) (f := f) (E := E ||| 2 ^ a ||| (orF (lab2 N f (a :: l)) b).1) (U := U ||| (orF (lab2 N f (a :: l)) b).2 ||| 2 ^ b) hg2 (by simp only [List.length_cons] at hl ⊢; omega) (by simp only [List.length_cons] at hf ⊢; omega) (by first | exact hI3 | (simp [va_up]; exact hI3)) (by simp [va_up]) (by simp only [List.length_cons] at hk9 ⊢; omega)) q1370 q1372 qs29 q100 q1373 hR2.ob (show vcl[5]? = some (RX6, TX6, 5) from rfl) rfl mdX6_labelsFrom rfl (by decide) (by omega) (by omega) (by omega) (Nat.le_of_ble_eq_true rfl) rfl dX6_labelsFrom_112 (fun v9 σ6 hp9 => ?_) (fun _ _ _ h => False.elim h)
                obtain ⟨rfl, I5, hR5, hf5, h35, h45, hI5⟩ := hp9
                have hN_7 := hN_3.fr hf5 (by simp [hne])
                obtain ⟨wa7, ma7, hob7⟩ := hN_7.ob
                refine v_iinc (v := nI (b + 1)) (lv' := [(3, .int (nI (b + 1))), (4, .int (nI c)), (0, .ref w), (1, .int (nI a)), (2, .int (nI (msk (a :: l))))]) O hN dX6_labelsFrom_115 4 rfl (nI_add b 1) (by decide) rfl ?_
                refine v_goto (tgt := 14) O dX6_labelsFrom_118 (by decide) ?_
                refine v_lv [2, 3, 4, 0] rfl ?_
                exact ih (b + 1) _ _ (by omega) (by omega) hR5 (hfr.trans (hf2.trans hf5)) (fun j q1 q2 => by rw [hI5 j q1 q2, ← hIo j q1 q2]; simp [va_up, q2]) (by rw [h35, orF, lab2_go hya hgo, hcc, Nat.or_assoc]) (by rw [h45, orF, lab2_go hya hgo, hcc, or3, Nat.or_assoc]) hN_7
          · have hna : ¬ altB N (a :: l) b = true := fun hh => by have h9 := (altB_m.mp hh).2.2.mp h_55; omega
            refine v_goto (tgt := 115) O dX6_labelsFrom_58 (by decide) ?_
            refine v_iinc (v := nI (b + 1)) (lv' := [(3, .int (nI (b + 1))), (0, .ref w), (1, .int (nI a)), (2, .int (nI (msk (a :: l))))]) O hN dX6_labelsFrom_115 3 rfl (nI_add b 1) (by decide) rfl ?_
            refine v_goto (tgt := 14) O dX6_labelsFrom_118 (by decide) ?_
            refine v_lv [1, 2, 3, 0] rfl ?_
            exact ih (b + 1) _ _ (by omega) (by omega) hR hfr hIo (by rw [orF, lab2_no hna]; show _ = nI (E ||| 2 ^ a ||| (_ ||| 0)); rw [Nat.or_zero]; exact hI3) (by rw [orF, lab2_no hna]; show _ = nI (U ||| (_ ||| 0)); rw [Nat.or_zero]; exact hI4) hNt
