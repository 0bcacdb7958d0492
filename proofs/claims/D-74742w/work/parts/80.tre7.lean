/-- a node that need not be looked at -/
theorem Dead.skip {adj : Nat → Nat → Bool} {S : Nat → Bool} {M : Nat → Nat} {D : Nat → Bool} {k : Nat} (h : Dead adj S M D k) (hk : S k = true → M k < 12 ∨ D k = true) : Dead adj S M D (k + 1) := by
  obtain ⟨h1, h2, h3, h4⟩ := h
  refine ⟨fun x hx => ?_, h2, h3, fun x hx hx12 hS => ?_⟩
  · obtain ⟨g1, g2, g3⟩ := h1 x hx
    exact ⟨g1, g2, g3.imp id fun h => by omega⟩
  · by_cases e : x = k
    · rw [e] at hS ⊢; exact hk hS
    · exact h4 x (by omega) hx12 hS
theorem cnt_two {M M' : Nat → Nat} {e k : Nat} (he : e < 12) (hk : k < 12) (hek : e ≠ k) (h1 : ¬ M e < 12) (h2 : ¬ M k < 12) (hc : ∀ x, x < 12 → (M' x < 12 ↔ M x < 12 ∨ x = e ∨ x = k)) : cnt (fun x => decide (M' x < 12)) 12 = cnt (fun x => decide (M x < 12)) 12 + 2 := by
  rw [cnt_rem (j := e) he (decide_eq_true ((hc e he).mpr (.inr (.inl rfl)))), cnt_rem (j := k) hk (by rw [decide_eq_true ((hc k hk).mpr (.inr (.inr rfl)))]; simp [Ne.symm hek])]
  have e9 : cnt (fun x => decide (M' x < 12) && !(x == e) && !(x == k)) 12 = cnt (fun x => decide (M x < 12)) 12 := cnt_congr 12 fun x hx => by
    by_cases g1 : x = e
    · rw [g1]; simp [h1]
    · by_cases g2 : x = k
      · rw [g2]; simp [h2]
      · rw [beq_false_of_ne g1, beq_false_of_ne g2, Bool.not_false, Bool.and_true, Bool.and_true]
        exact decide_eq_decide.mpr ((hc x hx).trans ⟨fun h => h.resolve_right fun h => h.elim g1 g2, .inl⟩)
  rw [e9]
theorem mdX8_grows : vMd yX8_grows 1 := ⟨by decide +kernel, by decide +kernel, by decide +kernel⟩
theorem mdX8_opens : vMd yX8_opens 1 := ⟨by decide +kernel, by decide +kernel, by decide +kernel⟩
theorem l_X8_most {G : vGC} (hG : vGok G) {X : vCX} {Q : State → Prop} {c0 n0 : Nat} (O : vOk G X yX8_most.cls cX8_most (some .int) 5 0 0) (hN : xn X = 5) (hcm0 : c0 ≤ 0) (hsm0 : n0 ≤ 0) {σ0 : vSt} {t : Nat} {ad : Nat → Nat} {I : Nat → Int32} {F : Nat → Nat → Int32} {L : Nat → Nat → Int64} {N : NetM} (hOk : okN N) (hne : ad 0 ≠ t) {s : Nat} (hs : s < 2 ^ N.1) (kx : ∀ (σ : vSt) (F' : Nat → Nat → Int32) (I' : Nat → Int32), RecAt layT σ t ad I' F' L → FrL [t] σ0 σ → V G X Q c0 n0 σ 80 [(0, .ref t), (1, .int (nI s)), (2, .int (nI ((dp N.1 N.2.1 s).1))), (3, .int (nI N.1))] []) : ∀ (k : Nat) (a : Nat) (nn : Nat) (Mc : Nat → Nat) (D : Nat → Bool) (σ : vSt) (F' : Nat → Nat → Int32) (I' : Nat → Int32), (N.1 < a + k) → (a ≤ N.1) → (RecAt layT σ t ad I' F' L) → (FrL [t] σ0 σ) → (I' 10 = nI s) → (NetAt σ (ad 0) N) → (OEnc (F' 1) Mc) → (MOk (adjN N.1 N.2.1) s.testBit Mc) → (Dead (adjN N.1 N.2.1) s.testBit Mc D a) → (cnt (fun x => decide (Mc x < 12)) 12 = 2 * nn) → V G X Q c0 n0 σ 17 [(0, .ref t), (1, .int (nI s)), (2, .int (nI nn)), (3, .int (nI a))] [] := by
  intro k
  induction k with
  | zero => intro a nn Mc D σ F' I' h0 ha hR hf h10 hNt h1 hM hD hc; exact absurd h0 (by omega)
  | succ k ih =>
    intro a nn Mc D σ F' I' h0 ha hR hf h10 hNt h1 hM hD hc
    have hn := hOk.2.1
    obtain ⟨wa, ma, hob⟩ := hNt.ob
    have hSn : ∀ x, s.testBit x = true → x < N.1 := fun x hx => Classical.byContradiction fun hh => by
      rw [Nat.testBit_lt_two_pow (Nat.lt_of_lt_of_le hs (Nat.pow_le_pow_right (by omega) (Nat.not_lt.mp hh)))] at hx
      cases hx
    have hs31 : s < 2 ^ 31 := Nat.lt_of_lt_of_le hs (Nat.pow_le_pow_right (by omega) (by omega))
    have hcl0 := cnt_le (fun x => decide (Mc x < 12)) 12
    refine v_iload_n O dX8_most_17 rfl 3 rfl ?_
    refine v_aload_n O dX8_most_18 rfl 0 rfl ?_
    refine v_getf (C := RX8) (T := TX8) (N := 11) (v := .ref (ad 0)) O in_X8 hR.ob rfl 0 (by decide) rfl q226 rfl dX8_most_19 ?_
    refine v_getfN (C := RX2) (T := TX2) (N := 3) (v := .int (nI N.1)) O in_X2 hob rfl 0 (by decide) rfl q152 rfl dX8_most_22 ?_
    refine v_icmp_geN (tgt := 80) O dX8_most_25 (by decide) (by omega) (by omega) (fun h_25 => ?_) (fun h_25 => ?_)
    · obtain rfl : a = N.1 := by omega
      obtain rfl : nn = (dp N.1 N.2.1 s).1 := most_dp hOk hs hM (fun M' hM' => hD.most hSn M' hM') hc
      exact v_lv [0, 1, 2, 3] rfl (kx σ F' I' hR hf)
    · have ha12 : a < 12 := by omega
      refine v_iload_n O dX8_most_28 rfl 1 rfl ?_
      refine v_iload_n O dX8_most_29 rfl 3 rfl ?_
      refine v_callSN (as := [.int (nI s), .int (nI a)]) (rest := []) O (c_X1_has hG (s := s) (k := a) (by omega) (by omega)) q270 q271 q72 q272 mdX1_has rfl (by decide) (by omega) (by omega) (by omega) (Nat.le_of_ble_eq_true rfl) rfl dX8_most_30 (fun v9 σ9 hp9 => ?_) (fun _ _ _ h => False.elim h)
      obtain ⟨rfl, hs9⟩ := hp9
      obtain rfl := hs9.symm
      refine v_if_eqB (tgt := 74) O dX8_most_33 (by decide) (fun h_33 => ?_) (fun h_33 => ?_)
      · have hst := hD.skip (fun hh => absurd hh (by rw [h_33]; simp))
        refine v_iinc (v := nI (a + 1)) (lv' := [(3, .int (nI (a + 1))), (0, .ref t), (1, .int (nI s)), (2, .int (nI nn))]) O hN dX8_most_74 3 rfl (nI_add a 1) (by decide) rfl ?_
        refine v_goto (tgt := 17) O dX8_most_77 (by decide) ?_
        refine v_lv [1, 2, 3, 0] rfl ?_
        exact ih (a + 1) nn Mc D _ _ _ (by omega) (by omega) hR hf h10 hNt h1 hM hst hc
      · refine v_aload_n O dX8_most_36 rfl 0 rfl ?_
        refine v_getf (C := RX8) (T := TX8) (N := 11) (v := .ref (ad 1)) O in_X8 hR.ob rfl 1 (by decide) rfl q227 rfl dX8_most_37 ?_
        refine v_iload_n O dX8_most_40 rfl 3 rfl ?_
        refine v_iald (f := F' 1) O (hR.ar 1 rfl) (by omega) (by omega) dX8_most_41 ?_
        refine v_top (y := (oI (Mc a))) (h1 a ha12) ?_
        refine v_iconst (v := (-1)) O dX8_most_42 (by decide) ?_
        refine v_icmp_eq (tgt := 49) O dX8_most_43 (by decide) (fun h_43 => ?_) (fun h_43 => ?_)
        · have hMa0 := oI_m.mp h_43
          have hMa : Mc a = 12 := (hM a ha12).resolve_right (fun hh => hMa0 hh.1)
          refine v_aload_n O dX8_most_49 rfl 0 rfl ?_
          refine v_iload_n O dX8_most_50 rfl 3 rfl ?_
          refine v_callV (as := [.int (nI a)]) (rest := []) O (c_X8_grows hG hR hOk hne hs hM hMa (by omega) hNt h10 h1 h_33) q273 q275 qs1 q102 q276 hR.ob (show vcl[7]? = some (RX8, TX8, 11) from rfl) rfl mdX8_grows rfl (by decide) (by omega) (by omega) (by omega) (Nat.le_of_ble_eq_true rfl) rfl dX8_most_51 (fun v9 σ1 hp9 => ?_) (fun _ _ _ h => False.elim h)
          obtain ⟨x, Fg, Ig, fg, bg, Eg, rg, rfl, hRg, hfg, hF1g, hIg, hIt, hres⟩ := hp9
          have hN_2 := hNt.fr hfg (by simpa using hne)
          obtain ⟨wa2, ma2, hob2⟩ := hN_2.ob
          refine v_istore (lv' := [(4, .int x), (0, .ref t), (1, .int (nI s)), (2, .int (nI nn)), (3, .int (nI a))]) O hN dX8_most_54 (by decide) rfl ?_
          refine v_iload O dX8_most_56 0 rfl ?_
          refine v_iconst (v := (-1)) O dX8_most_58 (by decide) ?_
          refine v_icmp_ne (tgt := 65) O dX8_most_59 (by decide) (fun h_59 => ?_) (fun h_59 => ?_)
          · obtain ⟨v, j, rfl, h2g, hEv, hj12, hSj, hja, hMj, hadj⟩ := hres.resolve_left (fun hh => h_59 hh.1)
            obtain ⟨l, hpl, hyl, hsl, hM', hcov⟩ := hIt.freed hM (adjN_irr hOk) (adjN_sym hOk) hMa hEv hj12 hSj hja hMj hadj
            have hc2 := cnt_two hj12 ha12 hja (by omega) (by omega) hcov
            have hcl := cnt_le (fun x => decide (opn Mc j (v :: l) x < 12)) 12
            refine v_aload_n O dX8_most_65 rfl 1 rfl ?_
            refine v_iload O dX8_most_66 0 rfl ?_
            refine v_callV (as := [.int (nI j)]) (rest := []) O (c_X8_opens hG hRg hMa (by rw [hF1g]; exact h1) h2g hj12 (up_t ..) hpl hsl (fun y hy => ⟨(hyl y hy).1, (hyl y hy).2.2.1, fun hn2 => ⟨((hyl y hy).2.2.2 hn2).1, (hM.inv (hyl y hy).2.2.1 ((hyl y hy).2.2.2 hn2).1).1, up_f _ _ (hyl y hy).2.1⟩⟩)) q296 q298 qs5 q102 q299 hRg.ob (show vcl[7]? = some (RX8, TX8, 11) from rfl) rfl mdX8_opens rfl (by decide) (by omega) (by omega) (by omega) (Nat.le_of_ble_eq_true rfl) rfl dX8_most_68 (fun v9 σ3 hp9 => ?_) (fun _ _ _ h => False.elim h)
            obtain ⟨rfl, Fo, hRo, hfo, hFo, hm1⟩ := hp9
            have hN_4 := hN_2.fr hfo (by simpa using hne)
            obtain ⟨wa4, ma4, hob4⟩ := hN_4.ob
            have hst := hD.found hM' hcov
            refine v_iinc (v := nI (nn + 1)) (lv' := [(2, .int (nI (nn + 1))), (4, .int (nI j)), (0, .ref t), (1, .int (nI s)), (3, .int (nI a))]) O hN dX8_most_71 3 rfl (nI_add nn 1) (by decide) rfl ?_
            refine v_iinc (v := nI (a + 1)) (lv' := [(3, .int (nI (a + 1))), (2, .int (nI (nn + 1))), (4, .int (nI j)), (0, .ref t), (1, .int (nI s))]) O hN dX8_most_74 4 rfl (nI_add a 1) (by decide) rfl ?_
            refine v_goto (tgt := 17) O dX8_most_77 (by decide) ?_
            refine v_lv [3, 4, 1, 0] rfl ?_
            exact ih (a + 1) (nn + 1) _ D _ _ _ (by omega) (by omega) hRo (hf.trans (hfg.trans hfo)) ((hIg 10 (by omega) (by omega)).trans h10) hN_4 hm1 hM' hst (by rw [hc2, hc]; omega)
          · have hCC := (hres.resolve_right (fun ⟨v, j, ej, _, _, hj12, _⟩ => absurd (ej.symm.trans h_59) (nI_ne (by omega)))).2
            have hst := hD.fail hM (adjN_irr hOk) (adjN_sym hOk) hMa hIt hCC
            refine v_goto (tgt := 74) O dX8_most_62 (by decide) ?_
            refine v_iinc (v := nI (a + 1)) (lv' := [(3, .int (nI (a + 1))), (4, .int x), (0, .ref t), (1, .int (nI s)), (2, .int (nI nn))]) O hN dX8_most_74 4 rfl (nI_add a 1) (by decide) rfl ?_
            refine v_goto (tgt := 17) O dX8_most_77 (by decide) ?_
            refine v_lv [2, 3, 4, 0] rfl ?_
            exact ih (a + 1) nn Mc _ _ _ _ (by omega) (by omega) hRg (hf.trans hfg) ((hIg 10 (by omega) (by omega)).trans h10) hN_2 (by rw [hF1g]; exact h1) hM hst hc
        · have hst := hD.skip (fun _ => .inl (Classical.byContradiction fun hh => h_43 (oI_m.mpr hh)))
          refine v_goto (tgt := 74) O dX8_most_46 (by decide) ?_
          refine v_iinc (v := nI (a + 1)) (lv' := [(3, .int (nI (a + 1))), (0, .ref t), (1, .int (nI s)), (2, .int (nI nn))]) O hN dX8_most_74 3 rfl (nI_add a 1) (by decide) rfl ?_
          refine v_goto (tgt := 17) O dX8_most_77 (by decide) ?_
          refine v_lv [1, 2, 3, 0] rfl ?_
          exact ih (a + 1) nn Mc D _ _ _ (by omega) (by omega) hR hf h10 hNt h1 hM hst hc
theorem c_X8_most {G : vGC} (hG : vGok G) {σ : vSt} {t : Nat} {ad : Nat → Nat} {I : Nat → Int32} {F : Nat → Nat → Int32} {L : Nat → Nat → Int64} (hR : RecAt layT σ t ad I F L) {N : NetM} (hOk : okN N) (hne : ad 0 ≠ t) {s : Nat} (hs : s < 2 ^ N.1) (hNt : NetAt σ (ad 0) N) : Ct G yX8_most (ws_ yX8_most cX8_most 5 (some .int)) 5 0 0 σ [.ref t, .int (nI s)] (fun v9 σ9 => v9 = some (.int (nI (dp N.1 N.2.1 s).1)) ∧ ∃ (F' : Nat → Nat → Int32) (I' : Nat → Int32), RecAt layT σ9 t ad I' F' L ∧ FrL [t] σ σ9) vNo := by
  refine ct_of hG (by decide) (Nat.le_of_ble_eq_true rfl) fun X hN O hnm htb => ?_
  show V G X _ 0 0 σ 0 [(0, .ref t), (1, .int (nI s))] []
  obtain ⟨wa, ma, hob⟩ := hNt.ob
  have hs31 : s < 2 ^ 31 := Nat.lt_of_lt_of_le hs (Nat.pow_le_pow_right (by omega) (by have := hOk.2.1; omega))
  refine v_aload_n O dX8_most_0 rfl 0 rfl ?_
  refine v_iload_n O dX8_most_1 rfl 1 rfl ?_
  refine r_puti (K := layT) (I' := (va_up I 10 (nI s))) (ty0 := tyX8) O hR in_X8 tyX8_ok nmX8 (show vcl[7]? = some (RX8, TX8, 11) from rfl) 10 (by decide) rfl q236 rfl (tyX8_ok 10 (by decide)) rfl rfl (Nat.le_of_ble_eq_true rfl) rfl dX8_most_2 (fun σ1 hR1 hf1 => ?_)
  have hN_2 := hNt.fr hf1 (by simpa using hne)
  obtain ⟨wa2, ma2, hob2⟩ := hN_2.ob
  refine v_aload_n O dX8_most_5 rfl 0 rfl ?_
  refine v_getf (C := RX8) (T := TX8) (N := 11) (v := .ref (ad 1)) O in_X8 hR1.ob rfl 1 (by decide) rfl q227 rfl dX8_most_6 ?_
  refine v_iconst (v := (-1)) O dX8_most_9 (by decide) ?_
  refine v_callS (as := [.ref (ad 1), .int (-1)]) (rest := []) O (c_J2_fill hG (f := F 1) (v := (-1)) hR1.nz (by omega) (hR1.ar 1 rfl)) q269 q147 q76 q148 mdJ2_fill rfl (by decide) (by omega) (by omega) (by omega) (Nat.le_of_ble_eq_true rfl) rfl dX8_most_10 (fun v9 σ4 hp9 => ?_) (fun _ _ _ h => False.elim h)
  obtain ⟨rfl, hf3, hfb3, g3, hfa3, hfv3⟩ := hp9
  have hR3 := hR1.put 1 rfl hfb3 hfa3
  have hN_5 := hN_2.fr hf3 (by simpa using hne)
  obtain ⟨wa5, ma5, hob5⟩ := hN_5.ob
  refine v_iconst (v := nI 0) O dX8_most_13 (by decide) ?_
  refine v_istore_n (lv' := [(2, .int (nI 0)), (0, .ref t), (1, .int (nI s))]) O hN dX8_most_14 rfl (by decide) rfl ?_
  refine v_iconst (v := nI 0) O dX8_most_15 (by decide) ?_
  refine v_istore_n (lv' := [(3, .int (nI 0)), (2, .int (nI 0)), (0, .ref t), (1, .int (nI s))]) O hN dX8_most_16 rfl (by decide) rfl ?_
  refine v_lv [2, 3, 1, 0] rfl ?_
  refine l_X8_most hG O hN (by omega) (by omega) (σ0 := σ) (F := F) (I := I) hOk hne hs (fun σZ FZ IZ hRZ hfZ => ?_) (N.1 + 1) 0 0 (fun _ => 12) (fun _ => false) _ _ _ (by omega) (by omega) hR3 (hf1.trans hf3) (by simp [va_up]) hN_5 (by intro j hj; rw [show (va_up F 1 g3) 1 j = g3 j by simp [va_up], hfv3 j hj]; rfl) (fun x _ => .inl rfl) Dead.start (by decide)
  refine v_iload_n O dX8_most_80 rfl 2 rfl ?_
  exact v_iret O rfl dX8_most_81 (by omega) (by omega) (⟨rfl, FZ, IZ, hRZ, hfZ⟩)
