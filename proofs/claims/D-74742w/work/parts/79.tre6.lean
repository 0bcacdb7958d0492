theorem l_X8_grows {G : vGC} (hG : vGok G) {X : vCX} {Q : State → Prop} {c0 n0 : Nat} (O : vOk G X yX8_grows.cls cX8_grows (some .int) 4 0 0) (hN : xn X = 4) (hcm0 : c0 ≤ 0) (hsm0 : n0 ≤ 0) {σ0 : vSt} {t : Nat} {ad : Nat → Nat} {I : Nat → Int32} {F : Nat → Nat → Int32} {L : Nat → Nat → Int64} {N : NetM} (hOk : okN N) (hne : ad 0 ≠ t) {s : Nat} (hs : s < 2 ^ N.1) {M : Nat → Nat} (hM : MOk (adjN N.1 N.2.1) s.testBit M) {rt : Nat} (hrt : M rt = 12) (hrtN : rt < N.1) (h10 : I 10 = nI s) (kx : ∀ (σ : vSt) (F' : Nat → Nat → Int32) (I' : Nat → Int32) (f base : Nat → Nat) (E : Nat → Bool) (r : Nat → Nat), RecAt layT σ t ad I' F' L → FrL [t] σ0 σ → F' 1 = F 1 → (∀ j, j ≠ 8 → j ≠ 9 → I' j = I j) → EdI (adjN N.1 N.2.1) s.testBit M rt f base E r → EdC (adjN N.1 N.2.1) s.testBit M f base E E → V G X Q c0 n0 σ 274 [(0, .ref t), (1, .int (nI rt))] []) (kf : ∀ (σ : vSt) (F' : Nat → Nat → Int32) (I' : Nat → Int32) (f base : Nat → Nat) (E : Nat → Bool) (r : Nat → Nat) (v j : Nat), RecAt layT σ t ad I' F' L → FrL [t] σ0 σ → F' 1 = F 1 → (∀ j, j ≠ 8 → j ≠ 9 → I' j = I j) → EdI (adjN N.1 N.2.1) s.testBit M rt f base E r → OEnc (F' 2) (va_up f j v) → E v = true → j < 12 → s.testBit j = true → j ≠ rt → M j = 12 → adjN N.1 N.2.1 v j = true → V G X Q c0 n0 σ 229 [(0, .ref t), (1, .int (nI rt)), (2, .int (nI v)), (3, .int (nI j))] []) : ∀ (k : Nat) (l0 : List Nat) (σ : vSt) (F' : Nat → Nat → Int32) (I' : Nat → Int32) (f : Nat → Nat) (base : Nat → Nat) (E : Nat → Bool) (r : Nat → Nat) (Q1 : List Nat), (12 < l0.length + k) → (RecAt layT σ t ad I' F' L) → (FrL [t] σ0 σ) → (F' 1 = F 1) → (∀ j, j ≠ 8 → j ≠ 9 → I' j = I j) → (NetAt σ (ad 0) N) → (GrSt (adjN N.1 N.2.1) s.testBit M rt F' I' f base E r Q1) → (I' 8 = nI l0.length) → (l0 <+: Q1) → (EdL (adjN N.1 N.2.1) s.testBit M f base E l0) → V G X Q c0 n0 σ 71 [(0, .ref t), (1, .int (nI rt))] [] := by
  intro k
  induction k with
  | zero => intro l0 σ F' I' f base E r Q1 h0 hR hf hF1 hIo hNt hS h8 hpre hL; have hql := hS.2.2.2.2.2.2.1.lt (fun x hx => (hS.1.2.1 x hx).1); have hpl := hpre.length_le; exact absurd h0 (by omega)
  | succ k ih =>
    intro l0 σ F' I' f base E r Q1 h0 hR hf hF1 hIo hNt hS h8 hpre hL
    obtain ⟨hI, e1, e2, e3, e4, e7, hQ, e9⟩ := id hS
    have hS0 := hS
    have hn := hOk.2.1
    obtain ⟨wa, ma, hob⟩ := hNt.ob
    have hSn : ∀ x, s.testBit x = true → x < N.1 := fun x hx => Classical.byContradiction fun hh => by
      rw [Nat.testBit_lt_two_pow (Nat.lt_of_lt_of_le hs (Nat.pow_le_pow_right (by omega) (Nat.not_lt.mp hh)))] at hx
      cases hx
    have hs31 : s < 2 ^ 31 := Nat.lt_of_lt_of_le hs (Nat.pow_le_pow_right (by omega) (by omega))
    have hqlen := hQ.lt (fun x hx => (hI.2.1 x hx).1)
    have hpl0 := hpre.length_le
    refine v_aload_n O dX8_grows_71 rfl 0 rfl ?_
    refine v_getf (C := RX8) (T := TX8) (N := 11) (v := .int (nI l0.length)) O in_X8 hR.ob rfl 8 (by decide) rfl q234 (congrArg (fun z => some (Value.int z)) h8) dX8_grows_72 ?_
    refine v_aload_n O dX8_grows_75 rfl 0 rfl ?_
    refine v_getf (C := RX8) (T := TX8) (N := 11) (v := .int (nI Q1.length)) O in_X8 hR.ob rfl 9 (by decide) rfl q235 (congrArg (fun z => some (Value.int z)) e9) dX8_grows_76 ?_
    refine v_icmp_geN (tgt := 274) O dX8_grows_79 (by decide) (by omega) (by omega) (fun h_79 => ?_) (fun h_79 => ?_)
    · have hpl := hpre.length_le
      obtain rfl : l0 = Q1 := hpre.eq_of_length (by omega)
      exact v_lv [0, 1] rfl (kx σ F' I' f base E r hR hf hF1 hIo hI (hL.toC hQ))
    · obtain ⟨tl, etl⟩ := hpre
      have htl : tl ≠ [] := fun e => by rw [e, List.append_nil] at etl; rw [etl] at h_79; omega
      have hpre2 : (l0 ++ [(Q1.getD l0.length 0)]) <+: Q1 := by
        cases tl with
        | nil => exact absurd rfl htl
        | cons y tl2 =>
          have e : (Q1.getD l0.length 0) = y := by rw [← etl]; simp [List.getD_eq_getElem?_getD]
          rw [e]
          exact ⟨tl2, by rw [← etl]; simp⟩
      have hv : E (Q1.getD l0.length 0) = true := (hQ.2 _).mp (hpre2.subset (List.mem_append_right _ (List.mem_singleton.mpr rfl)))
      have hv12 := (hI.2.1 _ hv).1
      refine v_aload_n O dX8_grows_82 rfl 0 rfl ?_
      refine v_getf (C := RX8) (T := TX8) (N := 11) (v := .ref (ad 7)) O in_X8 hR.ob rfl 7 (by decide) rfl q233 rfl dX8_grows_83 ?_
      refine v_aload_n O dX8_grows_86 rfl 0 rfl ?_
      refine v_dup O dX8_grows_87 rfl ?_
      refine v_getf (C := RX8) (T := TX8) (N := 11) (v := .int (nI l0.length)) O in_X8 hR.ob rfl 8 (by decide) rfl q234 (congrArg (fun z => some (Value.int z)) h8) dX8_grows_88 ?_
      refine v_dup_x1 O dX8_grows_91 rfl rfl ?_
      refine v_iconst (v := nI 1) O dX8_grows_92 (by decide) ?_
      refine v_iadd (z := nI (l0.length + 1)) O dX8_grows_93 (nI_add l0.length 1) ?_
      refine r_puti (K := layT) (I' := (va_up I' 8 (nI (l0.length + 1)))) (ty0 := tyX8) O hR in_X8 tyX8_ok nmX8 (show vcl[7]? = some (RX8, TX8, 11) from rfl) 8 (by decide) rfl q234 rfl (tyX8_ok 8 (by decide)) rfl rfl (Nat.le_of_ble_eq_true rfl) rfl dX8_grows_94 (fun σ1 hR1 hf1 => ?_)
      have hN_2 := hNt.fr hf1 (by simpa using hne)
      obtain ⟨wa2, ma2, hob2⟩ := hN_2.ob
      refine v_iald (f := F' 7) O (hR1.ar 7 rfl) (by omega) (by omega) dX8_grows_97 ?_
      refine v_top (y := nI (Q1.getD l0.length 0)) (e7 _ (by omega)) ?_
      refine v_istore_n (lv' := [(2, .int (nI (Q1.getD l0.length 0))), (0, .ref t), (1, .int (nI rt))]) O hN dX8_grows_98 rfl (by decide) rfl ?_
      refine v_iconst (v := nI 0) O dX8_grows_99 (by decide) ?_
      refine v_istore_n (lv' := [(3, .int (nI 0)), (2, .int (nI (Q1.getD l0.length 0))), (0, .ref t), (1, .int (nI rt))]) O hN dX8_grows_100 rfl (by decide) rfl ?_
      refine v_lv [2, 3, 1, 0] rfl ?_
      refine l_X8_grows_in hG O hN hcm0 hsm0 hOk hne hs hM hrt hrtN h10 (l0 := l0) (v := (Q1.getD l0.length 0)) (σ0 := σ0) (F := F) (I := I) (fun σZ FZ IZ fZ bZ EZ rZ QZ hRZ hfZ hFZ hIZ hNZ hSZ hZ8 hZp hZL => ?_) kf (N.1 + 1) 0 _ _ _ f base E r Q1 (by omega) (by omega) hR1 (hf.trans hf1) hF1 (fun q q1 q2 => by rw [← hIo q q1 q2]; simp [va_up, q1]) hN_2 ⟨hI, e1, e2, e3, e4, e7, hQ, by simp [va_up]; exact e9⟩ (by simp [va_up]) hpre2 hL ⟨fun q hq => absurd hq (by omega), fun q hq => absurd hq (by omega)⟩ hv
      refine v_goto (tgt := 71) O dX8_grows_271 (by decide) ?_
      refine v_lv [0, 1] rfl ?_
      exact ih (l0 ++ [(Q1.getD l0.length 0)]) _ _ _ fZ bZ EZ rZ QZ (by rw [List.length_append, List.length_singleton]; omega) hRZ hfZ hFZ hIZ hNZ hSZ (by rw [hZ8, List.length_append, List.length_singleton]) hZp hZL
theorem l_X8_grows_b {G : vGC} (hG : vGok G) {X : vCX} {Q : State → Prop} {c0 n0 : Nat} (O : vOk G X yX8_grows.cls cX8_grows (some .int) 4 0 0) (hN : xn X = 4) (hcm0 : c0 ≤ 0) (hsm0 : n0 ≤ 0) {σ0 : vSt} {t : Nat} {ad : Nat → Nat} {I : Nat → Int32} {F : Nat → Nat → Int32} {L : Nat → Nat → Int64} {rt : Nat} (kx : ∀ (σ : vSt) (F' : Nat → Nat → Int32), RecAt layT σ t ad I F' L → FrL [t] σ0 σ → (∀ j, j ≠ 3 → F' j = F j) → OEnc (F' 3) (fun k => k) → V G X Q c0 n0 σ 37 [(0, .ref t), (1, .int (nI rt)), (2, .int (nI 12))] []) : ∀ (k : Nat) (i : Nat) (σ : vSt) (F' : Nat → Nat → Int32), (12 < i + k) → (i ≤ 12) → (RecAt layT σ t ad I F' L) → (FrL [t] σ0 σ) → (∀ j, j ≠ 3 → F' j = F j) → (∀ j, j < i → F' 3 j = nI j) → V G X Q c0 n0 σ 18 [(0, .ref t), (1, .int (nI rt)), (2, .int (nI i))] [] := by
  intro k
  induction k with
  | zero => intro i σ F' h0 hi hR hf hF h3; exact absurd h0 (by omega)
  | succ k ih =>
    intro i σ F' h0 hi hR hf hF h3
    refine v_iload_n O dX8_grows_18 rfl 2 rfl ?_
    refine v_bipush (v := nI 12) O dX8_grows_19 (by decide) ?_
    refine v_icmp_geN (tgt := 37) O dX8_grows_21 (by decide) (by omega) (by omega) (fun h_21 => ?_) (fun h_21 => ?_)
    · obtain rfl : i = 12 := by omega
      exact v_lv [0, 1, 2] rfl (kx σ F' hR hf hF (fun j hj => by rw [h3 j hj, oI_n hj]))
    · refine v_aload_n O dX8_grows_24 rfl 0 rfl ?_
      refine v_getf (C := RX8) (T := TX8) (N := 11) (v := .ref (ad 3)) O in_X8 hR.ob rfl 3 (by decide) rfl q229 rfl dX8_grows_25 ?_
      refine v_iload_n O dX8_grows_28 rfl 2 rfl ?_
      refine v_iload_n O dX8_grows_29 rfl 2 rfl ?_
      refine r_iast (K := layT) O hR 3 rfl (by omega) (by omega) dX8_grows_30 (fun σ1 hR1 hf1 => ?_)
      refine v_iinc (v := nI (i + 1)) (lv' := [(2, .int (nI (i + 1))), (0, .ref t), (1, .int (nI rt))]) O hN dX8_grows_31 2 rfl (nI_add i 1) (by decide) rfl ?_
      refine v_goto (tgt := 18) O dX8_grows_34 (by decide) ?_
      refine v_lv [1, 2, 0] rfl ?_
      exact ih (i + 1) _ _ (by omega) (by omega) hR1 (hf.trans hf1) (fun j hj => by rw [← hF j hj]; simp [va_up, hj]) (fun j hj => by
        by_cases e : j = i
        · simp [va_up, e]
        · simp only [va_up, if_true, e, if_false]; exact h3 j (by omega))
theorem c_X8_grows {G : vGC} (hG : vGok G) {σ : vSt} {t : Nat} {ad : Nat → Nat} {I : Nat → Int32} {F : Nat → Nat → Int32} {L : Nat → Nat → Int64} (hR : RecAt layT σ t ad I F L) {N : NetM} (hOk : okN N) (hne : ad 0 ≠ t) {s : Nat} (hs : s < 2 ^ N.1) {M : Nat → Nat} (hM : MOk (adjN N.1 N.2.1) s.testBit M) {rt : Nat} (hrt : M rt = 12) (hrtN : rt < N.1) (hNt : NetAt σ (ad 0) N) (h10 : I 10 = nI s) (h1 : OEnc (F 1) M) (hSrt : s.testBit rt = true) : Ct G yX8_grows (ws_ yX8_grows cX8_grows 4 (some .int)) 4 0 0 σ [.ref t, .int (nI rt)] (fun v9 σ9 => ∃ (x : Int32) (F' : Nat → Nat → Int32) (I' : Nat → Int32) (f base : Nat → Nat) (E : Nat → Bool) (r : Nat → Nat), v9 = some (.int x) ∧ RecAt layT σ9 t ad I' F' L ∧ FrL [t] σ σ9 ∧ F' 1 = F 1 ∧ (∀ j, j ≠ 8 → j ≠ 9 → I' j = I j) ∧ EdI (adjN N.1 N.2.1) s.testBit M rt f base E r ∧ ((x = -1 ∧ EdC (adjN N.1 N.2.1) s.testBit M f base E E) ∨ ∃ v j : Nat, x = nI j ∧ OEnc (F' 2) (va_up f j v) ∧ E v = true ∧ j < 12 ∧ s.testBit j = true ∧ j ≠ rt ∧ M j = 12 ∧ adjN N.1 N.2.1 v j = true)) vNo := by
  refine ct_of hG (by decide) (Nat.le_of_ble_eq_true rfl) fun X hN O hnm htb => ?_
  show V G X _ 0 0 σ 0 [(0, .ref t), (1, .int (nI rt))] []
  obtain ⟨wa, ma, hob⟩ := hNt.ob
  have hrt12 : rt < 12 := Nat.lt_of_lt_of_le hrtN hOk.2.1
  refine v_aload_n O dX8_grows_0 rfl 0 rfl ?_
  refine v_getf (C := RX8) (T := TX8) (N := 11) (v := .ref (ad 4)) O in_X8 hR.ob rfl 4 (by decide) rfl q230 rfl dX8_grows_1 ?_
  refine v_iconst (v := nI 0) O dX8_grows_4 (by decide) ?_
  refine v_callS (as := [.ref (ad 4), .int (nI 0)]) (rest := []) O (c_J2_fill_2 hG (f := F 4) (v := false) hR.nz (by omega) (hR.ar 4 rfl)) q277 q278 q76 q279 mdJ2_fill_2 rfl (by decide) (by omega) (by omega) (by omega) (Nat.le_of_ble_eq_true rfl) rfl dX8_grows_5 (fun v9 σ2 hp9 => ?_) (fun _ _ _ h => False.elim h)
  obtain ⟨rfl, hf1, hfb1, g1, hfa1, hfv1⟩ := hp9
  have hR1 := hR.put 4 rfl hfb1 hfa1
  have hN_3 := hNt.fr hf1 (by simpa using hne)
  obtain ⟨wa3, ma3, hob3⟩ := hN_3.ob
  refine v_aload_n O dX8_grows_8 rfl 0 rfl ?_
  refine v_getf (C := RX8) (T := TX8) (N := 11) (v := .ref (ad 2)) O in_X8 hR1.ob rfl 2 (by decide) rfl q228 rfl dX8_grows_9 ?_
  refine v_iconst (v := (-1)) O dX8_grows_12 (by decide) ?_
  refine v_callS (as := [.ref (ad 2), .int (-1)]) (rest := []) O (c_J2_fill hG (f := F 2) (v := (-1)) hR1.nz (by omega) (hR1.ar 2 rfl)) q269 q147 q76 q148 mdJ2_fill rfl (by decide) (by omega) (by omega) (by omega) (Nat.le_of_ble_eq_true rfl) rfl dX8_grows_13 (fun v9 σ5 hp9 => ?_) (fun _ _ _ h => False.elim h)
  obtain ⟨rfl, hf4, hfb4, g4, hfa4, hfv4⟩ := hp9
  have hR4 := hR1.put 2 rfl hfb4 hfa4
  have hN_6 := hN_3.fr hf4 (by simpa using hne)
  obtain ⟨wa6, ma6, hob6⟩ := hN_6.ob
  refine v_iconst (v := nI 0) O dX8_grows_16 (by decide) ?_
  refine v_istore_n (lv' := [(2, .int (nI 0)), (0, .ref t), (1, .int (nI rt))]) O hN dX8_grows_17 rfl (by decide) rfl ?_
  refine v_lv [1, 2, 0] rfl ?_
  refine l_X8_grows_b hG O hN (by omega) (by omega) (σ0 := σ) (F := (va_up (va_up F 4 g1) 2 g4)) (rt := rt) (fun σY FY hRY hfY hFY hY3 => ?_) 13 0 σ5 _ (by omega) (by omega) hR4 (hf1.trans hf4) (fun _ _ => rfl) (fun j hj => absurd hj (by omega))
  have hNY := hNt.fr hfY (by simpa using hne)
  have y1 : FY 1 = F 1 := by rw [hFY 1 (by omega)]; simp [va_up]
  have y2 : OEnc (FY 2) (fun _ => 12) := by rw [hFY 2 (by omega)]; intro j hj; rw [show (va_up (va_up F 4 g1) 2 g4) 2 j = g4 j by simp [va_up]]; exact hfv4 j hj
  have y4 : BEnc (FY 4) (fun _ => false) := by rw [hFY 4 (by omega)]; intro j hj; rw [show (va_up (va_up F 4 g1) 2 g4) 4 j = g1 j by simp [va_up]]; exact hfv1 j hj
  obtain ⟨wa, ma, hobY⟩ := hNY.ob
  refine v_aload_n O dX8_grows_37 rfl 0 rfl ?_
  refine v_getf (C := RX8) (T := TX8) (N := 11) (v := .ref (ad 4)) O in_X8 hRY.ob rfl 4 (by decide) rfl q230 rfl dX8_grows_38 ?_
  refine v_iload_n O dX8_grows_41 rfl 1 rfl ?_
  refine v_iconst (v := nI 1) O dX8_grows_42 (by decide) ?_
  refine r_zast (K := layT) O hRY 4 rfl (by omega) (by omega) rfl dX8_grows_43 (fun σ61 hR61 hf61 => ?_)
  have hN_62 := hNY.fr hf61 (by simpa using hne)
  obtain ⟨wa62, ma62, hob62⟩ := hN_62.ob
  refine v_aload_n O dX8_grows_44 rfl 0 rfl ?_
  refine v_iconst (v := nI 0) O dX8_grows_45 (by decide) ?_
  refine r_puti (K := layT) (I' := (va_up I 8 (nI 0))) (ty0 := tyX8) O hR61 in_X8 tyX8_ok nmX8 (show vcl[7]? = some (RX8, TX8, 11) from rfl) 8 (by decide) rfl q234 rfl (tyX8_ok 8 (by decide)) rfl rfl (Nat.le_of_ble_eq_true rfl) rfl dX8_grows_46 (fun σ63 hR63 hf63 => ?_)
  have hN_64 := hN_62.fr hf63 (by simpa using hne)
  obtain ⟨wa64, ma64, hob64⟩ := hN_64.ob
  refine v_aload_n O dX8_grows_49 rfl 0 rfl ?_
  refine v_iconst (v := nI 0) O dX8_grows_50 (by decide) ?_
  refine r_puti (K := layT) (I' := (va_up (va_up I 8 (nI 0)) 9 (nI 0))) (ty0 := tyX8) O hR63 in_X8 tyX8_ok nmX8 (show vcl[7]? = some (RX8, TX8, 11) from rfl) 9 (by decide) rfl q235 rfl (tyX8_ok 9 (by decide)) rfl rfl (Nat.le_of_ble_eq_true rfl) rfl dX8_grows_51 (fun σ65 hR65 hf65 => ?_)
  have hN_66 := hN_64.fr hf65 (by simpa using hne)
  obtain ⟨wa66, ma66, hob66⟩ := hN_66.ob
  refine v_aload_n O dX8_grows_54 rfl 0 rfl ?_
  refine v_getf (C := RX8) (T := TX8) (N := 11) (v := .ref (ad 7)) O in_X8 hR65.ob rfl 7 (by decide) rfl q233 rfl dX8_grows_55 ?_
  refine v_aload_n O dX8_grows_58 rfl 0 rfl ?_
  refine v_dup O dX8_grows_59 rfl ?_
  refine v_getf (C := RX8) (T := TX8) (N := 11) (v := .int (nI 0)) O in_X8 hR65.ob rfl 9 (by decide) rfl q235 rfl dX8_grows_60 ?_
  refine v_dup_x1 O dX8_grows_63 rfl rfl ?_
  refine v_iconst (v := nI 1) O dX8_grows_64 (by decide) ?_
  refine v_iadd (z := nI (0 + 1)) O dX8_grows_65 (nI_add 0 1) ?_
  refine r_puti (K := layT) (I' := (va_up (va_up (va_up I 8 (nI 0)) 9 (nI 0)) 9 (nI (0 + 1)))) (ty0 := tyX8) O hR65 in_X8 tyX8_ok nmX8 (show vcl[7]? = some (RX8, TX8, 11) from rfl) 9 (by decide) rfl q235 rfl (tyX8_ok 9 (by decide)) rfl rfl (Nat.le_of_ble_eq_true rfl) rfl dX8_grows_66 (fun σ67 hR67 hf67 => ?_)
  have hN_68 := hN_66.fr hf67 (by simpa using hne)
  obtain ⟨wa68, ma68, hob68⟩ := hN_68.ob
  refine v_iload_n O dX8_grows_69 rfl 1 rfl ?_
  refine r_iast (K := layT) O hR67 7 rfl (by omega) (by omega) dX8_grows_70 (fun σ69 hR69 hf69 => ?_)
  have hN_70 := hN_68.fr hf69 (by simpa using hne)
  obtain ⟨wa70, ma70, hob70⟩ := hN_70.ob
  refine v_lv [0, 1] rfl ?_
  refine l_X8_grows hG O hN (by omega) (by omega) hOk hne hs hM hrt hrtN h10 (σ0 := σ) (F := F) (I := I) (fun σZ FZ IZ fZ bZ EZ rZ hRZ hfZ hFZ hIZ hIZ2 hCZ => ?_) (fun σZ FZ IZ fZ bZ EZ rZ v j hRZ hfZ hFZ hIZ hIZ2 hZ2 hEv hj hSj hjr hMj hadj => ?_) 13 [] _ _ _ (fun _ => 12) (fun k => k) (fun k => k == rt) (fun _ => 0) [rt] (by show 12 < 0 + 13; omega) hR69 (((((hfY.trans hf61).trans hf63).trans hf65).trans hf67).trans hf69) (by simp [va_up]; exact y1) (fun q q1 q2 => by simp [va_up, q1, q2]) hN_70 ⟨EdI.init hrt12 hSrt, by simp [va_up]; rw [y1]; exact h1, by simp [va_up]; exact y2, by simp [va_up]; exact hY3, by simp [va_up]; exact (y4.up rt).to fun j hj => (by
    by_cases e : j = rt
    · rw [e, up_t]; simp
    · rw [up_f _ _ e, beq_false_of_ne e]), fun i hi => by
    obtain rfl : i = 0 := by simp only [List.length_singleton] at hi; omega
    simp [va_up], ⟨List.pairwise_singleton .., fun x => by simp⟩, by simp [va_up]⟩ (by simp [va_up]) (List.nil_prefix ..) ⟨fun x hx => (nomatch hx), fun x k hx => (nomatch hx), fun x y hx => (nomatch hx)⟩
  · refine v_iconst (v := (-1)) O dX8_grows_274 (by decide) ?_
    exact v_iret O rfl dX8_grows_275 (by omega) (by omega) (⟨-1, FZ, IZ, fZ, bZ, EZ, rZ, rfl, hRZ, hfZ, hFZ, hIZ, hIZ2, .inl ⟨rfl, hCZ⟩⟩)
  · refine v_iload_n O dX8_grows_229 rfl 3 rfl ?_
    exact v_iret O rfl dX8_grows_230 (by omega) (by omega) (⟨nI j, FZ, IZ, fZ, bZ, EZ, rZ, rfl, hRZ, hfZ, hFZ, hIZ, hIZ2, .inr ⟨v, j, rfl, hZ2, hEv, hj, hSj, hjr, hMj, hadj⟩⟩)
