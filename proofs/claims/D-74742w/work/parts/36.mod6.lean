theorem fstb_le {s k : Nat} (h : s < 4096) (hk : s.testBit k = true) : fstb s ≤ k := by
  rcases fstb_ok s h with e | ⟨h1, h2, h3, h4⟩
  · subst e; rw [Nat.zero_testBit] at hk; cases hk
  · apply Nat.le_of_not_lt
    intro h5
    rw [h4 k h5] at hk
    cases hk
theorem mdX3_has : vMd yX3_has 2 := ⟨by decide +kernel, by decide +kernel, by decide +kernel⟩
theorem l_X3_first {G : vGC} (hG : vGok G) {X : vCX} {Q : State → Prop} {c0 n0 : Nat} (O : vOk G X yX3_first.cls cX3_first (some .int) 2 0 0) (hN : xn X = 2) (hcm0 : c0 ≤ 0) (hsm0 : n0 ≤ 0) {s : Nat} (hs : s < 4096) (hs1 : s.testBit (fstb s) = true) (hs2 : fstb s < 12) (hs3 : ∀ j, j < fstb s → s.testBit j = false) {σ : vSt} (kx : V G X Q c0 n0 σ 16 [(0, .int (nI s)), (1, .int (nI (fstb s)))] []) : ∀ (k : Nat) (i : Nat), (fstb s < i + k) → (i ≤ fstb s) → V G X Q c0 n0 σ 2 [(0, .int (nI s)), (1, .int (nI i))] [] := by
  intro k
  induction k with
  | zero => intro i h0 h1; exact absurd h0 (by omega)
  | succ k ih =>
    intro i h0 h1
    refine v_iload_n O dX3_first_2 rfl 0 rfl ?_
    refine v_iload_n O dX3_first_3 rfl 1 rfl ?_
    refine v_callS (as := [.int (nI s), .int (nI i)]) (rest := []) O (c_X3_has hG (s := s) (k := i) (by omega) (by omega)) q1741 q1742 q77 q1743 mdX3_has rfl (by decide) (by omega) (by omega) (by omega) (Nat.le_of_ble_eq_true rfl) rfl dX3_first_4 (fun v9 σ9 hp9 => ?_) (fun _ _ _ h => False.elim h)
    obtain ⟨rfl, hs9⟩ := hp9
    obtain rfl := hs9.symm
    refine v_if_neB (tgt := 16) O dX3_first_7 (by decide) (fun h_7 => ?_) (fun h_7 => ?_)
    · obtain rfl : i = fstb s := by
        refine Nat.le_antisymm h1 (Nat.le_of_not_lt fun h => ?_)
        rw [hs3 i h] at h_7
        cases h_7
      exact kx
    · refine v_iinc (v := nI (i + 1)) (lv' := [(1, .int (nI (i + 1))), (0, .int (nI s))]) O hN dX3_first_10 1 rfl (nI_add i 1) (by decide) rfl ?_
      refine v_goto (tgt := 2) O dX3_first_13 (by decide) ?_
      refine v_lv [1, 0] rfl ?_
      exact ih (i + 1) (by omega) (by have : i ≠ fstb s := (fun e => by rw [e, hs1] at h_7; cases h_7); omega)
theorem c_X3_first {G : vGC} (hG : vGok G) {σ : vSt} {s : Nat} (hs : s < 4096) (hs0 : s ≠ 0) : Ct G yX3_first (ws_ yX3_first cX3_first 2 (some .int)) 2 0 0 σ [.int (nI s)] (fun v σ9 => v = some (.int (nI (fstb s))) ∧ σ9 = σ) vNo := by
  refine ct_of hG (by decide) (Nat.le_of_ble_eq_true rfl) fun X hN O hnm htb => ?_
  show V G X _ 0 0 σ 0 [(0, .int (nI s))] []
  obtain ⟨hs1, hs2, -, hs3⟩ := (fstb_ok s hs).resolve_left hs0
  refine v_iconst (v := nI 0) O dX3_first_0 (by decide) ?_
  refine v_istore_n (lv' := [(1, .int (nI 0)), (0, .int (nI s))]) O hN dX3_first_1 rfl (by decide) rfl ?_
  refine v_lv [1, 0] rfl ?_
  refine l_X3_first hG O hN (by omega) (by omega) hs hs1 hs2 hs3 ?_ (fstb s + 1) 0 (by omega) (by omega)
  refine v_iload_n O dX3_first_16 rfl 1 rfl ?_
  exact v_iret O rfl dX3_first_17 (by omega) (by omega) ⟨rfl, rfl⟩
theorem l_X3_bits {G : vGC} (hG : vGok G) {X : vCX} {Q : State → Prop} {c0 n0 : Nat} (O : vOk G X yX3_bits.cls cX3_bits (some .int) 1 0 0) (hN : xn X = 3) (hcm0 : c0 ≤ 0) (hsm0 : n0 ≤ 0) {s0 : Nat} {σ : vSt} (kx : V G X Q c0 n0 σ 20 [(0, .int (nI s0)), (1, .int (nI (pcn s0))), (2, .int (nI 0))] []) : ∀ (k : Nat) (i : Nat) (s : Nat), (pcn s < k) → (s < 4096) → (i + pcn s = pcn s0) → V G X Q c0 n0 σ 4 [(0, .int (nI s0)), (1, .int (nI i)), (2, .int (nI s))] [] := by
  intro k
  induction k with
  | zero => intro i s h0 h1 h2; exact absurd h0 (by omega)
  | succ k ih =>
    intro i s h0 h1 h2
    refine v_iload_n O dX3_bits_4 rfl 2 rfl ?_
    refine v_if_eqN (tgt := 20) O dX3_bits_5 (by decide) (by omega) (fun h_5 => ?_) (fun h_5 => ?_)
    · subst h_5
      rw [pcn_0, Nat.add_zero] at h2
      subst h2
      exact kx
    · have hp := (pcn_pred s h1).resolve_left h_5
      refine v_iinc (v := nI (i + 1)) (lv' := [(1, .int (nI (i + 1))), (0, .int (nI s0)), (2, .int (nI s))]) O hN dX3_bits_8 1 rfl (nI_add i 1) (by decide) rfl ?_
      refine v_iload_n O dX3_bits_11 rfl 2 rfl ?_
      refine v_iload_n O dX3_bits_12 rfl 2 rfl ?_
      refine v_iconst (v := nI 1) O dX3_bits_13 (by decide) ?_
      refine v_isub (z := nI (s - 1)) O dX3_bits_14 (pk_sub (by omega)) ?_
      refine v_iand (z := nI (s &&& (s - 1))) O dX3_bits_15 (bx_and s (s - 1)) ?_
      refine v_istore_n (lv' := [(2, .int (nI (s &&& (s - 1)))), (1, .int (nI (i + 1))), (0, .int (nI s0))]) O hN dX3_bits_16 rfl (by decide) rfl ?_
      refine v_goto (tgt := 4) O dX3_bits_17 (by decide) ?_
      refine v_lv [2, 1, 0] rfl ?_
      exact ih (i + 1) (s &&& (s - 1)) (by omega) (and_lt h1) (by omega)
theorem c_X3_bits {G : vGC} (hG : vGok G) {σ : vSt} {s : Nat} (hs : s < 4096) : Ct G yX3_bits (ws_ yX3_bits cX3_bits 3 (some .int)) 1 0 0 σ [.int (nI s)] (fun v σ9 => v = some (.int (nI (pcn s))) ∧ σ9 = σ) vNo := by
  refine ct_of hG (by decide) (Nat.le_of_ble_eq_true rfl) fun X hN O hnm htb => ?_
  show V G X _ 0 0 σ 0 [(0, .int (nI s))] []
  refine v_iconst (v := nI 0) O dX3_bits_0 (by decide) ?_
  refine v_istore_n (lv' := [(1, .int (nI 0)), (0, .int (nI s))]) O hN dX3_bits_1 rfl (by decide) rfl ?_
  refine v_iload_n O dX3_bits_2 rfl 1 rfl ?_
  refine v_istore_n (lv' := [(2, .int (nI s)), (1, .int (nI 0)), (0, .int (nI s))]) O hN dX3_bits_3 rfl (by decide) rfl ?_
  refine v_lv [2, 1, 0] rfl ?_
  refine l_X3_bits hG O hN (by omega) (by omega) ?_ (pcn s + 1) 0 s (by omega) hs (by omega)
  refine v_iload_n O dX3_bits_20 rfl 1 rfl ?_
  exact v_iret O rfl dX3_bits_21 (by omega) (by omega) ⟨rfl, rfl⟩
theorem neg_lt {a : Nat} (h : a < 2 ^ 31) : (-1 : Int32) < nI a := by
  rw [Int32.lt_iff_toInt_lt, nI_toInt h]
  have h2 : (-1 : Int32).toInt = -1 := by decide
  omega
theorem mdX3_less : vMd yX3_less 2 := ⟨by decide +kernel, by decide +kernel, by decide +kernel⟩
theorem c_X3_adds0 {G : vGC} (hG : vGok G) {σ : vSt} {m : Nat} {ad : Nat → Nat} {I : Nat → Int32} {F : Nat → Nat → Int32} {L : Nat → Nat → Int64} (hR : RecAt layM σ m ad I F L) {d : D4} {s f : Nat} (hs : s < 4096) (hf : f < 4096) (hsf : f ≠ s) (hd : EntIs F L f d) (hb : d.1 ≤ 12 ∧ d.2.1 ≤ 13 ^ 12 ∧ d.2.2.1 ≤ 999 * 12 ∧ d.2.2.2 ≤ 999 * 12) (he : F 15 s = -1) : Ct G yX3_adds (ws_ yX3_adds cX3_adds 6 none) 2 0 0 σ [.ref m, .int (nI s), .int (nI f), .int (nI 0), .int (nI 0)] (fun v σ9 => v = none ∧ ∃ (F' : Nat → Nat → Int32) (L' : Nat → Nat → Int64), RecAt layM σ9 m ad I F' L' ∧ EntIs F' L' s d ∧ Oth F F' L L' s ∧ FrL [m] σ σ9) vNo := by
  refine ct_of hG (by decide) (Nat.le_of_ble_eq_true rfl) fun X hN O hnm htb => ?_
  show V G X _ 0 0 σ 0 [(0, .ref m), (1, .int (nI s)), (2, .int (nI f)), (3, .int (nI 0)), (4, .int (nI 0))] []
  obtain ⟨hd1, hd2, hd3, hd4⟩ := hd
  obtain ⟨hb1, hb2, hb3, hb4⟩ := hb
  refine v_aload_n O dX3_adds_0 rfl 0 rfl ?_
  refine v_getf (C := RX3) (T := TX3) (N := 27) (v := .ref (ad 15)) O in_X3 hR.ob rfl 15 (by decide) rfl q1507 rfl dX3_adds_1 ?_
  refine v_iload_n O dX3_adds_4 rfl 2 rfl ?_
  refine v_iald (f := F 15) O (hR.ar 15 rfl) (by omega) (by omega) dX3_adds_5 ?_
  refine v_top (y := nI d.1) hd1 ?_
  refine v_iload_n O dX3_adds_6 rfl 3 rfl ?_
  refine v_iadd (z := nI (d.1 + 0)) O dX3_adds_7 (nI_add d.1 0) ?_
  refine v_istore (lv' := [(5, .int (nI (d.1 + 0))), (0, .ref m), (1, .int (nI s)), (2, .int (nI f)), (3, .int (nI 0)), (4, .int (nI 0))]) O hN dX3_adds_8 (by decide) rfl ?_
  refine v_iload O dX3_adds_10 0 rfl ?_
  refine v_aload_n O dX3_adds_12 rfl 1 rfl ?_
  refine v_getf (C := RX3) (T := TX3) (N := 27) (v := .ref (ad 15)) O in_X3 hR.ob rfl 15 (by decide) rfl q1507 rfl dX3_adds_13 ?_
  refine v_iload_n O dX3_adds_16 rfl 2 rfl ?_
  refine v_iald (f := F 15) O (hR.ar 15 rfl) (by omega) (by omega) dX3_adds_17 ?_
  refine v_top (y := (-1)) he ?_
  refine v_icmp_ge (tgt := 22) O dX3_adds_18 (by decide) (fun h_18 => ?_) (fun h_18 => ?_)
  · refine v_iload O dX3_adds_22 0 rfl ?_
    refine v_aload_n O dX3_adds_24 rfl 1 rfl ?_
    refine v_getf (C := RX3) (T := TX3) (N := 27) (v := .ref (ad 15)) O in_X3 hR.ob rfl 15 (by decide) rfl q1507 rfl dX3_adds_25 ?_
    refine v_iload_n O dX3_adds_28 rfl 2 rfl ?_
    refine v_iald (f := F 15) O (hR.ar 15 rfl) (by omega) (by omega) dX3_adds_29 ?_
    refine v_top (y := (-1)) he ?_
    refine v_icmp_le (tgt := 55) O dX3_adds_30 (by decide) (fun h_30 => ?_) (fun h_30 => ?_)
    · exact absurd h_30 (Int32.not_le.mpr (neg_lt (by omega)))
    · refine v_aload_n O dX3_adds_33 rfl 1 rfl ?_
      refine v_getf (C := RX3) (T := TX3) (N := 27) (v := .ref (ad 18)) O in_X3 hR.ob rfl 18 (by decide) rfl q1510 rfl dX3_adds_34 ?_
      refine v_iload_n O dX3_adds_37 rfl 2 rfl ?_
      refine v_lconst (v := 0) O dX3_adds_38 (by decide) ?_
      refine r_last (K := layM) O hR 18 rfl (by omega) (by omega) dX3_adds_39 (fun σ1 hR1 hf1 => ?_)
      refine v_aload_n O dX3_adds_40 rfl 1 rfl ?_
      refine v_getf (C := RX3) (T := TX3) (N := 27) (v := .ref (ad 16)) O in_X3 hR1.ob rfl 16 (by decide) rfl q1508 rfl dX3_adds_41 ?_
      refine v_iload_n O dX3_adds_44 rfl 2 rfl ?_
      refine v_iconst (v := (-1)) O dX3_adds_45 (by decide) ?_
      refine r_iast (K := layM) O hR1 16 rfl (by omega) (by omega) dX3_adds_46 (fun σ2 hR2 hf2 => ?_)
      refine v_aload_n O dX3_adds_47 rfl 1 rfl ?_
      refine v_getf (C := RX3) (T := TX3) (N := 27) (v := .ref (ad 17)) O in_X3 hR2.ob rfl 17 (by decide) rfl q1509 rfl dX3_adds_48 ?_
      refine v_iload_n O dX3_adds_51 rfl 2 rfl ?_
      refine v_ldc O q1767 dX3_adds_52 ?_
      rw [show (2147483647 : Int32) = nI 2147483647 from rfl]
      refine r_iast (K := layM) O hR2 17 rfl (by omega) (by omega) dX3_adds_54 (fun σ3 hR3 hf3 => ?_)
      refine v_aload_n O dX3_adds_55 rfl 1 rfl ?_
      refine v_getf (C := RX3) (T := TX3) (N := 27) (v := .ref (ad 15)) O in_X3 hR3.ob rfl 15 (by decide) rfl q1507 rfl dX3_adds_56 ?_
      refine v_iload_n O dX3_adds_59 rfl 2 rfl ?_
      refine v_iload O dX3_adds_60 0 rfl ?_
      refine r_iast (K := layM) O hR3 15 rfl (by omega) (by omega) dX3_adds_62 (fun σ4 hR4 hf4 => ?_)
      refine v_aload_n O dX3_adds_63 rfl 1 rfl ?_
      refine v_getf (C := RX3) (T := TX3) (N := 27) (v := .ref (ad 18)) O in_X3 hR4.ob rfl 18 (by decide) rfl q1510 rfl dX3_adds_64 ?_
      refine v_iload_n O dX3_adds_67 rfl 2 rfl ?_
      refine v_dup2 O dX3_adds_68 rfl rfl ?_
      refine v_lald (f := (va_up L 18 (va_up (L 18) s 0)) 18) O (hR4.lg 18 rfl) (by omega) (by omega) dX3_adds_69 ?_
      refine v_topl (y := lN 0) (by simp [va_up]; rfl) ?_
      refine v_aload_n O dX3_adds_70 rfl 1 rfl ?_
      refine v_getf (C := RX3) (T := TX3) (N := 27) (v := .ref (ad 18)) O in_X3 hR4.ob rfl 18 (by decide) rfl q1510 rfl dX3_adds_71 ?_
      refine v_iload_n O dX3_adds_74 rfl 3 rfl ?_
      refine v_lald (f := (va_up L 18 (va_up (L 18) s 0)) 18) O (hR4.lg 18 rfl) (by omega) (by omega) dX3_adds_75 ?_
      refine v_topl (y := lN d.2.1) (by simp [va_up, hsf, Ne.symm hsf, hd1, hd2, hd3, hd4]) ?_
      refine v_ladd (z := lN (0 + d.2.1)) O dX3_adds_76 (lN_add _ _) ?_
      refine r_last (K := layM) O hR4 18 rfl (by omega) (by omega) dX3_adds_77 (fun σ5 hR5 hf5 => ?_)
      refine v_aload_n O dX3_adds_78 rfl 1 rfl ?_
      refine v_getf (C := RX3) (T := TX3) (N := 27) (v := .ref (ad 16)) O in_X3 hR5.ob rfl 16 (by decide) rfl q1508 rfl dX3_adds_79 ?_
      refine v_iload_n O dX3_adds_82 rfl 2 rfl ?_
      refine v_aload_n O dX3_adds_83 rfl 1 rfl ?_
      refine v_getf (C := RX3) (T := TX3) (N := 27) (v := .ref (ad 16)) O in_X3 hR5.ob rfl 16 (by decide) rfl q1508 rfl dX3_adds_84 ?_
      refine v_iload_n O dX3_adds_87 rfl 2 rfl ?_
      refine v_iald (f := (va_up (F 16) s (-1))) O (hR5.ar 16 rfl) (by omega) (by omega) dX3_adds_88 ?_
      refine v_top (y := (-1)) (by simp [va_up]) ?_
      refine v_aload_n O dX3_adds_89 rfl 1 rfl ?_
      refine v_getf (C := RX3) (T := TX3) (N := 27) (v := .ref (ad 16)) O in_X3 hR5.ob rfl 16 (by decide) rfl q1508 rfl dX3_adds_90 ?_
      refine v_iload_n O dX3_adds_93 rfl 3 rfl ?_
      refine v_iald (f := (va_up (F 16) s (-1))) O (hR5.ar 16 rfl) (by omega) (by omega) dX3_adds_94 ?_
      refine v_top (y := nI d.2.2.1) (by simp [va_up, hsf, Ne.symm hsf, hd1, hd2, hd3, hd4]) ?_
      refine v_iload O dX3_adds_95 5 rfl ?_
      refine v_iadd (z := nI (d.2.2.1 + 0)) O dX3_adds_97 (nI_add d.2.2.1 0) ?_
      refine v_icmp_le (tgt := 110) O dX3_adds_98 (by decide) (fun h_98 => ?_) (fun h_98 => ?_)
      · refine v_aload_n O dX3_adds_110 rfl 1 rfl ?_
        refine v_getf (C := RX3) (T := TX3) (N := 27) (v := .ref (ad 16)) O in_X3 hR5.ob rfl 16 (by decide) rfl q1508 rfl dX3_adds_111 ?_
        refine v_iload_n O dX3_adds_114 rfl 3 rfl ?_
        refine v_iald (f := (va_up (F 16) s (-1))) O (hR5.ar 16 rfl) (by omega) (by omega) dX3_adds_115 ?_
        refine v_top (y := nI d.2.2.1) (by simp [va_up, hsf, Ne.symm hsf, hd1, hd2, hd3, hd4]) ?_
        refine v_iload O dX3_adds_116 5 rfl ?_
        refine v_iadd (z := nI (d.2.2.1 + 0)) O dX3_adds_118 (nI_add d.2.2.1 0) ?_
        refine r_iast (K := layM) O hR5 16 rfl (by omega) (by omega) dX3_adds_119 (fun σ6 hR6 hf6 => ?_)
        refine v_aload_n O dX3_adds_120 rfl 1 rfl ?_
        refine v_getf (C := RX3) (T := TX3) (N := 27) (v := .ref (ad 17)) O in_X3 hR6.ob rfl 17 (by decide) rfl q1509 rfl dX3_adds_121 ?_
        refine v_iload_n O dX3_adds_124 rfl 2 rfl ?_
        refine v_aload_n O dX3_adds_125 rfl 1 rfl ?_
        refine v_getf (C := RX3) (T := TX3) (N := 27) (v := .ref (ad 17)) O in_X3 hR6.ob rfl 17 (by decide) rfl q1509 rfl dX3_adds_126 ?_
        refine v_iload_n O dX3_adds_129 rfl 2 rfl ?_
        refine v_iald (f := (va_up (F 17) s (nI 2147483647))) O (hR6.ar 17 rfl) (by omega) (by omega) dX3_adds_130 ?_
        refine v_top (y := nI 2147483647) (by simp [va_up]) ?_
        refine v_aload_n O dX3_adds_131 rfl 1 rfl ?_
        refine v_getf (C := RX3) (T := TX3) (N := 27) (v := .ref (ad 17)) O in_X3 hR6.ob rfl 17 (by decide) rfl q1509 rfl dX3_adds_132 ?_
        refine v_iload_n O dX3_adds_135 rfl 3 rfl ?_
        refine v_iald (f := (va_up (F 17) s (nI 2147483647))) O (hR6.ar 17 rfl) (by omega) (by omega) dX3_adds_136 ?_
        refine v_top (y := nI d.2.2.2) (by simp [va_up, hsf, Ne.symm hsf, hd1, hd2, hd3, hd4]) ?_
        refine v_iload O dX3_adds_137 5 rfl ?_
        refine v_iadd (z := nI (d.2.2.2 + 0)) O dX3_adds_139 (nI_add d.2.2.2 0) ?_
        refine v_callS (as := [.int (nI 2147483647), .int (nI (d.2.2.2 + 0))]) (rest := [.int (nI s), .ref (ad 17)]) O (c_X3_less hG (a := 2147483647) (b := d.2.2.2 + 0) (by omega) (by omega)) q1635 q1636 q77 q1637 mdX3_less rfl (by decide) (by omega) (by omega) (by omega) (Nat.le_of_ble_eq_true rfl) rfl dX3_adds_140 (fun v9 σ9 hp9 => ?_) (fun _ _ _ h => False.elim h)
        obtain ⟨rfl, hs9⟩ := hp9
        obtain rfl := hs9.symm
        refine r_iast (K := layM) O hR6 17 rfl (by omega) (by omega) dX3_adds_143 (fun σ7 hR7 hf7 => ?_)
        exact v_vret O rfl dX3_adds_144 (by omega) (by omega) (⟨rfl, _, _, hR7, ⟨by simp [va_up], by simp [va_up], by simp [va_up], by simp [va_up, Nat.min_eq_right (show d.2.2.2 ≤ 2147483647 by omega)]⟩, Oth.put (by intro t ht; simp [va_up, ht]) (by intro t ht; simp [va_up, ht]) (by intro t ht; simp [va_up, ht]) (by intro t ht; simp [va_up, ht]) (by intro j h1 h2 h3; funext z; simp [va_up, h1, h2, h3]), ((((((hf1.trans hf2).trans hf3).trans hf4).trans hf5).trans hf6).trans hf7)⟩)
      · exact absurd h_98 (fun h => h (Int32.le_of_lt (neg_lt (by omega))))
  · exact absurd h_18 (fun h => h (Int32.le_of_lt (neg_lt (by omega))))
theorem c_X3_adds1 {G : vGC} (hG : vGok G) {σ : vSt} {m : Nat} {ad : Nat → Nat} {I : Nat → Int32} {F : Nat → Nat → Int32} {L : Nat → Nat → Int64} (hR : RecAt layM σ m ad I F L) {c d : D4} {s f w : Nat} (hw : w ≤ 999) (hs : s < 4096) (hf : f < 4096) (hsf : f ≠ s) (hd : EntIs F L f d) (hb : d.1 ≤ 12 ∧ d.2.1 ≤ 13 ^ 12 ∧ d.2.2.1 ≤ 999 * 12 ∧ d.2.2.2 ≤ 999 * 12) (hc : EntIs F L s c) (hcb : c.1 ≤ 13 ∧ c.2.2.1 ≤ 999 * 13 ∧ c.2.2.2 ≤ 999 * 13) : Ct G yX3_adds (ws_ yX3_adds cX3_adds 6 none) 2 0 0 σ [.ref m, .int (nI s), .int (nI f), .int (nI 1), .int (nI w)] (fun v σ9 => v = none ∧ ∃ (F' : Nat → Nat → Int32) (L' : Nat → Nat → Int64), RecAt layM σ9 m ad I F' L' ∧ EntIs F' L' s (comb c (bump d w)) ∧ Oth F F' L L' s ∧ FrL [m] σ σ9) vNo := by
  refine ct_of hG (by decide) (Nat.le_of_ble_eq_true rfl) fun X hN O hnm htb => ?_
  show V G X _ 0 0 σ 0 [(0, .ref m), (1, .int (nI s)), (2, .int (nI f)), (3, .int (nI 1)), (4, .int (nI w))] []
  obtain ⟨hd1, hd2, hd3, hd4⟩ := hd
  obtain ⟨hb1, hb2, hb3, hb4⟩ := hb
  obtain ⟨hc1, hc2, hc3, hc4⟩ := hc
  obtain ⟨hcb1, hcb3, hcb4⟩ := hcb
  refine v_aload_n O dX3_adds_0 rfl 0 rfl ?_
  refine v_getf (C := RX3) (T := TX3) (N := 27) (v := .ref (ad 15)) O in_X3 hR.ob rfl 15 (by decide) rfl q1507 rfl dX3_adds_1 ?_
  refine v_iload_n O dX3_adds_4 rfl 2 rfl ?_
  refine v_iald (f := F 15) O (hR.ar 15 rfl) (by omega) (by omega) dX3_adds_5 ?_
  refine v_top (y := nI d.1) hd1 ?_
  refine v_iload_n O dX3_adds_6 rfl 3 rfl ?_
  refine v_iadd (z := nI (d.1 + 1)) O dX3_adds_7 (nI_add d.1 1) ?_
  refine v_istore (lv' := [(5, .int (nI (d.1 + 1))), (0, .ref m), (1, .int (nI s)), (2, .int (nI f)), (3, .int (nI 1)), (4, .int (nI w))]) O hN dX3_adds_8 (by decide) rfl ?_
  refine v_iload O dX3_adds_10 0 rfl ?_
  refine v_aload_n O dX3_adds_12 rfl 1 rfl ?_
  refine v_getf (C := RX3) (T := TX3) (N := 27) (v := .ref (ad 15)) O in_X3 hR.ob rfl 15 (by decide) rfl q1507 rfl dX3_adds_13 ?_
  refine v_iload_n O dX3_adds_16 rfl 2 rfl ?_
  refine v_iald (f := F 15) O (hR.ar 15 rfl) (by omega) (by omega) dX3_adds_17 ?_
  refine v_top (y := nI c.1) hc1 ?_
  refine v_icmp_geN (tgt := 22) O dX3_adds_18 (by decide) (by omega) (by omega) (fun h_18 => ?_) (fun h_18 => ?_)
  · refine v_iload O dX3_adds_22 0 rfl ?_
    refine v_aload_n O dX3_adds_24 rfl 1 rfl ?_
    refine v_getf (C := RX3) (T := TX3) (N := 27) (v := .ref (ad 15)) O in_X3 hR.ob rfl 15 (by decide) rfl q1507 rfl dX3_adds_25 ?_
    refine v_iload_n O dX3_adds_28 rfl 2 rfl ?_
    refine v_iald (f := F 15) O (hR.ar 15 rfl) (by omega) (by omega) dX3_adds_29 ?_
    refine v_top (y := nI c.1) hc1 ?_
    refine v_icmp_leN (tgt := 55) O dX3_adds_30 (by decide) (by omega) (by omega) (fun h_30 => ?_) (fun h_30 => ?_)
    · refine v_aload_n O dX3_adds_55 rfl 1 rfl ?_
      refine v_getf (C := RX3) (T := TX3) (N := 27) (v := .ref (ad 15)) O in_X3 hR.ob rfl 15 (by decide) rfl q1507 rfl dX3_adds_56 ?_
      refine v_iload_n O dX3_adds_59 rfl 2 rfl ?_
      refine v_iload O dX3_adds_60 0 rfl ?_
      refine r_iast (K := layM) O hR 15 rfl (by omega) (by omega) dX3_adds_62 (fun σ1 hR1 hf1 => ?_)
      refine v_aload_n O dX3_adds_63 rfl 1 rfl ?_
      refine v_getf (C := RX3) (T := TX3) (N := 27) (v := .ref (ad 18)) O in_X3 hR1.ob rfl 18 (by decide) rfl q1510 rfl dX3_adds_64 ?_
      refine v_iload_n O dX3_adds_67 rfl 2 rfl ?_
      refine v_dup2 O dX3_adds_68 rfl rfl ?_
      refine v_lald (f := L 18) O (hR1.lg 18 rfl) (by omega) (by omega) dX3_adds_69 ?_
      refine v_topl (y := lN c.2.1) (by simp [va_up, hsf, Ne.symm hsf, hd1, hd2, hd3, hd4, hc1, hc2, hc3, hc4]) ?_
      refine v_aload_n O dX3_adds_70 rfl 1 rfl ?_
      refine v_getf (C := RX3) (T := TX3) (N := 27) (v := .ref (ad 18)) O in_X3 hR1.ob rfl 18 (by decide) rfl q1510 rfl dX3_adds_71 ?_
      refine v_iload_n O dX3_adds_74 rfl 3 rfl ?_
      refine v_lald (f := L 18) O (hR1.lg 18 rfl) (by omega) (by omega) dX3_adds_75 ?_
      refine v_topl (y := lN d.2.1) (by simp [va_up, hsf, Ne.symm hsf, hd1, hd2, hd3, hd4, hc1, hc2, hc3, hc4]) ?_
      refine v_ladd (z := lN (c.2.1 + d.2.1)) O dX3_adds_76 (lN_add _ _) ?_
      refine r_last (K := layM) O hR1 18 rfl (by omega) (by omega) dX3_adds_77 (fun σ2 hR2 hf2 => ?_)
      refine v_aload_n O dX3_adds_78 rfl 1 rfl ?_
      refine v_getf (C := RX3) (T := TX3) (N := 27) (v := .ref (ad 16)) O in_X3 hR2.ob rfl 16 (by decide) rfl q1508 rfl dX3_adds_79 ?_
      refine v_iload_n O dX3_adds_82 rfl 2 rfl ?_
      refine v_aload_n O dX3_adds_83 rfl 1 rfl ?_
      refine v_getf (C := RX3) (T := TX3) (N := 27) (v := .ref (ad 16)) O in_X3 hR2.ob rfl 16 (by decide) rfl q1508 rfl dX3_adds_84 ?_
      refine v_iload_n O dX3_adds_87 rfl 2 rfl ?_
      refine v_iald (f := F 16) O (hR2.ar 16 rfl) (by omega) (by omega) dX3_adds_88 ?_
      refine v_top (y := nI c.2.2.1) (by simp [va_up, hsf, Ne.symm hsf, hd1, hd2, hd3, hd4, hc1, hc2, hc3, hc4]) ?_
      refine v_aload_n O dX3_adds_89 rfl 1 rfl ?_
      refine v_getf (C := RX3) (T := TX3) (N := 27) (v := .ref (ad 16)) O in_X3 hR2.ob rfl 16 (by decide) rfl q1508 rfl dX3_adds_90 ?_
      refine v_iload_n O dX3_adds_93 rfl 3 rfl ?_
      refine v_iald (f := F 16) O (hR2.ar 16 rfl) (by omega) (by omega) dX3_adds_94 ?_
      refine v_top (y := nI d.2.2.1) (by simp [va_up, hsf, Ne.symm hsf, hd1, hd2, hd3, hd4, hc1, hc2, hc3, hc4]) ?_
      refine v_iload O dX3_adds_95 5 rfl ?_
      refine v_iadd (z := nI (d.2.2.1 + w)) O dX3_adds_97 (nI_add d.2.2.1 w) ?_
      refine v_icmp_leN (tgt := 110) O dX3_adds_98 (by decide) (by omega) (by omega) (fun h_98 => ?_) (fun h_98 => ?_)
      · 
        refine v_aload_n O dX3_adds_110 rfl 1 rfl ?_
        refine v_getf (C := RX3) (T := TX3) (N := 27) (v := .ref (ad 16)) O in_X3 hR2.ob rfl 16 (by decide) rfl q1508 rfl dX3_adds_111 ?_
        refine v_iload_n O dX3_adds_114 rfl 3 rfl ?_
        refine v_iald (f := F 16) O (hR2.ar 16 rfl) (by omega) (by omega) dX3_adds_115 ?_
        refine v_top (y := nI d.2.2.1) (by simp [va_up, hsf, Ne.symm hsf, hd1, hd2, hd3, hd4, hc1, hc2, hc3, hc4]) ?_
        refine v_iload O dX3_adds_116 5 rfl ?_
        refine v_iadd (z := nI (d.2.2.1 + w)) O dX3_adds_118 (nI_add d.2.2.1 w) ?_
        refine r_iast (K := layM) O hR2 16 rfl (by omega) (by omega) dX3_adds_119 (fun σ3 hR3 hf3 => ?_)
        refine v_aload_n O dX3_adds_120 rfl 1 rfl ?_
        refine v_getf (C := RX3) (T := TX3) (N := 27) (v := .ref (ad 17)) O in_X3 hR3.ob rfl 17 (by decide) rfl q1509 rfl dX3_adds_121 ?_
        refine v_iload_n O dX3_adds_124 rfl 2 rfl ?_
        refine v_aload_n O dX3_adds_125 rfl 1 rfl ?_
        refine v_getf (C := RX3) (T := TX3) (N := 27) (v := .ref (ad 17)) O in_X3 hR3.ob rfl 17 (by decide) rfl q1509 rfl dX3_adds_126 ?_
        refine v_iload_n O dX3_adds_129 rfl 2 rfl ?_
        refine v_iald (f := F 17) O (hR3.ar 17 rfl) (by omega) (by omega) dX3_adds_130 ?_
        refine v_top (y := nI c.2.2.2) (by simp [va_up, hsf, Ne.symm hsf, hd1, hd2, hd3, hd4, hc1, hc2, hc3, hc4]) ?_
        refine v_aload_n O dX3_adds_131 rfl 1 rfl ?_
        refine v_getf (C := RX3) (T := TX3) (N := 27) (v := .ref (ad 17)) O in_X3 hR3.ob rfl 17 (by decide) rfl q1509 rfl dX3_adds_132 ?_
        refine v_iload_n O dX3_adds_135 rfl 3 rfl ?_
        refine v_iald (f := F 17) O (hR3.ar 17 rfl) (by omega) (by omega) dX3_adds_136 ?_
        refine v_top (y := nI d.2.2.2) (by simp [va_up, hsf, Ne.symm hsf, hd1, hd2, hd3, hd4, hc1, hc2, hc3, hc4]) ?_
        refine v_iload O dX3_adds_137 5 rfl ?_
        refine v_iadd (z := nI (d.2.2.2 + w)) O dX3_adds_139 (nI_add d.2.2.2 w) ?_
        refine v_callS (as := [.int (nI c.2.2.2), .int (nI (d.2.2.2 + w))]) (rest := [.int (nI s), .ref (ad 17)]) O (c_X3_less hG (a := c.2.2.2) (b := d.2.2.2 + w) (by omega) (by omega)) q1635 q1636 q77 q1637 mdX3_less rfl (by decide) (by omega) (by omega) (by omega) (Nat.le_of_ble_eq_true rfl) rfl dX3_adds_140 (fun v9 σ9 hp9 => ?_) (fun _ _ _ h => False.elim h)
        obtain ⟨rfl, hs9⟩ := hp9
        obtain rfl := hs9.symm
        refine r_iast (K := layM) O hR3 17 rfl (by omega) (by omega) dX3_adds_143 (fun σ4 hR4 hf4 => ?_)
        exact v_vret O rfl dX3_adds_144 (by omega) (by omega) (⟨rfl, _, _, hR4, by rw [comb, if_neg (show ¬ (bump d w).1 < c.1 from by show ¬ d.1 + 1 < c.1; omega), if_neg (show ¬ c.1 < (bump d w).1 from by show ¬ c.1 < d.1 + 1; omega)]; exact ⟨by simp [va_up]; exact congrArg nI (show d.1 + 1 = c.1 by omega), by simp [va_up, bump], by simp [va_up, bump, Nat.max_eq_right (show c.2.2.1 ≤ d.2.2.1 + w by omega)], by simp [va_up, bump]⟩, Oth.put (by intro t ht; simp [va_up, ht]) (by intro t ht; simp [va_up, ht]) (by intro t ht; simp [va_up, ht]) (by intro t ht; simp [va_up, ht]) (by intro j h1 h2 h3; funext z; simp [va_up, h1, h2, h3]), (((hf1.trans hf2).trans hf3).trans hf4)⟩)
      · 
        refine v_aload_n O dX3_adds_101 rfl 1 rfl ?_
        refine v_getf (C := RX3) (T := TX3) (N := 27) (v := .ref (ad 16)) O in_X3 hR2.ob rfl 16 (by decide) rfl q1508 rfl dX3_adds_102 ?_
        refine v_iload_n O dX3_adds_105 rfl 2 rfl ?_
        refine v_iald (f := F 16) O (hR2.ar 16 rfl) (by omega) (by omega) dX3_adds_106 ?_
        refine v_top (y := nI c.2.2.1) (by simp [va_up, hsf, Ne.symm hsf, hd1, hd2, hd3, hd4, hc1, hc2, hc3, hc4]) ?_
        refine v_goto (tgt := 119) O dX3_adds_107 (by decide) ?_
        refine r_iast (K := layM) O hR2 16 rfl (by omega) (by omega) dX3_adds_119 (fun σ5 hR5 hf5 => ?_)
        refine v_aload_n O dX3_adds_120 rfl 1 rfl ?_
        refine v_getf (C := RX3) (T := TX3) (N := 27) (v := .ref (ad 17)) O in_X3 hR5.ob rfl 17 (by decide) rfl q1509 rfl dX3_adds_121 ?_
        refine v_iload_n O dX3_adds_124 rfl 2 rfl ?_
        refine v_aload_n O dX3_adds_125 rfl 1 rfl ?_
        refine v_getf (C := RX3) (T := TX3) (N := 27) (v := .ref (ad 17)) O in_X3 hR5.ob rfl 17 (by decide) rfl q1509 rfl dX3_adds_126 ?_
        refine v_iload_n O dX3_adds_129 rfl 2 rfl ?_
        refine v_iald (f := F 17) O (hR5.ar 17 rfl) (by omega) (by omega) dX3_adds_130 ?_
        refine v_top (y := nI c.2.2.2) (by simp [va_up, hsf, Ne.symm hsf, hd1, hd2, hd3, hd4, hc1, hc2, hc3, hc4]) ?_
        refine v_aload_n O dX3_adds_131 rfl 1 rfl ?_
        refine v_getf (C := RX3) (T := TX3) (N := 27) (v := .ref (ad 17)) O in_X3 hR5.ob rfl 17 (by decide) rfl q1509 rfl dX3_adds_132 ?_
        refine v_iload_n O dX3_adds_135 rfl 3 rfl ?_
        refine v_iald (f := F 17) O (hR5.ar 17 rfl) (by omega) (by omega) dX3_adds_136 ?_
        refine v_top (y := nI d.2.2.2) (by simp [va_up, hsf, Ne.symm hsf, hd1, hd2, hd3, hd4, hc1, hc2, hc3, hc4]) ?_
        refine v_iload O dX3_adds_137 5 rfl ?_
        refine v_iadd (z := nI (d.2.2.2 + w)) O dX3_adds_139 (nI_add d.2.2.2 w) ?_
        refine v_callS (as := [.int (nI c.2.2.2), .int (nI (d.2.2.2 + w))]) (rest := [.int (nI s), .ref (ad 17)]) O (c_X3_less hG (a := c.2.2.2) (b := d.2.2.2 + w) (by omega) (by omega)) q1635 q1636 q77 q1637 mdX3_less rfl (by decide) (by omega) (by omega) (by omega) (Nat.le_of_ble_eq_true rfl) rfl dX3_adds_140 (fun v9 σ9 hp9 => ?_) (fun _ _ _ h => False.elim h)
        obtain ⟨rfl, hs9⟩ := hp9
        obtain rfl := hs9.symm
        refine r_iast (K := layM) O hR5 17 rfl (by omega) (by omega) dX3_adds_143 (fun σ6 hR6 hf6 => ?_)
        exact v_vret O rfl dX3_adds_144 (by omega) (by omega) (⟨rfl, _, _, hR6, by rw [comb, if_neg (show ¬ (bump d w).1 < c.1 from by show ¬ d.1 + 1 < c.1; omega), if_neg (show ¬ c.1 < (bump d w).1 from by show ¬ c.1 < d.1 + 1; omega)]; exact ⟨by simp [va_up]; exact congrArg nI (show d.1 + 1 = c.1 by omega), by simp [va_up, bump], by simp [va_up, bump, Nat.max_eq_left (show d.2.2.1 + w ≤ c.2.2.1 by omega)], by simp [va_up, bump]⟩, Oth.put (by intro t ht; simp [va_up, ht]) (by intro t ht; simp [va_up, ht]) (by intro t ht; simp [va_up, ht]) (by intro t ht; simp [va_up, ht]) (by intro j h1 h2 h3; funext z; simp [va_up, h1, h2, h3]), (((hf1.trans hf2).trans hf5).trans hf6)⟩)
    · have hbig := h_30
      refine v_aload_n O dX3_adds_33 rfl 1 rfl ?_
      refine v_getf (C := RX3) (T := TX3) (N := 27) (v := .ref (ad 18)) O in_X3 hR.ob rfl 18 (by decide) rfl q1510 rfl dX3_adds_34 ?_
      refine v_iload_n O dX3_adds_37 rfl 2 rfl ?_
      refine v_lconst (v := 0) O dX3_adds_38 (by decide) ?_
      refine r_last (K := layM) O hR 18 rfl (by omega) (by omega) dX3_adds_39 (fun σ7 hR7 hf7 => ?_)
      refine v_aload_n O dX3_adds_40 rfl 1 rfl ?_
      refine v_getf (C := RX3) (T := TX3) (N := 27) (v := .ref (ad 16)) O in_X3 hR7.ob rfl 16 (by decide) rfl q1508 rfl dX3_adds_41 ?_
      refine v_iload_n O dX3_adds_44 rfl 2 rfl ?_
      refine v_iconst (v := (-1)) O dX3_adds_45 (by decide) ?_
      refine r_iast (K := layM) O hR7 16 rfl (by omega) (by omega) dX3_adds_46 (fun σ8 hR8 hf8 => ?_)
      refine v_aload_n O dX3_adds_47 rfl 1 rfl ?_
      refine v_getf (C := RX3) (T := TX3) (N := 27) (v := .ref (ad 17)) O in_X3 hR8.ob rfl 17 (by decide) rfl q1509 rfl dX3_adds_48 ?_
      refine v_iload_n O dX3_adds_51 rfl 2 rfl ?_
      refine v_ldc O q1767 dX3_adds_52 ?_
      rw [show (2147483647 : Int32) = nI 2147483647 from rfl]
      refine r_iast (K := layM) O hR8 17 rfl (by omega) (by omega) dX3_adds_54 (fun σ9 hR9 hf9 => ?_)
      refine v_aload_n O dX3_adds_55 rfl 1 rfl ?_
      refine v_getf (C := RX3) (T := TX3) (N := 27) (v := .ref (ad 15)) O in_X3 hR9.ob rfl 15 (by decide) rfl q1507 rfl dX3_adds_56 ?_
      refine v_iload_n O dX3_adds_59 rfl 2 rfl ?_
      refine v_iload O dX3_adds_60 0 rfl ?_
      refine r_iast (K := layM) O hR9 15 rfl (by omega) (by omega) dX3_adds_62 (fun σ10 hR10 hf10 => ?_)
      refine v_aload_n O dX3_adds_63 rfl 1 rfl ?_
      refine v_getf (C := RX3) (T := TX3) (N := 27) (v := .ref (ad 18)) O in_X3 hR10.ob rfl 18 (by decide) rfl q1510 rfl dX3_adds_64 ?_
      refine v_iload_n O dX3_adds_67 rfl 2 rfl ?_
      refine v_dup2 O dX3_adds_68 rfl rfl ?_
      refine v_lald (f := (va_up L 18 (va_up (L 18) s 0)) 18) O (hR10.lg 18 rfl) (by omega) (by omega) dX3_adds_69 ?_
      refine v_topl (y := lN 0) (by simp [va_up]; rfl) ?_
      refine v_aload_n O dX3_adds_70 rfl 1 rfl ?_
      refine v_getf (C := RX3) (T := TX3) (N := 27) (v := .ref (ad 18)) O in_X3 hR10.ob rfl 18 (by decide) rfl q1510 rfl dX3_adds_71 ?_
      refine v_iload_n O dX3_adds_74 rfl 3 rfl ?_
      refine v_lald (f := (va_up L 18 (va_up (L 18) s 0)) 18) O (hR10.lg 18 rfl) (by omega) (by omega) dX3_adds_75 ?_
      refine v_topl (y := lN d.2.1) (by simp [va_up, hsf, Ne.symm hsf, hd1, hd2, hd3, hd4, hc1, hc2, hc3, hc4]) ?_
      refine v_ladd (z := lN (0 + d.2.1)) O dX3_adds_76 (lN_add _ _) ?_
      refine r_last (K := layM) O hR10 18 rfl (by omega) (by omega) dX3_adds_77 (fun σ11 hR11 hf11 => ?_)
      refine v_aload_n O dX3_adds_78 rfl 1 rfl ?_
      refine v_getf (C := RX3) (T := TX3) (N := 27) (v := .ref (ad 16)) O in_X3 hR11.ob rfl 16 (by decide) rfl q1508 rfl dX3_adds_79 ?_
      refine v_iload_n O dX3_adds_82 rfl 2 rfl ?_
      refine v_aload_n O dX3_adds_83 rfl 1 rfl ?_
      refine v_getf (C := RX3) (T := TX3) (N := 27) (v := .ref (ad 16)) O in_X3 hR11.ob rfl 16 (by decide) rfl q1508 rfl dX3_adds_84 ?_
      refine v_iload_n O dX3_adds_87 rfl 2 rfl ?_
      refine v_iald (f := (va_up (F 16) s (-1))) O (hR11.ar 16 rfl) (by omega) (by omega) dX3_adds_88 ?_
      refine v_top (y := (-1)) (by simp [va_up]) ?_
      refine v_aload_n O dX3_adds_89 rfl 1 rfl ?_
      refine v_getf (C := RX3) (T := TX3) (N := 27) (v := .ref (ad 16)) O in_X3 hR11.ob rfl 16 (by decide) rfl q1508 rfl dX3_adds_90 ?_
      refine v_iload_n O dX3_adds_93 rfl 3 rfl ?_
      refine v_iald (f := (va_up (F 16) s (-1))) O (hR11.ar 16 rfl) (by omega) (by omega) dX3_adds_94 ?_
      refine v_top (y := nI d.2.2.1) (by simp [va_up, hsf, Ne.symm hsf, hd1, hd2, hd3, hd4, hc1, hc2, hc3, hc4]) ?_
      refine v_iload O dX3_adds_95 5 rfl ?_
      refine v_iadd (z := nI (d.2.2.1 + w)) O dX3_adds_97 (nI_add d.2.2.1 w) ?_
      refine v_icmp_le (tgt := 110) O dX3_adds_98 (by decide) (fun h_98 => ?_) (fun h_98 => ?_)
      · 
        refine v_aload_n O dX3_adds_110 rfl 1 rfl ?_
        refine v_getf (C := RX3) (T := TX3) (N := 27) (v := .ref (ad 16)) O in_X3 hR11.ob rfl 16 (by decide) rfl q1508 rfl dX3_adds_111 ?_
        refine v_iload_n O dX3_adds_114 rfl 3 rfl ?_
        refine v_iald (f := (va_up (F 16) s (-1))) O (hR11.ar 16 rfl) (by omega) (by omega) dX3_adds_115 ?_
        refine v_top (y := nI d.2.2.1) (by simp [va_up, hsf, Ne.symm hsf, hd1, hd2, hd3, hd4, hc1, hc2, hc3, hc4]) ?_
        refine v_iload O dX3_adds_116 5 rfl ?_
        refine v_iadd (z := nI (d.2.2.1 + w)) O dX3_adds_118 (nI_add d.2.2.1 w) ?_
        refine r_iast (K := layM) O hR11 16 rfl (by omega) (by omega) dX3_adds_119 (fun σ12 hR12 hf12 => ?_)
        refine v_aload_n O dX3_adds_120 rfl 1 rfl ?_
        refine v_getf (C := RX3) (T := TX3) (N := 27) (v := .ref (ad 17)) O in_X3 hR12.ob rfl 17 (by decide) rfl q1509 rfl dX3_adds_121 ?_
        refine v_iload_n O dX3_adds_124 rfl 2 rfl ?_
        refine v_aload_n O dX3_adds_125 rfl 1 rfl ?_
        refine v_getf (C := RX3) (T := TX3) (N := 27) (v := .ref (ad 17)) O in_X3 hR12.ob rfl 17 (by decide) rfl q1509 rfl dX3_adds_126 ?_
        refine v_iload_n O dX3_adds_129 rfl 2 rfl ?_
        refine v_iald (f := (va_up (F 17) s (nI 2147483647))) O (hR12.ar 17 rfl) (by omega) (by omega) dX3_adds_130 ?_
        refine v_top (y := nI 2147483647) (by simp [va_up]) ?_
        refine v_aload_n O dX3_adds_131 rfl 1 rfl ?_
        refine v_getf (C := RX3) (T := TX3) (N := 27) (v := .ref (ad 17)) O in_X3 hR12.ob rfl 17 (by decide) rfl q1509 rfl dX3_adds_132 ?_
        refine v_iload_n O dX3_adds_135 rfl 3 rfl ?_
        refine v_iald (f := (va_up (F 17) s (nI 2147483647))) O (hR12.ar 17 rfl) (by omega) (by omega) dX3_adds_136 ?_
        refine v_top (y := nI d.2.2.2) (by simp [va_up, hsf, Ne.symm hsf, hd1, hd2, hd3, hd4, hc1, hc2, hc3, hc4]) ?_
        refine v_iload O dX3_adds_137 5 rfl ?_
        refine v_iadd (z := nI (d.2.2.2 + w)) O dX3_adds_139 (nI_add d.2.2.2 w) ?_
        refine v_callS (as := [.int (nI 2147483647), .int (nI (d.2.2.2 + w))]) (rest := [.int (nI s), .ref (ad 17)]) O (c_X3_less hG (a := 2147483647) (b := d.2.2.2 + w) (by omega) (by omega)) q1635 q1636 q77 q1637 mdX3_less rfl (by decide) (by omega) (by omega) (by omega) (Nat.le_of_ble_eq_true rfl) rfl dX3_adds_140 (fun v9 σ9 hp9 => ?_) (fun _ _ _ h => False.elim h)
        obtain ⟨rfl, hs9⟩ := hp9
        obtain rfl := hs9.symm
        refine r_iast (K := layM) O hR12 17 rfl (by omega) (by omega) dX3_adds_143 (fun σ13 hR13 hf13 => ?_)
        exact v_vret O rfl dX3_adds_144 (by omega) (by omega) (⟨rfl, _, _, hR13, by rw [comb, if_neg (show ¬ (bump d w).1 < c.1 from by show ¬ d.1 + 1 < c.1; omega), if_pos (show c.1 < (bump d w).1 from by show c.1 < d.1 + 1; omega)]; exact ⟨by simp [va_up, bump], by simp [va_up, bump], by simp [va_up, bump], by simp [va_up, bump, Nat.min_eq_right (show d.2.2.2 + w ≤ 2147483647 by omega)]⟩, Oth.put (by intro t ht; simp [va_up, ht]) (by intro t ht; simp [va_up, ht]) (by intro t ht; simp [va_up, ht]) (by intro t ht; simp [va_up, ht]) (by intro j h1 h2 h3; funext z; simp [va_up, h1, h2, h3]), ((((((hf7.trans hf8).trans hf9).trans hf10).trans hf11).trans hf12).trans hf13)⟩)
      · exact absurd h_98 (fun h => h (Int32.le_of_lt (neg_lt (by omega))))
  · exact v_vret O rfl dX3_adds_21 (by omega) (by omega) (⟨rfl, _, _, hR, by rw [comb, if_pos (show (bump d w).1 < c.1 from by show d.1 + 1 < c.1; omega)]; exact ⟨hc1, hc2, hc3, hc4⟩, Oth.rf, FrL.rf⟩)
