theorem nI_succ' (a : Nat) : nI (a + 1) = nI a + nI 1 := (nI_add a 1).symm
theorem l_X7_first_i {G : vGC} (hG : vGok G) {X : vCX} {Q : State → Prop} {c0 n0 : Nat} (O : vOk G X yX7_first.cls cX7_first (some (.array .int)) 6 1 12) (hN : xn X = 6) (hcm0 : c0 ≤ 1) (hsm0 : n0 ≤ 12) {σ0 : vSt} {g t h : Nat} {N : NetM} (hOk : okN N) {q : Nat} (hqz : q ≠ 0) (hqt : q ≠ t) (hgq : g ≠ q) (htq : t ≠ q) (hhq : h ≠ q) {f : Nat → Int32} {l d a : Nat} (hl : l < 2 ^ N.1) (hd : d ≤ 12) (ha : a < N.1) {r0 : Option Nat} (kx : ∀ (σ : vSt) (b : Nat), ((r0 = none ∧ b = N.1) ∨ (b < N.1 ∧ a < b ∧ r0 = some b)) → GreAt σ g t h N → σ q = some (q, .inl (0, N.1, .inl f)) → FrL [t, q] σ0 σ → V G X Q c0 n0 σ 128 [(0, .ref g), (1, .ref q), (2, .int (nI l)), (3, .int (nI d)), (4, .int (nI a)), (5, .int (nI b))] []) : ∀ (k : Nat) (b : Nat) (σ : vSt), (N.1 < b + k) → (b ≤ N.1) → (a < b) → (GreAt σ g t h N) → (σ q = some (q, .inl (0, N.1, .inl f))) → (FrL [t, q] σ0 σ) → (fndF (fstP N (sd l (2 ^ a)) d a) (N.1 - b) b = r0) → V G X Q c0 n0 σ 61 [(0, .ref g), (1, .ref q), (2, .int (nI l)), (3, .int (nI d)), (4, .int (nI a)), (5, .int (nI b))] [] := by
  intro k
  induction k with
  | zero => intro b σ h0 h1 hab hGr hrow hf h2; exact absurd h0 (by omega)
  | succ k ih =>
    intro b σ h0 h1 hab hGr hrow hf h2
    obtain ⟨hg, hT, hN0, hht, hgt⟩ := id hGr
    obtain ⟨adt, It, Ft, Lt, hRt, had0⟩ := id hT
    obtain ⟨wa, ma, hob⟩ := hN0.ob
    have hn := hOk.2.1
    have hal := all_lt (N := N)
    have hp12 := p12 hn
    have htop := dp_top hOk hal
    have htop2 : (dp N.1 N.2.1 (allN N)).1 ≤ 12 := htop
    have htop3 : (topN N).1 ≤ 12 := htop
    have hal2 : allN N = 2 ^ N.1 - 1 := rfl
    have hp1 : 1 ≤ 2 ^ N.1 := Nat.one_le_two_pow
    have h2a : 2 ^ a < 4096 := Nat.pow_lt_pow_right (by omega) (show a < 12 by omega)
    have h2b : b < N.1 → 2 ^ b < 4096 := fun h => Nat.pow_lt_pow_right (by omega) (show b < 12 by omega)
    have hsl := sd_le l (2 ^ a ||| 2 ^ b)
    refine v_iload O dX7_first_61 5 rfl ?_
    refine v_aload_n O dX7_first_63 rfl 0 rfl ?_
    refine v_getf (C := RX7) (T := TX7) (N := 3) (v := .ref h) O in_X7 hg rfl 0 (by decide) rfl q300 rfl dX7_first_64 ?_
    refine v_getfN (C := RX2) (T := TX2) (N := 3) (v := .int (nI N.1)) O in_X2 hob rfl 0 (by decide) rfl q150 rfl dX7_first_67 ?_
    refine v_icmp_geN (tgt := 128) O dX7_first_70 (by decide) (by omega) (by omega) (fun h_70 => ?_) (fun h_70 => ?_)
    · obtain rfl : b = N.1 := by omega
      rw [Nat.sub_self] at h2
      exact v_lv [0, 1, 2, 3, 4, 5] rfl (kx σ N.1 (.inl ⟨h2.symm, rfl⟩) hGr hrow hf)
    · have h2b2 := h2b (by omega)
      have hob2 : 2 ^ a ||| 2 ^ b < 4096 := Nat.or_lt_two_pow (n := 12) h2a h2b2
      refine v_iload_n O dX7_first_73 rfl 2 rfl ?_
      refine v_iload O dX7_first_74 5 rfl ?_
      refine v_callSN (as := [.int (nI l), .int (nI b)]) (rest := []) O (c_X1_has hG (s := l) (k := b) (by omega) (by omega)) q316 q271 q72 q272 mdX1_has rfl (by decide) (by omega) (by omega) (by omega) (Nat.le_of_ble_eq_true rfl) rfl dX7_first_76 (fun v9 σ9 hp9 => ?_) (fun _ _ _ h => False.elim h)
      obtain ⟨rfl, hs9⟩ := hp9
      obtain rfl := hs9.symm
      refine v_if_eqB (tgt := 122) O dX7_first_79 (by decide) (fun h_79 => ?_) (fun h_79 => ?_)
      · refine v_iinc (v := nI (b + 1)) (lv' := [(5, .int (nI (b + 1))), (0, .ref g), (1, .ref q), (2, .int (nI l)), (3, .int (nI d)), (4, .int (nI a))]) O hN dX7_first_122 5 rfl (nI_add b 1) (by decide) rfl ?_
        refine v_goto (tgt := 61) O dX7_first_125 (by decide) ?_
        refine v_lv [1, 2, 3, 4, 5, 0] rfl ?_
        exact ih (b + 1) _ (by omega) (by omega) (by omega) ⟨hg, ⟨_, _, _, _, hRt, had0⟩, hN0, hht, hgt⟩ hrow hf (by
          rw [show N.1 - b = N.1 - (b + 1) + 1 by omega, fndF_s, if_neg (show ¬ (fstP N (sd l (2 ^ a)) d a) b = true from by simp [fstP, sd_b, h_79])] at h2
          exact h2)
      · refine v_aload_n O dX7_first_82 rfl 0 rfl ?_
        refine v_getf (C := RX7) (T := TX7) (N := 3) (v := .ref h) O in_X7 hg rfl 0 (by decide) rfl q300 rfl dX7_first_83 ?_
        refine v_iload O dX7_first_86 4 rfl ?_
        refine v_iload O dX7_first_88 5 rfl ?_
        refine v_callV (as := [.int (nI a), .int (nI b)]) (rest := []) O (c_X2_isLine hG hN0 (by omega) (a := a) (b := b) (by omega) (by omega)) q317 q281 q282 q75 q283 hob (show vcl[1]? = some (RX2, TX2, 3) from rfl) rfl mdX2_isLine rfl (by decide) (by omega) (by omega) (by omega) (Nat.le_of_ble_eq_true rfl) rfl dX7_first_90 (fun v9 σ9 hp9 => ?_) (fun _ _ _ h => False.elim h)
        obtain ⟨rfl, hs9⟩ := hp9
        obtain rfl := hs9.symm
        refine v_if_eqB (tgt := 122) O dX7_first_93 (by decide) (fun h_93 => ?_) (fun h_93 => ?_)
        · refine v_iinc (v := nI (b + 1)) (lv' := [(5, .int (nI (b + 1))), (0, .ref g), (1, .ref q), (2, .int (nI l)), (3, .int (nI d)), (4, .int (nI a))]) O hN dX7_first_122 5 rfl (nI_add b 1) (by decide) rfl ?_
          refine v_goto (tgt := 61) O dX7_first_125 (by decide) ?_
          refine v_lv [1, 2, 3, 4, 5, 0] rfl ?_
          exact ih (b + 1) _ (by omega) (by omega) (by omega) ⟨hg, ⟨_, _, _, _, hRt, had0⟩, hN0, hht, hgt⟩ hrow hf (by
            rw [show N.1 - b = N.1 - (b + 1) + 1 by omega, fndF_s, if_neg (show ¬ (fstP N (sd l (2 ^ a)) d a) b = true from by simp [fstP, sd_b, h_79, h_93])] at h2
            exact h2)
        · refine v_aload_n O dX7_first_96 rfl 0 rfl ?_
          refine v_getf (C := RX7) (T := TX7) (N := 3) (v := .ref t) O in_X7 hg rfl 1 (by decide) rfl q301 rfl dX7_first_97 ?_
          refine v_iload_n O dX7_first_100 rfl 2 rfl ?_
          refine v_iconst (v := nI 1) O dX7_first_101 (by decide) ?_
          refine v_iload O dX7_first_102 4 rfl ?_
          refine v_ishl (z := nI (2 ^ a)) O dX7_first_104 (bx_shl1 (by omega)) ?_
          refine v_iconst (v := nI 1) O dX7_first_105 (by decide) ?_
          refine v_iload O dX7_first_106 5 rfl ?_
          refine v_ishl (z := nI (2 ^ b)) O dX7_first_108 (bx_shl1 (by omega)) ?_
          refine v_ior (z := nI ((2 ^ a) ||| (2 ^ b))) O dX7_first_109 (bx_or (2 ^ a) (2 ^ b)) ?_
          refine v_iconst (v := (-1)) O dX7_first_110 (by decide) ?_
          refine v_ixor (z := nI ((2 ^ a) ||| (2 ^ b)) ^^^ -1) O dX7_first_111 rfl ?_
          refine v_iand (z := nI (sd l ((2 ^ a) ||| (2 ^ b)))) O dX7_first_112 (bx_sd (by omega) (by first | omega | exact Nat.pow_lt_pow_right (by omega) (by omega))) ?_
          refine v_callV (as := [.int (nI (sd l ((2 ^ a) ||| (2 ^ b))))]) (rest := []) O (c_X8_most hG hRt hOk (by rw [had0]; exact hht) (s := sd l ((2 ^ a) ||| (2 ^ b))) (by omega) (by rw [had0]; exact hN0)) q265 q266 q267 q102 q268 hRt.ob (show vcl[7]? = some (RX8, TX8, 11) from rfl) rfl mdX8_most rfl (by decide) (by omega) (by omega) (by omega) (Nat.le_of_ble_eq_true rfl) rfl dX7_first_113 (fun v9 σ2 hp9 => ?_) (fun _ _ _ h => False.elim h)
          obtain ⟨rfl, Ft1, It1, hRt1, hf1⟩ := hp9
          have hN_3 := hN0.fr hf1 (by simp [hht, hhq])
          obtain ⟨wa3, ma3, hob3⟩ := hN_3.ob
          have hg_4 := hf1 _ _ hg (by simp [hgt, hgq])
          have hg_5 := hf1 _ _ hrow (by simp [hqt])
          have hd1 := dp_top hOk (s := sd l ((2 ^ a) ||| (2 ^ b))) (by omega)
          have he1 : (dp N.1 N.2.1 (sd l ((2 ^ a) ||| (2 ^ b)))).1 ≤ 12 := hd1
          refine v_iload_n O dX7_first_116 rfl 3 rfl ?_
          refine v_iconst (v := nI 1) O dX7_first_117 (by decide) ?_
          refine v_isub (z := (nI d - nI 1)) O dX7_first_118 rfl ?_
          refine v_icmp_eq (tgt := 128) O dX7_first_119 (by decide) (fun h_119 => ?_) (fun h_119 => ?_)
          · have hyes : (fstP N (sd l (2 ^ a)) d a) b = true := by
              have h5 : (dpN N (sd (sd l (2 ^ a)) (2 ^ b))).1 + 1 = d := by
                have h6 : nI ((dpN N (sd (sd l (2 ^ a)) (2 ^ b))).1 + 1) = nI d := by rw [nI_succ', ← sd_or]; exact (congrArg (· + nI 1) h_119).trans (Int32.sub_add_cancel _ _)
                exact nI_inj (by rw [sd_or] at hd1; omega) (by omega) h6
              simp [fstP, sd_b, h_79, h_93, h5]
              omega
            rw [show N.1 - b = N.1 - (b + 1) + 1 by omega, fndF_s, if_pos hyes] at h2
            exact v_lv [0, 1, 2, 3, 4, 5] rfl (kx _ b (.inr ⟨by omega, hab, h2.symm⟩) ⟨hg_4, ⟨_, _, _, _, hRt1, had0⟩, hN_3, hht, hgt⟩ hg_5 (hf.trans (hf1.mono (by simp))))
          · refine v_iinc (v := nI (b + 1)) (lv' := [(5, .int (nI (b + 1))), (0, .ref g), (1, .ref q), (2, .int (nI l)), (3, .int (nI d)), (4, .int (nI a))]) O hN dX7_first_122 5 rfl (nI_add b 1) (by decide) rfl ?_
            refine v_goto (tgt := 61) O dX7_first_125 (by decide) ?_
            refine v_lv [1, 2, 3, 4, 5, 0] rfl ?_
            exact ih (b + 1) _ (by omega) (by omega) (by omega) ⟨hg_4, ⟨_, _, _, _, hRt1, had0⟩, hN_3, hht, hgt⟩ hg_5 (hf.trans (hf1.mono (by simp))) (by
              rw [show N.1 - b = N.1 - (b + 1) + 1 by omega, fndF_s, if_neg (show ¬ (fstP N (sd l (2 ^ a)) d a) b = true from by
              have h5 : ¬ (dpN N (sd (sd l (2 ^ a)) (2 ^ b))).1 + 1 = d := fun h6 => h_119 (by rw [sd_or, ← h6, nI_succ', Int32.add_sub_cancel])
              simp [fstP, h5])] at h2
              exact h2)
