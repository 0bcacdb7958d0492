theorem EntIs.small {n : Nat} {w : Nat → Nat → Int32} (hw : wOk n w) (hn : n ≤ 12) {a rest b : Nat} (ha : a < n) (hr : rest < 2 ^ n) (hb : b ≤ n) : (dfold w a rest (dp n w) b).1 ≤ 13 ∧ (dfold w a rest (dp n w) b).2.2.1 ≤ 999 * 13 ∧ (dfold w a rest (dp n w) b).2.2.2 ≤ 999 * 13 := by
  have h := bn_fold hw ha (p := 12) (rest := rest) (r := dp n w) (dp_small hw hn hr) (fun k _ => dp_small hw hn (Nat.lt_of_le_of_lt (sd_le _ _) hr)) b hb
  exact ⟨h.1, h.2.2.1, h.2.2.2⟩
theorem mdX3_adds : vMd yX3_adds 4 := ⟨by decide +kernel, by decide +kernel, by decide +kernel⟩
theorem l_X3_lays_i {G : vGC} (hG : vGok G) {X : vCX} {Q : State → Prop} {c0 n0 : Nat} (O : vOk G X yX3_lays.cls cX3_lays none 4 0 0) (hN : xn X = 5) (hcm0 : c0 ≤ 0) (hsm0 : n0 ≤ 0) {σ0 : vSt} {m : Nat} {ad : Nat → Nat} {I : Nat → Int32} {F : Nat → Nat → Int32} {L : Nat → Nat → Int64} {N : NetM} (hE0 : Enc (F 9) N) (hN0 : okN N) {a s rest : Nat} (hs : s < 2 ^ N.1) (ha : a < N.1) (hrest : rest < s) (hlow : ∀ t, t < s → EntIs F L t (dp N.1 N.2.1 t)) (kx : ∀ (σ : vSt) (F' : Nat → Nat → Int32) (L' : Nat → Nat → Int64), RecAt layM σ m ad I F' L' → FrL [m] σ0 σ → Oth F F' L L' s → EntIs F' L' s (dfold N.2.1 a rest (dp N.1 N.2.1) N.1) → V G X Q c0 n0 σ 140 [(0, .ref m), (1, .int (nI s))] []) : ∀ (k : Nat) (b : Nat) (σ : vSt) (F' : Nat → Nat → Int32) (L' : Nat → Nat → Int64), (N.1 < b + k) → (a < b ∧ b ≤ N.1) → (RecAt layM σ m ad I F' L') → (FrL [m] σ0 σ) → (Oth F F' L L' s) → (EntIs F' L' s (dfold N.2.1 a rest (dp N.1 N.2.1) b)) → V G X Q c0 n0 σ 84 [(0, .ref m), (1, .int (nI s)), (2, .int (nI a)), (3, .int (nI rest)), (4, .int (nI b))] [] := by
  intro k
  induction k with
  | zero => intro b σ F' L' h0 h1 hR hf ho he; exact absurd h0 (by omega)
  | succ k ih =>
    intro b σ F' L' h0 h1 hR hf ho he
    have hn : N.1 ≤ 12 := hN0.2.1
    have hw := hN0.w
    have hp12 := p12 hn
    have hsd : ∀ k, sd rest (2 ^ k) ≤ rest := fun k => sd_le _ _
    have hsdb := hsd b
    have hE : Enc (F' 9) N := by rw [ho.2 9 (by omega) (by omega) (by omega)]; exact hE0
    refine v_iload O dX3_lays_84 4 rfl ?_
    refine v_aload_n O dX3_lays_86 rfl 0 rfl ?_
    refine v_callV (as := []) (rest := [.int (nI b)]) O (c_X3_nodes hG hR hE (by first | omega | exact hn)) q1677 q1679 qs47 q77 q1680 hR.ob (show vcl[2]? = some (RX3, TX3, 27) from rfl) rfl mdX3_nodes rfl (by decide) (by omega) (by omega) (by omega) (Nat.le_of_ble_eq_true rfl) rfl dX3_lays_87 (fun v9 σ9 hp9 => ?_) (fun _ _ _ h => False.elim h)
    obtain ⟨rfl, hs9⟩ := hp9
    obtain rfl := hs9.symm
    refine v_icmp_geN (tgt := 140) O dX3_lays_90 (by decide) (by omega) (by omega) (fun h_90 => ?_) (fun h_90 => ?_)
    · obtain rfl : b = N.1 := by omega
      exact v_lv [0, 1] rfl (kx σ F' L' hR hf ho he)
    · refine v_iload_n O dX3_lays_93 rfl 3 rfl ?_
      refine v_iload O dX3_lays_94 4 rfl ?_
      refine v_callS (as := [.int (nI rest), .int (nI b)]) (rest := []) O (c_X3_has hG (s := rest) (k := b) (by omega) (by omega)) q1741 q1742 q77 q1743 mdX3_has rfl (by decide) (by omega) (by omega) (by omega) (Nat.le_of_ble_eq_true rfl) rfl dX3_lays_96 (fun v9 σ9 hp9 => ?_) (fun _ _ _ h => False.elim h)
      obtain ⟨rfl, hs9⟩ := hp9
      obtain rfl := hs9.symm
      refine v_if_eqB (tgt := 134) O dX3_lays_99 (by decide) (fun h_99 => ?_) (fun h_99 => ?_)
      · refine v_iinc (v := nI (b + 1)) (lv' := [(4, .int (nI (b + 1))), (0, .ref m), (1, .int (nI s)), (2, .int (nI a)), (3, .int (nI rest))]) O hN dX3_lays_134 4 rfl (nI_add b 1) (by decide) rfl ?_
        refine v_goto (tgt := 84) O dX3_lays_137 (by decide) ?_
        refine v_lv [1, 2, 3, 4, 0] rfl ?_
        exact ih (b + 1) _ _ _ (by omega) (by omega) hR hf ho (by rw [dfold, if_neg (by simp [h_99])]; exact he)
      · refine v_aload_n O dX3_lays_102 rfl 0 rfl ?_
        refine v_iload_n O dX3_lays_103 rfl 2 rfl ?_
        refine v_iload O dX3_lays_104 4 rfl ?_
        refine v_callV (as := [.int (nI a), .int (nI b)]) (rest := []) O (c_X3_weight hG hR hE (by first | omega | exact hn) (a := a) (b := b) (by omega) (by omega)) q1681 q1683 qs48 q77 q1684 hR.ob (show vcl[2]? = some (RX3, TX3, 27) from rfl) rfl mdX3_weight rfl (by decide) (by omega) (by omega) (by omega) (Nat.le_of_ble_eq_true rfl) rfl dX3_lays_106 (fun v9 σ9 hp9 => ?_) (fun _ _ _ h => False.elim h)
        obtain ⟨rfl, hs9⟩ := hp9
        obtain rfl := hs9.symm
        refine v_iconst (v := (-1)) O dX3_lays_109 (by decide) ?_
        refine v_icmp_eq (tgt := 134) O dX3_lays_110 (by decide) (fun h_110 => ?_) (fun h_110 => ?_)
        · refine v_iinc (v := nI (b + 1)) (lv' := [(4, .int (nI (b + 1))), (0, .ref m), (1, .int (nI s)), (2, .int (nI a)), (3, .int (nI rest))]) O hN dX3_lays_134 4 rfl (nI_add b 1) (by decide) rfl ?_
          refine v_goto (tgt := 84) O dX3_lays_137 (by decide) ?_
          refine v_lv [1, 2, 3, 4, 0] rfl ?_
          exact ih (b + 1) _ _ _ (by omega) (by omega) hR hf ho (by rw [dfold, if_neg (by simp [lw, h_110])]; exact he)
        · have hwn := hw.wn (a := a) (b := b) (by omega) (by omega) h_110
          refine v_aload_n O dX3_lays_113 rfl 0 rfl ?_
          refine v_iload_n O dX3_lays_114 rfl 1 rfl ?_
          refine v_iload_n O dX3_lays_115 rfl 3 rfl ?_
          refine v_iconst (v := nI 1) O dX3_lays_116 (by decide) ?_
          refine v_iload O dX3_lays_117 4 rfl ?_
          refine v_ishl (z := nI (2 ^ b)) O dX3_lays_119 (bx_shl1 (by omega)) ?_
          refine v_iconst (v := (-1)) O dX3_lays_120 (by decide) ?_
          refine v_ixor (z := nI (2 ^ b) ^^^ -1) O dX3_lays_121 rfl ?_
          refine v_iand (z := nI (sd rest (2 ^ b))) O dX3_lays_122 (bx_sd (by omega) (by first | omega | exact Nat.pow_lt_pow_right (by omega) (by omega))) ?_
          refine v_iconst (v := nI 1) O dX3_lays_123 (by decide) ?_
          refine v_aload_n O dX3_lays_124 rfl 0 rfl ?_
          refine v_iload_n O dX3_lays_125 rfl 2 rfl ?_
          refine v_iload O dX3_lays_126 4 rfl ?_
          refine v_callV (as := [.int (nI a), .int (nI b)]) (rest := [.int (nI 1), .int (nI (sd rest (2 ^ b))), .int (nI s), .ref m]) O (c_X3_weight hG hR hE (by first | omega | exact hn) (a := a) (b := b) (by omega) (by omega)) q1681 q1683 qs48 q77 q1684 hR.ob (show vcl[2]? = some (RX3, TX3, 27) from rfl) rfl mdX3_weight rfl (by decide) (by omega) (by omega) (by omega) (Nat.le_of_ble_eq_true rfl) rfl dX3_lays_128 (fun v9 σ9 hp9 => ?_) (fun _ _ _ h => False.elim h)
          obtain ⟨rfl, hs9⟩ := hp9
          obtain rfl := hs9.symm
          rw [hwn.2]
          refine v_callV (as := [.int (nI s), .int (nI (sd rest (2 ^ b))), .int (nI 1), .int (nI (wn N.2.1 a b))]) (rest := []) O (c_X3_adds1 hG hR (w := wn N.2.1 a b) (c := dfold N.2.1 a rest (dp N.1 N.2.1) b) (d := dp N.1 N.2.1 (sd rest (2 ^ b))) (hwn.1) (by omega) (by omega) (by omega) (ho.ent (by omega) (hlow _ (by omega))) (dp_small hw hn (by omega)) he (EntIs.small hw hn (by omega) (by omega) (by omega))) q1763 q1765 qs59 q77 q1766 hR.ob (show vcl[2]? = some (RX3, TX3, 27) from rfl) rfl mdX3_adds rfl (by decide) (by omega) (by omega) (by omega) (Nat.le_of_ble_eq_true rfl) rfl dX3_lays_131 (fun v9 σ2 hp9 => ?_) (fun _ _ _ h => False.elim h)
          obtain ⟨rfl, F1, L1, hR1, he1, ho1, hf1⟩ := hp9
          have hE1 : Enc (F1 9) N := by rw [ho1.2 9 (by omega) (by omega) (by omega)]; exact hE
          refine v_iinc (v := nI (b + 1)) (lv' := [(4, .int (nI (b + 1))), (0, .ref m), (1, .int (nI s)), (2, .int (nI a)), (3, .int (nI rest))]) O hN dX3_lays_134 4 rfl (nI_add b 1) (by decide) rfl ?_
          refine v_goto (tgt := 84) O dX3_lays_137 (by decide) ?_
          refine v_lv [1, 2, 3, 4, 0] rfl ?_
          exact ih (b + 1) _ _ _ (by omega) (by omega) hR1 (hf.trans hf1) (ho.trans ho1) (by rw [dfold, if_pos ⟨by omega, h_99, decide_eq_true h_110⟩]; exact he1)
theorem mdX3_all : vMd yX3_all 0 := ⟨by decide +kernel, by decide +kernel, by decide +kernel⟩
theorem mdX3_first : vMd yX3_first 1 := ⟨by decide +kernel, by decide +kernel, by decide +kernel⟩
theorem l_X3_lays {G : vGC} (hG : vGok G) {X : vCX} {Q : State → Prop} {c0 n0 : Nat} (O : vOk G X yX3_lays.cls cX3_lays none 4 0 0) (hN : xn X = 5) (hcm0 : c0 ≤ 0) (hsm0 : n0 ≤ 0) {σ0 : vSt} {m : Nat} {ad : Nat → Nat} {I : Nat → Int32} {F : Nat → Nat → Int32} {L : Nat → Nat → Int64} {N : NetM} (hE0 : Enc (F 9) N) (hN0 : okN N) (kx : ∀ (σ : vSt) (F' : Nat → Nat → Int32) (L' : Nat → Nat → Int64), RecAt layM σ m ad I F' L' → FrL [m] σ0 σ → (∀ j, j ≠ 15 → j ≠ 16 → j ≠ 17 → F' j = F j) → LaidOk N.1 N.2.1 F' L' → V G X Q c0 n0 σ 146 [(0, .ref m)] []) : ∀ (k : Nat) (s : Nat) (σ : vSt) (F' : Nat → Nat → Int32) (L' : Nat → Nat → Int64), (2 ^ N.1 < s + k) → (1 ≤ s ∧ s ≤ 2 ^ N.1) → (RecAt layM σ m ad I F' L') → (FrL [m] σ0 σ) → (∀ j, j ≠ 15 → j ≠ 16 → j ≠ 17 → F' j = F j) → (∀ t, t < s → EntIs F' L' t (dp N.1 N.2.1 t)) → V G X Q c0 n0 σ 43 [(0, .ref m), (1, .int (nI s))] [] := by
  intro k
  induction k with
  | zero => intro s σ F' L' h0 h1 hR hf ho hlow; exact absurd h0 (by omega)
  | succ k ih =>
    intro s σ F' L' h0 h1 hR hf ho hlow
    have hn : N.1 ≤ 12 := hN0.2.1
    have hw := hN0.w
    have hp12 := p12 hn
    have hal : allN N = 2 ^ N.1 - 1 := rfl
    have hE : Enc (F' 9) N := by rw [ho 9 (by omega) (by omega) (by omega)]; exact hE0
    refine v_iload_n O dX3_lays_43 rfl 1 rfl ?_
    refine v_aload_n O dX3_lays_44 rfl 0 rfl ?_
    refine v_callV (as := []) (rest := [.int (nI s)]) O (c_X3_all hG hR hE (by first | omega | exact hn)) q1756 q1758 qs58 q77 q1759 hR.ob (show vcl[2]? = some (RX3, TX3, 27) from rfl) rfl mdX3_all rfl (by decide) (by omega) (by omega) (by omega) (Nat.le_of_ble_eq_true rfl) rfl dX3_lays_45 (fun v9 σ9 hp9 => ?_) (fun _ _ _ h => False.elim h)
    obtain ⟨rfl, hs9⟩ := hp9
    obtain rfl := hs9.symm
    refine v_icmp_gtN (tgt := 146) O dX3_lays_48 (by decide) (by omega) (by omega) (fun h_48 => ?_) (fun h_48 => ?_)
    · obtain rfl : s = 2 ^ N.1 := by omega
      exact v_lv [0] rfl (kx σ F' L' hR hf ho (fun t ht => hlow t ht))
    · refine v_iload_n O dX3_lays_51 rfl 1 rfl ?_
      refine v_callS (as := [.int (nI s)]) (rest := []) O (c_X3_first hG (s := s) (by omega) (by omega)) q1760 q1761 q77 q1762 mdX3_first rfl (by decide) (by omega) (by omega) (by omega) (Nat.le_of_ble_eq_true rfl) rfl dX3_lays_52 (fun v9 σ9 hp9 => ?_) (fun _ _ _ h => False.elim h)
      obtain ⟨rfl, hs9⟩ := hp9
      obtain rfl := hs9.symm
      refine v_istore_n (lv' := [(2, .int (nI (fstb s))), (0, .ref m), (1, .int (nI s))]) O hN dX3_lays_55 rfl (by decide) rfl ?_
      refine v_iload_n O dX3_lays_56 rfl 2 rfl ?_
      refine v_iconst (v := nI 1) O dX3_lays_57 (by decide) ?_
      refine v_iload_n O dX3_lays_58 rfl 0 rfl ?_
      obtain ⟨hs1, hs2, hs3, hs4⟩ := (fstb_ok s (by omega)).resolve_left (by omega)
      have hsl : sd s (2 ^ fstb s) < s := sd_lt_self hs1 Nat.testBit_two_pow_self
      have hfn : fstb s < N.1 := by
        rcases Nat.lt_or_ge (fstb s) N.1 with h | h
        · exact h
        · rw [Nat.testBit_lt_two_pow (Nat.lt_of_lt_of_le (show s < 2 ^ N.1 by omega) (Nat.pow_le_pow_right (by omega) h))] at hs1; cases hs1
      refine v_ishl (z := nI (2 ^ (fstb s))) O dX3_lays_59 (bx_shl1 (by omega)) ?_
      refine v_iconst (v := (-1)) O dX3_lays_60 (by decide) ?_
      refine v_ixor (z := nI (2 ^ (fstb s)) ^^^ -1) O dX3_lays_61 rfl ?_
      refine v_iand (z := nI (sd s (2 ^ (fstb s)))) O dX3_lays_62 (bx_sd (by omega) (by first | omega | exact Nat.pow_lt_pow_right (by omega) (by omega))) ?_
      refine v_istore_n (lv' := [(3, .int (nI (sd s (2 ^ (fstb s))))), (2, .int (nI (fstb s))), (0, .ref m), (1, .int (nI s))]) O hN dX3_lays_63 rfl (by decide) rfl ?_
      refine v_aload_n O dX3_lays_64 rfl 2 rfl ?_
      refine v_getf (C := RX3) (T := TX3) (N := 27) (v := .ref (ad 15)) O in_X3 hR.ob rfl 15 (by decide) rfl q1507 rfl dX3_lays_65 ?_
      refine v_iload_n O dX3_lays_68 rfl 3 rfl ?_
      refine v_iconst (v := (-1)) O dX3_lays_69 (by decide) ?_
      refine r_iast (K := layM) O hR 15 rfl (by omega) (by omega) dX3_lays_70 (fun σ1 hR1 hf1 => ?_)
      have hq : ∀ t, t ≠ s → EntIs F' L' t (dp N.1 N.2.1 t) → EntIs (va_up F' 15 (va_up (F' 15) s (-1))) L' t (dp N.1 N.2.1 t) := fun t ht h9 => ⟨by have := h9.1; simpa [va_up, ht] using this, h9.2.1, h9.2.2.1, h9.2.2.2⟩
      have hF8 : ∀ j, j ≠ 15 → (va_up F' 15 (va_up (F' 15) s (-1))) j = F' j := fun j h => by funext z; simp [va_up, h]
      have hE8 : Enc ((va_up F' 15 (va_up (F' 15) s (-1))) 9) N := hE
      refine v_aload_n O dX3_lays_71 rfl 2 rfl ?_
      refine v_iload_n O dX3_lays_72 rfl 3 rfl ?_
      refine v_iload_n O dX3_lays_73 rfl 0 rfl ?_
      refine v_iconst (v := nI 0) O dX3_lays_74 (by decide) ?_
      refine v_iconst (v := nI 0) O dX3_lays_75 (by decide) ?_
      refine v_callV (as := [.int (nI s), .int (nI (sd s (2 ^ (fstb s)))), .int (nI 0), .int (nI 0)]) (rest := []) O (c_X3_adds0 hG hR1 (d := dp N.1 N.2.1 (sd s (2 ^ fstb s))) (by omega) (by omega) (by omega) (hq (sd s (2 ^ fstb s)) (by omega) (hlow _ (by omega))) (dp_small hw hn (by omega)) (by simp [va_up])) q1763 q1765 qs59 q77 q1766 hR1.ob (show vcl[2]? = some (RX3, TX3, 27) from rfl) rfl mdX3_adds rfl (by decide) (by omega) (by omega) (by omega) (Nat.le_of_ble_eq_true rfl) rfl dX3_lays_76 (fun v9 σ3 hp9 => ?_) (fun _ _ _ h => False.elim h)
      obtain ⟨rfl, F2, L2, hR2, he2, ho2, hf2⟩ := hp9
      have hE2 : Enc (F2 9) N := by rw [ho2.2 9 (by omega) (by omega) (by omega)]; exact hE8
      refine v_iload_n O dX3_lays_79 rfl 1 rfl ?_
      refine v_iconst (v := nI 1) O dX3_lays_80 (by decide) ?_
      refine v_iadd (z := nI (fstb s + 1)) O dX3_lays_81 (nI_add (fstb s) 1) ?_
      refine v_istore (lv' := [(4, .int (nI (fstb s + 1))), (3, .int (nI (sd s (2 ^ (fstb s))))), (2, .int (nI (fstb s))), (0, .ref m), (1, .int (nI s))]) O hN dX3_lays_82 (by decide) rfl ?_
      refine v_lv [3, 4, 2, 1, 0] rfl ?_
      refine l_X3_lays_i hG O hN hcm0 hsm0 (F := F2) (L := L2) hE2 hN0 (s := s) (a := fstb s) (rest := sd s (2 ^ fstb s)) (by omega) (by omega) hsl (fun t ht => ho2.ent (by omega) (hq t (by omega) (hlow t ht))) (fun σ6 F6 L6 hR6 hf6 ho6 he6 => ?_) N.1 (fstb s + 1) _ _ _ (by omega) (by omega) hR2 FrL.rf Oth.rf (by rw [dfold_low _ (by omega)]; exact he2)
      refine v_iinc (v := nI (s + 1)) (lv' := [(1, .int (nI (s + 1))), (0, .ref m)]) O hN dX3_lays_140 1 rfl (nI_add s 1) (by decide) rfl ?_
      refine v_goto (tgt := 43) O dX3_lays_143 (by decide) ?_
      refine v_lv [1, 0] rfl ?_
      exact ih (s + 1) _ _ _ (by omega) (by omega) hR6 (hf.trans ((hf1.trans hf2).trans hf6)) (fun j h1 h2 h3 => ((ho6.2 j h1 h2 h3).trans (ho2.2 j h1 h2 h3)).trans ((hF8 j h1).trans (ho j h1 h2 h3))) (fun t ht => by
        by_cases e : t = s
        · subst e
          rw [dp_eq (by omega) (by omega)]
          exact he6
        · exact ho6.ent e (ho2.ent e (hq t e (hlow t (by omega)))))
theorem ModIs.laid {I : Nat → Int32} {F F' : Nat → Nat → Int32} {L L' : Nat → Nat → Int64} {S : SysM} {t : Nat} (h : ModIs I F L S t Enc) (ho : ∀ j, j ≠ 15 → j ≠ 16 → j ≠ 17 → F' j = F j) (hl : LaidOk (sN S).1 (sN S).2.1 F' L') : ModIs (va_up I 19 (nI 1)) F' L' S t Enc := by
  obtain ⟨h0, h2, h5, h12, h8, h1, h9, hk, hL⟩ := h
  refine ⟨h0, h2, h5, h12, fun j hj => by rw [ho 8 (by omega) (by omega) (by omega)]; exact h8 j hj, fun j hj => by rw [ho 1 (by omega) (by omega) (by omega)]; exact h1 j hj, by rw [ho 9 (by omega) (by omega) (by omega)]; exact h9, fun i M hi => by rw [ho (100 + i) (by omega) (by omega) (by omega)]; exact hk i M hi, Or.inr ⟨rfl, hl⟩⟩
theorem c_X3_lays {G : vGC} (hG : vGok G) {σ : vSt} {m : Nat} {ad : Nat → Nat} {I : Nat → Int32} {F : Nat → Nat → Int32} {L : Nat → Nat → Int64} (hR : RecAt layM σ m ad I F L) {S : SysM} {t : Nat} (hM : ModIs I F L S t Enc) (hS : okS S) : Ct G yX3_lays (ws_ yX3_lays cX3_lays 5 none) 4 0 0 σ [.ref m] (fun v σ9 => v = none ∧ ∃ (I' : Nat → Int32) (F' : Nat → Nat → Int32) (L' : Nat → Nat → Int64), RecAt layM σ9 m ad I' F' L' ∧ ModIs I' F' L' S t Enc ∧ LaidOk (sN S).1 (sN S).2.1 F' L' ∧ FrL [m] σ σ9) vNo := by
  refine ct_of hG (by decide) (Nat.le_of_ble_eq_true rfl) fun X hN O hnm htb => ?_
  show V G X _ 0 0 σ 0 [(0, .ref m)] []
  have hd := okS.d S hS
  have hn1 : 1 ≤ (sN S).1 := hd.1
  have hn : (sN S).1 ≤ 12 := hd.2.1
  have hp1 : 1 ≤ 2 ^ (sN S).1 := Nat.one_le_two_pow
  refine v_aload_n O dX3_lays_0 rfl 0 rfl ?_
  refine v_getf (C := RX3) (T := TX3) (N := 27) (v := .int (I 19)) O in_X3 hR.ob rfl 19 (by decide) rfl q1511 rfl dX3_lays_1 ?_
  refine v_if_eq (tgt := 8) O dX3_lays_4 (by decide) (fun h_4 => ?_) (fun h_4 => ?_)
  · have h19 : I 19 = nI 0 := h_4
    refine v_aload_n O dX3_lays_8 rfl 0 rfl ?_
    refine v_iconst (v := nI 1) O dX3_lays_9 (by decide) ?_
    refine r_puti (K := layM) (I' := (va_up I 19 (nI 1))) (ty0 := tyX3) O hR in_X3 tyX3_ok nmX3 (show vcl[2]? = some (RX3, TX3, 27) from rfl) 19 (by decide) rfl q1511 rfl (tyX3_ok 19 (by decide)) rfl rfl (Nat.le_of_ble_eq_true rfl) rfl dX3_lays_10 (fun σ1 hR1 hf1 => ?_)
    refine v_aload_n O dX3_lays_13 rfl 0 rfl ?_
    refine v_getf (C := RX3) (T := TX3) (N := 27) (v := .ref (ad 18)) O in_X3 hR1.ob rfl 18 (by decide) rfl q1510 rfl dX3_lays_14 ?_
    refine v_iconst (v := nI 0) O dX3_lays_17 (by decide) ?_
    refine v_lconst (v := 1) O dX3_lays_18 (by decide) ?_
    refine r_last (K := layM) O hR1 18 rfl (by omega) (by omega) dX3_lays_19 (fun σ2 hR2 hf2 => ?_)
    refine v_aload_n O dX3_lays_20 rfl 0 rfl ?_
    refine v_getf (C := RX3) (T := TX3) (N := 27) (v := .ref (ad 15)) O in_X3 hR2.ob rfl 15 (by decide) rfl q1507 rfl dX3_lays_21 ?_
    refine v_iconst (v := nI 0) O dX3_lays_24 (by decide) ?_
    refine v_iconst (v := nI 0) O dX3_lays_25 (by decide) ?_
    refine r_iast (K := layM) O hR2 15 rfl (by omega) (by omega) dX3_lays_26 (fun σ3 hR3 hf3 => ?_)
    refine v_aload_n O dX3_lays_27 rfl 0 rfl ?_
    refine v_getf (C := RX3) (T := TX3) (N := 27) (v := .ref (ad 16)) O in_X3 hR3.ob rfl 16 (by decide) rfl q1508 rfl dX3_lays_28 ?_
    refine v_iconst (v := nI 0) O dX3_lays_31 (by decide) ?_
    refine v_iconst (v := nI 0) O dX3_lays_32 (by decide) ?_
    refine r_iast (K := layM) O hR3 16 rfl (by omega) (by omega) dX3_lays_33 (fun σ4 hR4 hf4 => ?_)
    refine v_aload_n O dX3_lays_34 rfl 0 rfl ?_
    refine v_getf (C := RX3) (T := TX3) (N := 27) (v := .ref (ad 17)) O in_X3 hR4.ob rfl 17 (by decide) rfl q1509 rfl dX3_lays_35 ?_
    refine v_iconst (v := nI 0) O dX3_lays_38 (by decide) ?_
    refine v_iconst (v := nI 0) O dX3_lays_39 (by decide) ?_
    refine r_iast (K := layM) O hR4 17 rfl (by omega) (by omega) dX3_lays_40 (fun σ5 hR5 hf5 => ?_)
    refine v_iconst (v := nI 1) O dX3_lays_41 (by decide) ?_
    refine v_istore_n (lv' := [(1, .int (nI 1)), (0, .ref m)]) O hN dX3_lays_42 rfl (by decide) rfl ?_
    refine v_lv [1, 0] rfl ?_
    refine l_X3_lays hG O hN (by omega) (by omega) (F := (va_up (va_up (va_up F 15 (va_up (F 15) 0 (nI 0))) 16 (va_up (F 16) 0 (nI 0))) 17 (va_up (F 17) 0 (nI 0)))) (L := (va_up L 18 (va_up (L 18) 0 1))) (N := sN S) hM.e9 hS.2.2.2.2 (fun σ6 F6 L6 hR6 hf6 ho6 hl6 => ?_) (2 ^ (sN S).1 + 1) 1 _ _ _ (by omega) (by omega) hR5 FrL.rf (fun _ _ _ _ => rfl) (fun t ht => by
      obtain rfl : t = 0 := by omega
      exact ⟨by simp [va_up, dp_0], by simp [va_up, dp_0]; rfl, by simp [va_up, dp_0], by simp [va_up, dp_0]⟩)
    exact v_vret O rfl dX3_lays_146 (by omega) (by omega) ⟨rfl, _, _, _, hR6, hM.laid (fun j h1 h2 h3 => (ho6 j h1 h2 h3).trans (by funext z; simp [va_up, h1, h2, h3])) hl6, hl6, ((((hf1.trans hf2).trans hf3).trans hf4).trans hf5).trans hf6⟩
  · rcases hM.2.2.2.2.2.2.2.2 with h9 | ⟨h9, h9l⟩
    · exact absurd h9 h_4
    exact v_vret O rfl dX3_lays_7 (by omega) (by omega) (⟨rfl, _, _, _, hR, hM, h9l, FrL.rf⟩)
