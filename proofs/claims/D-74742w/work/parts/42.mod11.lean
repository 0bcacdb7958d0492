theorem sd_b {s k i : Nat} : (sd s (2 ^ k)).testBit i = (s.testBit i && !decide (k = i)) := by rw [sd_bit, Nat.testBit_two_pow]
/-- how the first row stands: what was left, how many are due, the row -/
def FstI (N : NetM) (a : Nat) (q : Fst) (f : Nat → Int32) : Prop := (∀ j, j < a → q.1.testBit j = false) ∧ q.1 < 2 ^ N.1 ∧ (∀ j, j < N.1 → q.1.testBit j = false → f j = q.2.2 j) ∧ q.2.1 ≤ 12
theorem FstI.no {N : NetM} {a : Nat} {q : Fst} {f : Nat → Int32} (h : FstI N a q f) (hq : q.1.testBit a = false) : FstI N (a + 1) (fstS N q a) f := by
  obtain ⟨h1, h2, h3, h4⟩ := h
  rw [fstS, if_neg (by rw [hq]; decide)]
  exact ⟨fun j hj => by
    by_cases e : j = a
    · rw [e]; exact hq
    · exact h1 j (by omega), h2, h3, h4⟩
theorem FstI.none {N : NetM} {a : Nat} {q : Fst} {f g : Nat → Int32} (h : FstI N a q f) (hq : q.1.testBit a = true) (hr : fndF (fstP N (sd q.1 (2 ^ a)) q.2.1 a) (N.1 - (a + 1)) (a + 1) = none) (hg : g = va_up f a (-1)) : FstI N (a + 1) (fstS N q a) g ∧ (fstS N q a).1 = sd q.1 (2 ^ a) ∧ (fstS N q a).2.1 = q.2.1 := by
  obtain ⟨h1, h2, h3, h4⟩ := h
  rw [fstS, if_pos hq, hr]
  refine ⟨⟨fun j hj => ?_, Nat.lt_of_le_of_lt (sd_le _ _) h2, fun j hj hb => ?_, h4⟩, rfl, rfl⟩
  · show (sd q.1 (2 ^ a)).testBit j = false
    rw [sd_b]
    by_cases e : a = j
    · rw [decide_eq_true e]; simp
    · rw [h1 j (by omega)]; rfl
  · have hb' : (sd q.1 (2 ^ a)).testBit j = false := hb
    rw [sd_b] at hb'
    show g j = va_up q.2.2 a (-1) j
    rw [hg, vu, vu]
    by_cases e : j = a
    · rw [if_pos e, if_pos e]
    · rw [if_neg e, if_neg e]
      rw [decide_eq_false (fun h => e h.symm)] at hb'
      exact h3 j hj (by simpa using hb')
theorem FstI.some {N : NetM} {a b : Nat} {q : Fst} {f g : Nat → Int32} (h : FstI N a q f) (hq : q.1.testBit a = true) (hab : a ≠ b) (hr : fndF (fstP N (sd q.1 (2 ^ a)) q.2.1 a) (N.1 - (a + 1)) (a + 1) = some b) (hg : g = va_up (va_up (va_up f a (-1)) a (nI b)) b (nI a)) : FstI N (a + 1) (fstS N q a) g ∧ (fstS N q a).1 = sd (sd q.1 (2 ^ a)) (2 ^ b) ∧ (fstS N q a).2.1 = q.2.1 - 1 := by
  obtain ⟨h1, h2, h3, h4⟩ := h
  rw [fstS, if_pos hq, hr]
  refine ⟨⟨fun j hj => ?_, Nat.lt_of_le_of_lt (sd_le _ _) (Nat.lt_of_le_of_lt (sd_le _ _) h2), fun j hj hb => ?_, by show q.2.1 - 1 ≤ 12; omega⟩, rfl, rfl⟩
  · show (sd (sd q.1 (2 ^ a)) (2 ^ b)).testBit j = false
    rw [sd_b, sd_b]
    by_cases e : a = j
    · rw [decide_eq_true e]; simp
    · rw [h1 j (by omega)]; rfl
  · have hb' : (sd (sd q.1 (2 ^ a)) (2 ^ b)).testBit j = false := hb
    rw [sd_b, sd_b] at hb'
    show g j = va_up (va_up q.2.2 a (nI b)) b (nI a) j
    rw [hg, vu, vu, vu, vu, vu]
    by_cases e : j = b
    · rw [if_pos e, if_pos e]
    · rw [if_neg e, if_neg e]
      by_cases e2 : j = a
      · rw [if_pos e2, if_pos e2]
      · rw [if_neg e2, if_neg e2, if_neg e2]
        rw [decide_eq_false (fun h => e2 h.symm), decide_eq_false (fun h => e h.symm)] at hb'
        exact h3 j hj (by simpa using hb')
theorem fndF_s {p : Nat → Bool} {f i : Nat} : fndF p (f + 1) i = if p i then some i else fndF p f (i + 1) := rfl
theorem ModIs.f20 {I : Nat → Int32} {F F' : Nat → Nat → Int32} {L : Nat → Nat → Int64} {S : SysM} {t : Nat} (h : ModIs I F L S t Enc) (ho : ∀ j, j ≠ 20 → F' j = F j) : ModIs I F' L S t Enc := by
  obtain ⟨h0, h2, h5, h12, h8, h1, h9, hk, hL⟩ := h
  refine ⟨h0, h2, h5, h12, fun j hj => by rw [ho 8 (by omega)]; exact h8 j hj, fun j hj => by rw [ho 1 (by omega)]; exact h1 j hj, by rw [ho 9 (by omega)]; exact h9, fun i M hi => by rw [ho (100 + i) (by omega)]; exact hk i M hi, ?_⟩
  rcases hL with h | ⟨h, h'⟩
  · exact Or.inl h
  · refine Or.inr ⟨h, fun s hs => ?_⟩
    have h6 := h' s hs
    rw [ho 15 (by omega), ho 16 (by omega), ho 17 (by omega)]
    exact h6
theorem l_X3_laysFirst_i {G : vGC} (hG : vGok G) {X : vCX} {Q : State → Prop} {c0 n0 : Nat} (O : vOk G X yX3_laysFirst.cls cX3_laysFirst none 5 0 0) (hN : xn X = 5) (hcm0 : c0 ≤ 0) (hsm0 : n0 ≤ 0) {σ : vSt} {m : Nat} {ad : Nat → Nat} {I : Nat → Int32} {F : Nat → Nat → Int32} {L : Nat → Nat → Int64} {N : NetM} (hE0 : Enc (F 9) N) (hn : N.1 ≤ 12) (hl0 : LaidOk N.1 N.2.1 F L) (hb0 : ∀ s, s < 2 ^ N.1 → (dpN N s).1 ≤ 12) {F' : Nat → Nat → Int32} (hR : RecAt layM σ m ad I F' L) (ho : ∀ j, j ≠ 20 → F' j = F j) {a l d : Nat} {r0 : Option Nat} (ha : a < N.1) (hl1 : l < 2 ^ N.1) (hd : d ≤ 12) (hm : F' 20 a = -1) (kn : r0 = none → V G X Q c0 n0 σ 155 [(0, .ref m), (1, .int (nI l)), (2, .int (nI d)), (3, .int (nI a))] []) (ks : ∀ b, r0 = some b → a < b → b < N.1 → 1 ≤ d → l.testBit b = true → ∀ (σ9 : vSt) (F9 : Nat → Nat → Int32), RecAt layM σ9 m ad I F9 L → FrL [m] σ σ9 → F9 20 = va_up (va_up (F' 20) a (nI b)) b (nI a) → (∀ j, j ≠ 20 → F9 j = F' j) → V G X Q c0 n0 σ9 155 [(0, .ref m), (1, .int (nI (sd l (2 ^ b)))), (2, .int (nI (d - 1))), (3, .int (nI a))] []) : ∀ (k : Nat) (b : Nat), (N.1 < b + k) → (a < b ∧ b ≤ N.1) → (fndF (fstP N l d a) (N.1 - b) b = r0) → V G X Q c0 n0 σ 60 [(0, .ref m), (1, .int (nI l)), (2, .int (nI d)), (3, .int (nI a)), (4, .int (nI b))] [] := by
  intro k
  induction k with
  | zero => intro b h0 h1 h2; exact absurd h0 (by omega)
  | succ k ih =>
    intro b h0 h1 h2
    have hE : Enc (F' 9) N := by rw [ho 9 (by omega)]; exact hE0
    have hl : LaidOk N.1 N.2.1 F' L := fun s hs => by
      have h6 := hl0 s hs
      rw [← ho 15 (by omega), ← ho 16 (by omega), ← ho 17 (by omega)] at h6
      exact h6
    have hp12 := p12 hn
    have hsl : ∀ k, sd l (2 ^ k) ≤ l := fun k => sd_le _ _
    have hsb := hsl b
    have hdb := hb0 (sd l (2 ^ b)) (by omega)
    refine v_iload O dX3_laysFirst_60 4 rfl ?_
    refine v_aload_n O dX3_laysFirst_62 rfl 0 rfl ?_
    refine v_callV (as := []) (rest := [.int (nI b)]) O (c_X3_nodes hG hR hE (by first | omega | exact hn)) q1677 q1679 qs47 q77 q1680 hR.ob (show vcl[2]? = some (RX3, TX3, 27) from rfl) rfl mdX3_nodes rfl (by decide) (by omega) (by omega) (by omega) (Nat.le_of_ble_eq_true rfl) rfl dX3_laysFirst_63 (fun v9 σ9 hp9 => ?_) (fun _ _ _ h => False.elim h)
    obtain ⟨rfl, hs9⟩ := hp9
    obtain rfl := hs9.symm
    refine v_icmp_geN (tgt := 155) O dX3_laysFirst_66 (by decide) (by omega) (by omega) (fun h_66 => ?_) (fun h_66 => ?_)
    · obtain rfl : b = N.1 := by omega
      rw [Nat.sub_self] at h2
      exact v_lv [0, 1, 2, 3] rfl (kn h2.symm)
    · refine v_aload_n O dX3_laysFirst_69 rfl 0 rfl ?_
      refine v_getf (C := RX3) (T := TX3) (N := 27) (v := .ref (ad 20)) O in_X3 hR.ob rfl 20 (by decide) rfl q1512 rfl dX3_laysFirst_70 ?_
      refine v_iload_n O dX3_laysFirst_73 rfl 3 rfl ?_
      refine v_iald (f := F' 20) O (hR.ar 20 rfl) (by omega) (by omega) dX3_laysFirst_74 ?_
      refine v_top (y := (F' 20 a)) rfl ?_
      refine v_iconst (v := (-1)) O dX3_laysFirst_75 (by decide) ?_
      refine v_icmp_ne (tgt := 155) O dX3_laysFirst_76 (by decide) (fun h_76 => ?_) (fun h_76 => ?_)
      · exact absurd h_76 (fun h => h hm)
      · refine v_iload_n O dX3_laysFirst_79 rfl 1 rfl ?_
        refine v_iload O dX3_laysFirst_80 4 rfl ?_
        refine v_callS (as := [.int (nI l), .int (nI b)]) (rest := []) O (c_X3_has hG (s := l) (k := b) (by omega) (by omega)) q1741 q1742 q77 q1743 mdX3_has rfl (by decide) (by omega) (by omega) (by omega) (Nat.le_of_ble_eq_true rfl) rfl dX3_laysFirst_82 (fun v9 σ9 hp9 => ?_) (fun _ _ _ h => False.elim h)
        obtain ⟨rfl, hs9⟩ := hp9
        obtain rfl := hs9.symm
        refine v_if_eqB (tgt := 149) O dX3_laysFirst_85 (by decide) (fun h_85 => ?_) (fun h_85 => ?_)
        · refine v_iinc (v := nI (b + 1)) (lv' := [(4, .int (nI (b + 1))), (0, .ref m), (1, .int (nI l)), (2, .int (nI d)), (3, .int (nI a))]) O hN dX3_laysFirst_149 4 rfl (nI_add b 1) (by decide) rfl ?_
          refine v_goto (tgt := 60) O dX3_laysFirst_152 (by decide) ?_
          refine v_lv [1, 2, 3, 4, 0] rfl ?_
          exact ih (b + 1) (by omega) (by omega) (by have e0 : N.1 - b = N.1 - (b + 1) + 1 := (by omega); rw [e0, fndF_s, if_neg (by simp [fstP, h_85])] at h2; exact h2)
        · refine v_aload_n O dX3_laysFirst_88 rfl 0 rfl ?_
          refine v_iload_n O dX3_laysFirst_89 rfl 3 rfl ?_
          refine v_iload O dX3_laysFirst_90 4 rfl ?_
          refine v_callV (as := [.int (nI a), .int (nI b)]) (rest := []) O (c_X3_weight hG hR hE (by first | omega | exact hn) (a := a) (b := b) (by omega) (by omega)) q1681 q1683 qs48 q77 q1684 hR.ob (show vcl[2]? = some (RX3, TX3, 27) from rfl) rfl mdX3_weight rfl (by decide) (by omega) (by omega) (by omega) (Nat.le_of_ble_eq_true rfl) rfl dX3_laysFirst_92 (fun v9 σ9 hp9 => ?_) (fun _ _ _ h => False.elim h)
          obtain ⟨rfl, hs9⟩ := hp9
          obtain rfl := hs9.symm
          refine v_iconst (v := (-1)) O dX3_laysFirst_95 (by decide) ?_
          refine v_icmp_eq (tgt := 149) O dX3_laysFirst_96 (by decide) (fun h_96 => ?_) (fun h_96 => ?_)
          · refine v_iinc (v := nI (b + 1)) (lv' := [(4, .int (nI (b + 1))), (0, .ref m), (1, .int (nI l)), (2, .int (nI d)), (3, .int (nI a))]) O hN dX3_laysFirst_149 4 rfl (nI_add b 1) (by decide) rfl ?_
            refine v_goto (tgt := 60) O dX3_laysFirst_152 (by decide) ?_
            refine v_lv [1, 2, 3, 4, 0] rfl ?_
            exact ih (b + 1) (by omega) (by omega) (by have e0 : N.1 - b = N.1 - (b + 1) + 1 := (by omega); rw [e0, fndF_s, if_neg (by simp [fstP, h_85, ln, h_96])] at h2; exact h2)
          · refine v_aload_n O dX3_laysFirst_99 rfl 0 rfl ?_
            refine v_getf (C := RX3) (T := TX3) (N := 27) (v := .ref (ad 15)) O in_X3 hR.ob rfl 15 (by decide) rfl q1507 rfl dX3_laysFirst_100 ?_
            refine v_iload_n O dX3_laysFirst_103 rfl 1 rfl ?_
            refine v_iconst (v := nI 1) O dX3_laysFirst_104 (by decide) ?_
            refine v_iload O dX3_laysFirst_105 4 rfl ?_
            refine v_ishl (z := nI (2 ^ b)) O dX3_laysFirst_107 (bx_shl1 (by omega)) ?_
            refine v_iconst (v := (-1)) O dX3_laysFirst_108 (by decide) ?_
            refine v_ixor (z := nI (2 ^ b) ^^^ -1) O dX3_laysFirst_109 rfl ?_
            refine v_iand (z := nI (sd l (2 ^ b))) O dX3_laysFirst_110 (bx_sd (by omega) (by first | omega | exact Nat.pow_lt_pow_right (by omega) (by omega))) ?_
            refine v_iald (f := F' 15) O (hR.ar 15 rfl) (by omega) (by omega) dX3_laysFirst_111 ?_
            refine v_top (y := nI ((dpN N (sd l (2 ^ b))).1)) (hl _ (by first | omega | exact sall_lt | exact restN_lt)).1 ?_
            refine v_iconst (v := nI 1) O dX3_laysFirst_112 (by decide) ?_
            refine v_iadd (z := nI (((dpN N (sd l (2 ^ b))).1) + 1)) O dX3_laysFirst_113 (nI_add ((dpN N (sd l (2 ^ b))).1) 1) ?_
            refine v_iload_n O dX3_laysFirst_114 rfl 2 rfl ?_
            refine v_icmp_eqN (tgt := 121) O dX3_laysFirst_115 (by decide) (by omega) (by omega) (fun h_115 => ?_) (fun h_115 => ?_)
            · have h2b : r0 = some b := by
                have e0 : N.1 - b = N.1 - (b + 1) + 1 := (by omega)
                rw [e0, fndF_s, if_pos (by simp [fstP, h_85, ln, h_96, h_115])] at h2
                exact h2.symm
              refine v_aload_n O dX3_laysFirst_121 rfl 0 rfl ?_
              refine v_getf (C := RX3) (T := TX3) (N := 27) (v := .ref (ad 20)) O in_X3 hR.ob rfl 20 (by decide) rfl q1512 rfl dX3_laysFirst_122 ?_
              refine v_iload_n O dX3_laysFirst_125 rfl 3 rfl ?_
              refine v_iload O dX3_laysFirst_126 4 rfl ?_
              refine r_iast (K := layM) O hR 20 rfl (by omega) (by omega) dX3_laysFirst_128 (fun σ1 hR1 hf1 => ?_)
              refine v_aload_n O dX3_laysFirst_129 rfl 0 rfl ?_
              refine v_getf (C := RX3) (T := TX3) (N := 27) (v := .ref (ad 20)) O in_X3 hR1.ob rfl 20 (by decide) rfl q1512 rfl dX3_laysFirst_130 ?_
              refine v_iload O dX3_laysFirst_133 4 rfl ?_
              refine v_iload_n O dX3_laysFirst_135 rfl 3 rfl ?_
              refine r_iast (K := layM) O hR1 20 rfl (by omega) (by omega) dX3_laysFirst_136 (fun σ2 hR2 hf2 => ?_)
              refine v_iload_n O dX3_laysFirst_137 rfl 1 rfl ?_
              refine v_iconst (v := nI 1) O dX3_laysFirst_138 (by decide) ?_
              refine v_iload O dX3_laysFirst_139 4 rfl ?_
              refine v_ishl (z := nI (2 ^ b)) O dX3_laysFirst_141 (bx_shl1 (by omega)) ?_
              refine v_iconst (v := (-1)) O dX3_laysFirst_142 (by decide) ?_
              refine v_ixor (z := nI (2 ^ b) ^^^ -1) O dX3_laysFirst_143 rfl ?_
              refine v_iand (z := nI (sd l (2 ^ b))) O dX3_laysFirst_144 (bx_sd (by omega) (by first | omega | exact Nat.pow_lt_pow_right (by omega) (by omega))) ?_
              refine v_istore_n (lv' := [(1, .int (nI (sd l (2 ^ b)))), (0, .ref m), (2, .int (nI d)), (3, .int (nI a)), (4, .int (nI b))]) O hN dX3_laysFirst_145 rfl (by decide) rfl ?_
              refine v_iinc (v := nI (d - 1)) (lv' := [(2, .int (nI (d - 1))), (1, .int (nI (sd l (2 ^ b)))), (0, .ref m), (3, .int (nI a)), (4, .int (nI b))]) O hN dX3_laysFirst_146 2 rfl (nI_dec 1 (by omega)) (by decide) rfl ?_
              refine v_iinc (v := nI (b + 1)) (lv' := [(4, .int (nI (b + 1))), (2, .int (nI (d - 1))), (1, .int (nI (sd l (2 ^ b)))), (0, .ref m), (3, .int (nI a))]) O hN dX3_laysFirst_149 4 rfl (nI_add b 1) (by decide) rfl ?_
              refine v_goto (tgt := 60) O dX3_laysFirst_152 (by decide) ?_
              refine v_iload O dX3_laysFirst_60 0 rfl ?_
              refine v_aload_n O dX3_laysFirst_62 rfl 3 rfl ?_
              refine v_callV (as := []) (rest := [.int (nI (b + 1))]) O (c_X3_nodes hG hR2 hE (by first | omega | exact hn)) q1677 q1679 qs47 q77 q1680 hR2.ob (show vcl[2]? = some (RX3, TX3, 27) from rfl) rfl mdX3_nodes rfl (by decide) (by omega) (by omega) (by omega) (Nat.le_of_ble_eq_true rfl) rfl dX3_laysFirst_63 (fun v9 σ9 hp9 => ?_) (fun _ _ _ h => False.elim h)
              obtain ⟨rfl, hs9⟩ := hp9
              obtain rfl := hs9.symm
              refine v_icmp_geN (tgt := 155) O dX3_laysFirst_66 (by decide) (by omega) (by omega) (fun h_66 => ?_) (fun h_66 => ?_)
              · exact v_lv [3, 2, 1, 4] rfl (ks b h2b (by omega) (by omega) (by omega) h_85 _ _ hR2 (hf1.trans hf2) rfl (fun j hj => by funext z; simp [va_up, hj]))
              · refine v_aload_n O dX3_laysFirst_69 rfl 3 rfl ?_
                refine v_getf (C := RX3) (T := TX3) (N := 27) (v := .ref (ad 20)) O in_X3 hR2.ob rfl 20 (by decide) rfl q1512 rfl dX3_laysFirst_70 ?_
                refine v_iload_n O dX3_laysFirst_73 rfl 4 rfl ?_
                refine v_iald (f := (va_up ((va_up (F' 20) a (nI b))) b (nI a))) O (hR2.ar 20 rfl) (by omega) (by omega) dX3_laysFirst_74 ?_
                refine v_top (y := nI b) (by simp [va_up, show a ≠ b by omega]) ?_
                refine v_iconst (v := (-1)) O dX3_laysFirst_75 (by decide) ?_
                refine v_icmp_ne (tgt := 155) O dX3_laysFirst_76 (by decide) (fun h_76 => ?_) (fun h_76 => ?_)
                · exact v_lv [3, 2, 1, 4] rfl (ks b h2b (by omega) (by omega) (by omega) h_85 _ _ hR2 (hf1.trans hf2) rfl (fun j hj => by funext z; simp [va_up, hj]))
                · exact absurd h_76 (nI_ne (by omega))
            · refine v_goto (tgt := 149) O dX3_laysFirst_118 (by decide) ?_
              refine v_iinc (v := nI (b + 1)) (lv' := [(4, .int (nI (b + 1))), (0, .ref m), (1, .int (nI l)), (2, .int (nI d)), (3, .int (nI a))]) O hN dX3_laysFirst_149 4 rfl (nI_add b 1) (by decide) rfl ?_
              refine v_goto (tgt := 60) O dX3_laysFirst_152 (by decide) ?_
              refine v_lv [1, 2, 3, 4, 0] rfl ?_
              exact ih (b + 1) (by omega) (by omega) (by have e0 : N.1 - b = N.1 - (b + 1) + 1 := (by omega); rw [e0, fndF_s, if_neg (by simp [fstP, h_85, ln, h_96, h_115])] at h2; exact h2)
theorem l_X3_laysFirst {G : vGC} (hG : vGok G) {X : vCX} {Q : State → Prop} {c0 n0 : Nat} (O : vOk G X yX3_laysFirst.cls cX3_laysFirst none 5 0 0) (hN : xn X = 5) (hcm0 : c0 ≤ 0) (hsm0 : n0 ≤ 0) {σ0 : vSt} {m : Nat} {ad : Nat → Nat} {I : Nat → Int32} {F : Nat → Nat → Int32} {L : Nat → Nat → Int64} {N : NetM} (hE0 : Enc (F 9) N) (hn : N.1 ≤ 12) (hl0 : LaidOk N.1 N.2.1 F L) (hb0 : ∀ s, s < 2 ^ N.1 → (dpN N s).1 ≤ 12) (kx : ∀ (σ : vSt) (F' : Nat → Nat → Int32), RecAt layM σ m ad I F' L → FrL [m] σ0 σ → (∀ j, j ≠ 20 → F' j = F j) → (∀ j, j < N.1 → F' 20 j = firstR N j) → V G X Q c0 n0 σ 161 [(0, .ref m)] []) : ∀ (k : Nat) (a : Nat) (σ : vSt) (F' : Nat → Nat → Int32), (N.1 < a + k) → (a ≤ N.1) → (RecAt layM σ m ad I F' L) → (FrL [m] σ0 σ) → (∀ j, j ≠ 20 → F' j = F j) → (FstI N a (fstQ N a) (F' 20)) → V G X Q c0 n0 σ 21 [(0, .ref m), (1, .int (nI ((fstQ N a).1))), (2, .int (nI ((fstQ N a).2.1))), (3, .int (nI a))] [] := by
  intro k
  induction k with
  | zero => intro a σ F' h0 h1 hR hf ho hI; exact absurd h0 (by omega)
  | succ k ih =>
    intro a σ F' h0 h1 hR hf ho hI
    have hE : Enc (F' 9) N := by rw [ho 9 (by omega)]; exact hE0
    have hl : LaidOk N.1 N.2.1 F' L := fun s hs => by
      have h6 := hl0 s hs
      rw [← ho 15 (by omega), ← ho 16 (by omega), ← ho 17 (by omega)] at h6
      exact h6
    have hp12 := p12 hn
    have hI1 := hI.2.1
    have hI3 := hI.2.2.2
    have hsl : sd (fstQ N a).1 (2 ^ a) ≤ (fstQ N a).1 := sd_le _ _
    refine v_iload_n O dX3_laysFirst_21 rfl 3 rfl ?_
    refine v_aload_n O dX3_laysFirst_22 rfl 0 rfl ?_
    refine v_callV (as := []) (rest := [.int (nI a)]) O (c_X3_nodes hG hR hE (by first | omega | exact hn)) q1677 q1679 qs47 q77 q1680 hR.ob (show vcl[2]? = some (RX3, TX3, 27) from rfl) rfl mdX3_nodes rfl (by decide) (by omega) (by omega) (by omega) (Nat.le_of_ble_eq_true rfl) rfl dX3_laysFirst_23 (fun v9 σ9 hp9 => ?_) (fun _ _ _ h => False.elim h)
    obtain ⟨rfl, hs9⟩ := hp9
    obtain rfl := hs9.symm
    refine v_icmp_geN (tgt := 161) O dX3_laysFirst_26 (by decide) (by omega) (by omega) (fun h_26 => ?_) (fun h_26 => ?_)
    · obtain rfl : a = N.1 := by omega
      exact v_lv [0] rfl (kx σ F' hR hf ho (fun j hj => hI.2.2.1 j hj (hI.1 j hj)))
    · refine v_iload_n O dX3_laysFirst_29 rfl 1 rfl ?_
      refine v_iload_n O dX3_laysFirst_30 rfl 3 rfl ?_
      refine v_callS (as := [.int (nI ((fstQ N a).1)), .int (nI a)]) (rest := []) O (c_X3_has hG (s := (fstQ N a).1) (k := a) (by omega) (by omega)) q1741 q1742 q77 q1743 mdX3_has rfl (by decide) (by omega) (by omega) (by omega) (Nat.le_of_ble_eq_true rfl) rfl dX3_laysFirst_31 (fun v9 σ9 hp9 => ?_) (fun _ _ _ h => False.elim h)
      obtain ⟨rfl, hs9⟩ := hp9
      obtain rfl := hs9.symm
      refine v_if_neB (tgt := 40) O dX3_laysFirst_34 (by decide) (fun h_34 => ?_) (fun h_34 => ?_)
      · refine v_iload_n O dX3_laysFirst_40 rfl 1 rfl ?_
        refine v_iconst (v := nI 1) O dX3_laysFirst_41 (by decide) ?_
        refine v_iload_n O dX3_laysFirst_42 rfl 3 rfl ?_
        refine v_ishl (z := nI (2 ^ a)) O dX3_laysFirst_43 (bx_shl1 (by omega)) ?_
        refine v_iconst (v := (-1)) O dX3_laysFirst_44 (by decide) ?_
        refine v_ixor (z := nI (2 ^ a) ^^^ -1) O dX3_laysFirst_45 rfl ?_
        refine v_iand (z := nI (sd ((fstQ N a).1) (2 ^ a))) O dX3_laysFirst_46 (bx_sd (by omega) (by first | omega | exact Nat.pow_lt_pow_right (by omega) (by omega))) ?_
        refine v_istore_n (lv' := [(1, .int (nI (sd ((fstQ N a).1) (2 ^ a)))), (0, .ref m), (2, .int (nI ((fstQ N a).2.1))), (3, .int (nI a))]) O hN dX3_laysFirst_47 rfl (by decide) rfl ?_
        refine v_aload_n O dX3_laysFirst_48 rfl 1 rfl ?_
        refine v_getf (C := RX3) (T := TX3) (N := 27) (v := .ref (ad 20)) O in_X3 hR.ob rfl 20 (by decide) rfl q1512 rfl dX3_laysFirst_49 ?_
        refine v_iload_n O dX3_laysFirst_52 rfl 3 rfl ?_
        refine v_iconst (v := (-1)) O dX3_laysFirst_53 (by decide) ?_
        refine r_iast (K := layM) O hR 20 rfl (by omega) (by omega) dX3_laysFirst_54 (fun σ1 hR1 hf1 => ?_)
        refine v_iload_n O dX3_laysFirst_55 rfl 3 rfl ?_
        refine v_iconst (v := nI 1) O dX3_laysFirst_56 (by decide) ?_
        refine v_iadd (z := nI (a + 1)) O dX3_laysFirst_57 (nI_add a 1) ?_
        refine v_istore (lv' := [(4, .int (nI (a + 1))), (1, .int (nI (sd ((fstQ N a).1) (2 ^ a)))), (0, .ref m), (2, .int (nI ((fstQ N a).2.1))), (3, .int (nI a))]) O hN dX3_laysFirst_58 (by decide) rfl ?_
        refine v_lv [2, 1, 3, 4, 0] rfl ?_
        refine l_X3_laysFirst_i hG O hN hcm0 hsm0 hE0 hn hl0 hb0 (F' := (va_up F' 20 (va_up (F' 20) a (-1)))) hR1 (fun j hj => by rw [← ho j hj]; funext z; simp [va_up, hj]) (a := a) (l := sd (fstQ N a).1 (2 ^ a)) (d := (fstQ N a).2.1) (by omega) (by omega) hI.2.2.2 (by simp [va_up]) (fun hr => ?_) (fun b hr hab hbn hd1 hlb σ7 F7 hR7 hf7 h720 h7 => ?_) N.1 (a + 1) (by omega) (by omega) rfl
        · obtain ⟨hI2, e1, e2⟩ := hI.none h_34 hr rfl
          rw [← e1, ← e2]
          refine v_iinc (v := nI (a + 1)) (lv' := [(3, .int (nI (a + 1))), (0, .ref m), (1, .int (nI (fstS N (fstQ N a) a).1)), (2, .int (nI (fstS N (fstQ N a) a).2.1))]) O hN dX3_laysFirst_155 3 rfl (nI_add a 1) (by decide) rfl ?_
          refine v_goto (tgt := 21) O dX3_laysFirst_158 (by decide) ?_
          refine v_lv [1, 2, 3, 0] rfl ?_
          exact ih (a + 1) _ _ (by omega) (by omega) hR1 (hf.trans hf1) (fun j hj => by rw [← ho j hj]; funext z; simp [va_up, hj]) (by have e9 : (va_up F' 20 (va_up (F' 20) a (-1))) 20 = va_up (F' 20) a (-1) := (by funext z; simp [va_up]); rw [e9]; exact hI2)
        · obtain ⟨hI2, e1, e2⟩ := hI.some h_34 (by omega) hr (g := F7 20) (by rw [h720]; funext z; simp [va_up])
          rw [← e1, ← e2]
          refine v_iinc (v := nI (a + 1)) (lv' := [(3, .int (nI (a + 1))), (0, .ref m), (1, .int (nI (fstS N (fstQ N a) a).1)), (2, .int (nI (fstS N (fstQ N a) a).2.1))]) O hN dX3_laysFirst_155 3 rfl (nI_add a 1) (by decide) rfl ?_
          refine v_goto (tgt := 21) O dX3_laysFirst_158 (by decide) ?_
          refine v_lv [1, 2, 3, 0] rfl ?_
          exact ih (a + 1) _ _ (by omega) (by omega) hR7 (hf.trans (hf1.trans hf7)) (fun j hj => by rw [h7 j hj, ← ho j hj]; funext z; simp [va_up, hj]) hI2
      · refine v_goto (tgt := 155) O dX3_laysFirst_37 (by decide) ?_
        refine v_iinc (v := nI (a + 1)) (lv' := [(3, .int (nI (a + 1))), (0, .ref m), (1, .int (nI ((fstQ N a).1))), (2, .int (nI ((fstQ N a).2.1)))]) O hN dX3_laysFirst_155 3 rfl (nI_add a 1) (by decide) rfl ?_
        refine v_goto (tgt := 21) O dX3_laysFirst_158 (by decide) ?_
        have e1 : fstQ N (a + 1) = fstQ N a := by
          show fstS N (fstQ N a) a = _
          rw [fstS, if_neg (by rw [h_34]; decide)]
        have hI2 := hI.no h_34
        rw [← e1]
        refine v_lv [1, 2, 3, 0] rfl ?_
        exact ih (a + 1) _ _ (by omega) (by omega) hR hf ho hI2
theorem c_X3_laysFirst {G : vGC} (hG : vGok G) {σ : vSt} {m : Nat} {ad : Nat → Nat} {I : Nat → Int32} {F : Nat → Nat → Int32} {L : Nat → Nat → Int64} (hR : RecAt layM σ m ad I F L) {S : SysM} {t : Nat} (hM : ModIs I F L S t Enc) (hS : okS S) : Ct G yX3_laysFirst (ws_ yX3_laysFirst cX3_laysFirst 5 none) 5 0 0 σ [.ref m] (fun v σ9 => v = none ∧ ∃ (I' : Nat → Int32) (F' : Nat → Nat → Int32) (L' : Nat → Nat → Int64), RecAt layM σ9 m ad I' F' L' ∧ ModIs I' F' L' S t Enc ∧ (∀ j, j < (sN S).1 → F' 20 j = firstR (sN S) j) ∧ FrL [m] σ σ9) vNo := by
  refine ct_of hG (by decide) (Nat.le_of_ble_eq_true rfl) fun X hN O hnm htb => ?_
  show V G X _ 0 0 σ 0 [(0, .ref m)] []
  have hd := okS.d S hS
  have hn1 : 1 ≤ (sN S).1 := hd.1
  have hn : (sN S).1 ≤ 12 := hd.2.1
  have hE : Enc (F 9) (sN S) := hM.e9
  have hp12 := p12 hn
  have hal := all_lt (N := sN S)
  have hb1 := (dp_small hS.2.2.2.2.w hn hal).1
  refine v_aload_n O dX3_laysFirst_0 rfl 0 rfl ?_
  refine v_callV (as := []) (rest := []) O (c_X3_lays hG hR hM hS) q1752 q1754 qs57 q77 q1755 hR.ob (show vcl[2]? = some (RX3, TX3, 27) from rfl) rfl mdX3_lays rfl (by decide) (by omega) (by omega) (by omega) (Nat.le_of_ble_eq_true rfl) rfl dX3_laysFirst_1 (fun v9 σ2 hp9 => ?_) (fun _ _ _ h => False.elim h)
  obtain ⟨rfl, I1, F1, L1, hR1, hM1, hl1, hf1⟩ := hp9
  have hE1 : Enc (F1 9) (sN S) := hM1.e9
  refine v_aload_n O dX3_laysFirst_4 rfl 0 rfl ?_
  refine v_callV (as := []) (rest := []) O (c_X3_all hG hR1 hE1 (by first | omega | exact hn)) q1756 q1758 qs58 q77 q1759 hR1.ob (show vcl[2]? = some (RX3, TX3, 27) from rfl) rfl mdX3_all rfl (by decide) (by omega) (by omega) (by omega) (Nat.le_of_ble_eq_true rfl) rfl dX3_laysFirst_5 (fun v9 σ9 hp9 => ?_) (fun _ _ _ h => False.elim h)
  obtain ⟨rfl, hs9⟩ := hp9
  obtain rfl := hs9.symm
  refine v_istore_n (lv' := [(1, .int (nI (allN (sN S)))), (0, .ref m)]) O hN dX3_laysFirst_8 rfl (by decide) rfl ?_
  refine v_aload_n O dX3_laysFirst_9 rfl 1 rfl ?_
  refine v_getf (C := RX3) (T := TX3) (N := 27) (v := .ref (ad 15)) O in_X3 hR1.ob rfl 15 (by decide) rfl q1507 rfl dX3_laysFirst_10 ?_
  refine v_aload_n O dX3_laysFirst_13 rfl 1 rfl ?_
  refine v_callV (as := []) (rest := [.ref (ad 15)]) O (c_X3_all hG hR1 hE1 (by first | omega | exact hn)) q1756 q1758 qs58 q77 q1759 hR1.ob (show vcl[2]? = some (RX3, TX3, 27) from rfl) rfl mdX3_all rfl (by decide) (by omega) (by omega) (by omega) (Nat.le_of_ble_eq_true rfl) rfl dX3_laysFirst_14 (fun v9 σ9 hp9 => ?_) (fun _ _ _ h => False.elim h)
  obtain ⟨rfl, hs9⟩ := hp9
  obtain rfl := hs9.symm
  refine v_iald (f := F1 15) O (hR1.ar 15 rfl) (by omega) (by omega) dX3_laysFirst_17 ?_
  refine v_top (y := nI ((dpN (sN S) (allN (sN S))).1)) (hl1 _ (by first | omega | exact sall_lt | exact restN_lt)).1 ?_
  refine v_istore_n (lv' := [(2, .int (nI ((dpN (sN S) (allN (sN S))).1))), (1, .int (nI (allN (sN S)))), (0, .ref m)]) O hN dX3_laysFirst_18 rfl (by decide) rfl ?_
  refine v_iconst (v := nI 0) O dX3_laysFirst_19 (by decide) ?_
  refine v_istore_n (lv' := [(3, .int (nI 0)), (2, .int (nI ((dpN (sN S) (allN (sN S))).1))), (1, .int (nI (allN (sN S)))), (0, .ref m)]) O hN dX3_laysFirst_20 rfl (by decide) rfl ?_
  refine v_lv [3, 2, 1, 0] rfl ?_
  refine l_X3_laysFirst hG O hN (by omega) (by omega) hE1 hn hl1 (fun s hs => (dp_small hS.2.2.2.2.w hn hs).1) (fun σ6 F6 hR6 hf6 h6 h620 => ?_) ((sN S).1 + 1) 0 _ _ (by omega) (by omega) hR1 FrL.rf (fun _ _ => rfl) ⟨fun j hj => absurd hj (by omega), hal, (fun j hj hb => by
    have hb' : (allN (sN S)).testBit j = false := hb
    rw [allN_bit, decide_eq_true hj] at hb'
    cases hb'), hb1⟩
  exact v_vret O rfl dX3_laysFirst_161 (by omega) (by omega) ⟨rfl, _, _, _, hR6, hM1.f20 h6, h620, hf1.trans hf6⟩
def mixN (N : NetM) (f : Nat → Int32) (a : Nat) : NetM := (N.1, N.2.1, fun i => if i < a then f i else N.2.2 i)
theorem Enc.mix {f : Nat → Int32} {N : NetM} {g : Nat → Int32} {a : Nat} (hE : Enc f (mixN N g a)) (hn : N.1 ≤ 12) (ha : a < N.1) : Enc (va_up f (1 + a) (g a)) (mixN N g (a + 1)) := by
  obtain ⟨h0, h1, h2⟩ := hE
  refine ⟨?_, fun i hi => ?_, fun i j hi hj => ?_⟩
  · rw [vu, if_neg (by omega)]; exact h0
  · have hi' : i < N.1 := hi
    show _ = if i < a + 1 then g i else N.2.2 i
    rw [vu]
    by_cases e : i = a
    · rw [if_pos (by omega), if_pos (by omega), e]
    · rw [if_neg (by omega)]
      have h3 := h1 i hi
      rw [h3]
      show (if i < a then g i else N.2.2 i) = _
      by_cases e2 : i < a
      · rw [if_pos e2, if_pos (by omega)]
      · rw [if_neg e2, if_neg (by omega)]
  · have hi' : i < N.1 := hi
    have hj' : j < N.1 := hj
    rw [vu, if_neg (by omega)]; exact h2 i j hi hj
theorem Enc.mix0 {f : Nat → Int32} {N : NetM} {g : Nat → Int32} (hE : Enc f N) : Enc f (mixN N g 0) := ⟨hE.1, fun i hi => hE.2.1 i hi, hE.2.2⟩
theorem Enc.mixn {f : Nat → Int32} {N : NetM} {g : Nat → Int32} (hE : Enc f (mixN N g N.1)) : Enc f (N.1, N.2.1, g) := ⟨hE.1, fun i hi => (hE.2.1 i hi).trans (if_pos hi), hE.2.2⟩
theorem l_X3_finish {G : vGC} (hG : vGok G) {X : vCX} {Q : State → Prop} {c0 n0 : Nat} (O : vOk G X yX3_finish.cls cX3_finish (some .int) 6 0 0) (hN : xn X = 3) (hcm0 : c0 ≤ 0) (hsm0 : n0 ≤ 0) {σ0 : vSt} {m : Nat} {ad : Nat → Nat} {I : Nat → Int32} {F : Nat → Nat → Int32} {L : Nat → Nat → Int64} {N : NetM} (hn : N.1 ≤ 12) {z : Nat} (h20 : ∀ j, j < N.1 → F 20 j = firstR N j) (kx : ∀ (σ : vSt) (F' : Nat → Nat → Int32), RecAt layM σ m ad I F' L → FrL [m] σ0 σ → (∀ j, j ≠ 9 → F' j = F j) → Enc (F' 9) (finN N) → V G X Q c0 n0 σ 48 [(0, .ref m), (1, .int (nI z))] []) : ∀ (k : Nat) (a : Nat) (σ : vSt) (F' : Nat → Nat → Int32), (N.1 < a + k) → (a ≤ N.1) → (RecAt layM σ m ad I F' L) → (FrL [m] σ0 σ) → (∀ j, j ≠ 9 → F' j = F j) → (Enc (F' 9) (mixN N (firstR N) a)) → V G X Q c0 n0 σ 20 [(0, .ref m), (1, .int (nI z)), (2, .int (nI a))] [] := by
  intro k
  induction k with
  | zero => intro a σ F' h0 h1 hR hf ho hE; exact absurd h0 (by omega)
  | succ k ih =>
    intro a σ F' h0 h1 hR hf ho hE
    have hmn : (mixN N (firstR N) a).1 = N.1 := rfl
    refine v_iload_n O dX3_finish_20 rfl 2 rfl ?_
    refine v_aload_n O dX3_finish_21 rfl 0 rfl ?_
    refine v_callV (as := []) (rest := [.int (nI a)]) O (c_X3_nodes hG hR hE (by first | omega | exact hn)) q1677 q1679 qs47 q77 q1680 hR.ob (show vcl[2]? = some (RX3, TX3, 27) from rfl) rfl mdX3_nodes rfl (by decide) (by omega) (by omega) (by omega) (Nat.le_of_ble_eq_true rfl) rfl dX3_finish_22 (fun v9 σ9 hp9 => ?_) (fun _ _ _ h => False.elim h)
    obtain ⟨rfl, hs9⟩ := hp9
    obtain rfl := hs9.symm
    refine v_icmp_geN (tgt := 48) O dX3_finish_25 (by decide) (by omega) (by omega) (fun h_25 => ?_) (fun h_25 => ?_)
    · obtain rfl : a = N.1 := by omega
      exact v_lv [0, 1] rfl (kx σ F' hR hf ho hE.mixn)
    · refine v_aload_n O dX3_finish_28 rfl 0 rfl ?_
      refine v_getf (C := RX3) (T := TX3) (N := 27) (v := .ref (ad 9)) O in_X3 hR.ob rfl 9 (by decide) rfl q1501 rfl dX3_finish_29 ?_
      refine v_iconst (v := nI 1) O dX3_finish_32 (by decide) ?_
      refine v_iload_n O dX3_finish_33 rfl 2 rfl ?_
      refine v_iadd (z := nI (1 + a)) O dX3_finish_34 (nI_add 1 a) ?_
      refine v_aload_n O dX3_finish_35 rfl 0 rfl ?_
      refine v_getf (C := RX3) (T := TX3) (N := 27) (v := .ref (ad 20)) O in_X3 hR.ob rfl 20 (by decide) rfl q1512 rfl dX3_finish_36 ?_
      refine v_iload_n O dX3_finish_39 rfl 2 rfl ?_
      refine v_iald (f := F' 20) O (hR.ar 20 rfl) (by omega) (by omega) dX3_finish_40 ?_
      refine v_top (y := (firstR N a)) (by rw [ho 20 (by omega)]; exact h20 a (by omega)) ?_
      refine r_iast (K := layM) O hR 9 rfl (by omega) (by omega) dX3_finish_41 (fun σ1 hR1 hf1 => ?_)
      refine v_iinc (v := nI (a + 1)) (lv' := [(2, .int (nI (a + 1))), (0, .ref m), (1, .int (nI z))]) O hN dX3_finish_42 2 rfl (nI_add a 1) (by decide) rfl ?_
      refine v_goto (tgt := 20) O dX3_finish_45 (by decide) ?_
      refine v_lv [1, 2, 0] rfl ?_
      exact ih (a + 1) _ _ (by omega) (by omega) hR1 (hf.trans hf1) (fun j hj => by rw [← ho j hj]; funext z; simp [va_up, hj]) (by have e9 : (va_up F' 9 (va_up (F' 9) (1 + a) (firstR N a))) 9 = va_up (F' 9) (1 + a) (firstR N a) := (by funext z; simp [va_up]); rw [e9]; exact hE.mix hn (by omega))
theorem pairsM_le (N : NetM) : pairsM N ≤ N.1 := cnt_le _ _
theorem keepS_ok {S : SysM} (h : okS S) {N : NetM} (hN : okN N) : okS (keepS S N) := by
  refine ⟨h.1, h.2.1, (kp_len _ _ h.2.2.1).2, fun M hM => ?_, hN⟩
  have hM' : M ∈ (if (sKs S).length = 8 then (sKs S).tail else sKs S) ++ [sN S] := hM
  rcases List.mem_append.mp hM' with h1 | h1
  · refine h.2.2.2.1 M ?_
    split at h1
    · exact List.mem_of_mem_tail h1
    · exact h1
  · rw [List.mem_singleton.mp h1]; exact h.2.2.2.2
theorem ModIs.nowx {I : Nat → Int32} {F F' : Nat → Nat → Int32} {L : Nat → Nat → Int64} {S : SysM} {t : Nat} (h : ModIs I F L S t Enc) {N : NetM} (ho : ∀ j, j ≠ 9 → F' j = F j) (hE : Enc (F' 9) N) (e1 : N.1 = (sN S).1) (e2 : N.2.1 = (sN S).2.1) : ModIs I F' L (setN S N) t Enc := by
  have e : F' = va_up F 9 (F' 9) := by
    funext j
    rw [vu]
    by_cases e : j = 9
    · rw [if_pos e, e]
    · rw [if_neg e, ho j e]
  rw [e]
  exact h.nowm hE e1 e2
theorem mdX3_laysFirst : vMd yX3_laysFirst 0 := ⟨by decide +kernel, by decide +kernel, by decide +kernel⟩
theorem c_X3_finish {G : vGC} (hG : vGok G) {σ : vSt} {m : Nat} {S : SysM} {t0 : Nat} (hA : ModAt σ m S t0) (hS : okS S) : Ct G yX3_finish (ws_ yX3_finish cX3_finish 3 (some .int)) 6 0 0 σ [.ref m] (fun v σ9 => v = some (.int (opFinish S).1) ∧ ModAt σ9 m (opFinish S).2 0 ∧ FrL [m] σ σ9) vNo := by
  refine ct_of hG (by decide) (Nat.le_of_ble_eq_true rfl) fun X hN O hnm htb => ?_
  show V G X _ 0 0 σ 0 [(0, .ref m)] []
  obtain ⟨ad, I, F, L, hR, hM⟩ := id hA
  have hd := okS.d S hS
  have hn1 : 1 ≤ (sN S).1 := hd.1
  have hn : (sN S).1 ≤ 12 := hd.2.1
  have hS0 := hS
  have hSk : okS (keepS S (sN S)) := keepS_ok hS hS.2.2.2.2
  refine v_aload_n O dX3_finish_0 rfl 0 rfl ?_
  refine v_iconst (v := nI 0) O dX3_finish_1 (by decide) ?_
  refine r_puti (K := layM) (I' := (va_up I 0 (nI 0))) (ty0 := tyX3) O hR in_X3 tyX3_ok nmX3 (show vcl[2]? = some (RX3, TX3, 27) from rfl) 0 (by decide) rfl q1492 rfl (tyX3_ok 0 (by decide)) rfl rfl (Nat.le_of_ble_eq_true rfl) rfl dX3_finish_2 (fun σ1 hR1 hf1 => ?_)
  refine v_aload_n O dX3_finish_5 rfl 0 rfl ?_
  refine v_callV (as := []) (rest := []) O (c_X3_remembers hG hR1 (hM.thr 0) hd.2.2.1 hd.2.1 hd.2.2.2) q1666 q1668 qs45 q77 q1669 hR1.ob (show vcl[2]? = some (RX3, TX3, 27) from rfl) rfl mdX3_remembers rfl (by decide) (by omega) (by omega) (by omega) (Nat.le_of_ble_eq_true rfl) rfl dX3_finish_6 (fun v9 σ3 hp9 => ?_) (fun _ _ _ h => False.elim h)
  obtain ⟨rfl, I2, F2, hR2, hM2, hF2, hf2, hK2⟩ := hp9
  have hE2 : Enc (F2 9) (sN S) := hM2.e9
  refine v_aload_n O dX3_finish_9 rfl 0 rfl ?_
  refine v_callV (as := []) (rest := []) O (c_X3_laysFirst hG hR2 hM2 hSk) q1748 q1750 qs56 q77 q1751 hR2.ob (show vcl[2]? = some (RX3, TX3, 27) from rfl) rfl mdX3_laysFirst rfl (by decide) (by omega) (by omega) (by omega) (Nat.le_of_ble_eq_true rfl) rfl dX3_finish_10 (fun v9 σ5 hp9 => ?_) (fun _ _ _ h => False.elim h)
  obtain ⟨rfl, I4, F4, L4, hR4, hM4, h204, hf4⟩ := hp9
  have hE4 : Enc (F4 9) (sN S) := hM4.e9
  refine v_aload_n O dX3_finish_13 rfl 0 rfl ?_
  refine v_callV (as := []) (rest := []) O (c_X3_pairsNow hG hR4 hE4 (by first | omega | exact hn)) q1721 q1723 qs53 q77 q1724 hR4.ob (show vcl[2]? = some (RX3, TX3, 27) from rfl) rfl mdX3_pairsNow rfl (by decide) (by omega) (by omega) (by omega) (Nat.le_of_ble_eq_true rfl) rfl dX3_finish_14 (fun v9 σ9 hp9 => ?_) (fun _ _ _ h => False.elim h)
  obtain ⟨rfl, hs9⟩ := hp9
  obtain rfl := hs9.symm
  refine v_istore_n (lv' := [(1, .int (nI (pairsM (sN S)))), (0, .ref m)]) O hN dX3_finish_17 rfl (by decide) rfl ?_
  refine v_iconst (v := nI 0) O dX3_finish_18 (by decide) ?_
  refine v_istore_n (lv' := [(2, .int (nI 0)), (1, .int (nI (pairsM (sN S)))), (0, .ref m)]) O hN dX3_finish_19 rfl (by decide) rfl ?_
  refine v_lv [2, 1, 0] rfl ?_
  refine l_X3_finish hG O hN (by omega) (by omega) (N := sN S) hn h204 (fun σ6 F6 hR6 hf6 h6 hE6 => ?_) ((sN S).1 + 1) 0 _ _ (by omega) (by omega) hR4 FrL.rf (fun _ _ => rfl) hE4.mix0
  refine v_aload_n O dX3_finish_48 rfl 0 rfl ?_
  refine v_callV (as := []) (rest := []) O (c_X3_pairsNow hG hR6 hE6 (by first | omega | exact hn)) q1721 q1723 qs53 q77 q1724 hR6.ob (show vcl[2]? = some (RX3, TX3, 27) from rfl) rfl mdX3_pairsNow rfl (by decide) (by omega) (by omega) (by omega) (Nat.le_of_ble_eq_true rfl) rfl dX3_finish_49 (fun v9 σ9 hp9 => ?_) (fun _ _ _ h => False.elim h)
  obtain ⟨rfl, hs9⟩ := hp9
  obtain rfl := hs9.symm
  refine v_iload_n O dX3_finish_52 rfl 1 rfl ?_
  refine v_isub (z := (nI (pairsM (finN (sN S))) - nI (pairsM (sN S)))) O dX3_finish_53 rfl ?_
  exact v_iret O rfl dX3_finish_54 (by omega) (by omega) (⟨rfl, ⟨ad, _, _, _, hR6, hM4.nowx h6 hE6 rfl rfl⟩, ((hf1.trans hf2).trans hf4).trans hf6⟩)
