theorem l_X3_shrink_g {G : vGC} (hG : vGok G) {X : vCX} {Q : State → Prop} {c0 n0 : Nat} (O : vOk G X yX3_shrink.cls cX3_shrink (some .int) 16 0 0) (hN : xn X = 6) (hcm0 : c0 ≤ 0) (hsm0 : n0 ≤ 0) {σ : vSt} {m : Nat} {ad : Nat → Nat} {I : Nat → Int32} {F : Nat → Nat → Int32} {L : Nat → Nat → Int64} {N : NetM} (hN0 : okN N) {a : Nat} (ha : a < N.1) {r : List Nat} (hr2 : r.length ≤ 12) (hrg : ∀ i ∈ r, i < N.1) (hR : RecAt layM σ m ad I F L) (h25 : I 25 = nI r.length) (hrow : RowIs (F 24) r) (hl1 : 1 ≤ r.length) (kx : V G X Q c0 n0 σ 89 [(0, .ref m), (1, .int (nI a)), (2, .int (nI (goneR r))), (3, .int (nI 0))] []) : ∀ (k : Nat) (j : Nat), (r.length < j + 1 + k) → (j + 1 ≤ r.length) → V G X Q c0 n0 σ 62 [(0, .ref m), (1, .int (nI a)), (2, .int (nI (goneF r j))), (3, .int (nI 0)), (4, .int (nI (j + 1)))] [] := by
  intro k
  induction k with
  | zero => intro j h0 h1; exact absurd h0 (by omega)
  | succ k ih =>
    intro j h0 h1
    have hn := hN0.2.1
    refine v_iload O dX3_shrink_62 4 rfl ?_
    refine v_aload_n O dX3_shrink_64 rfl 0 rfl ?_
    refine v_getf (C := RX3) (T := TX3) (N := 27) (v := .int (nI r.length)) O in_X3 hR.ob rfl 25 (by decide) rfl q1517 (congrArg (fun z => some (Value.int z)) h25) dX3_shrink_65 ?_
    refine v_icmp_geN (tgt := 89) O dX3_shrink_68 (by decide) (by omega) (by omega) (fun h_68 => ?_) (fun h_68 => ?_)
    · obtain rfl : j = r.length - 1 := by omega
      exact v_lv [0, 1, 2, 3] rfl kx
    · have hvx : rowV r (j + 1) < N.1 := hrg _ (rowV_mem (by omega))
      refine v_iload_n O dX3_shrink_71 rfl 2 rfl ?_
      refine v_iconst (v := nI 1) O dX3_shrink_72 (by decide) ?_
      refine v_aload_n O dX3_shrink_73 rfl 0 rfl ?_
      refine v_getf (C := RX3) (T := TX3) (N := 27) (v := .ref (ad 24)) O in_X3 hR.ob rfl 24 (by decide) rfl q1516 rfl dX3_shrink_74 ?_
      refine v_iload O dX3_shrink_77 4 rfl ?_
      refine v_iald (f := F 24) O (hR.ar 24 rfl) (by omega) (by omega) dX3_shrink_79 ?_
      refine v_top (y := nI (rowV r (j + 1))) (hrow.get _ (by omega)) ?_
      refine v_ishl (z := nI (2 ^ (rowV r (j + 1)))) O dX3_shrink_80 (bx_shl1 (by omega)) ?_
      refine v_ior (z := nI ((goneF r j) ||| (2 ^ (rowV r (j + 1))))) O dX3_shrink_81 (bx_or (goneF r j) (2 ^ (rowV r (j + 1)))) ?_
      refine v_istore_n (lv' := [(2, .int (nI ((goneF r j) ||| (2 ^ (rowV r (j + 1)))))), (0, .ref m), (1, .int (nI a)), (3, .int (nI 0)), (4, .int (nI (j + 1)))]) O hN dX3_shrink_82 rfl (by decide) rfl ?_
      refine v_iinc (v := nI (j + 1 + 1)) (lv' := [(4, .int (nI (j + 1 + 1))), (2, .int (nI ((goneF r j) ||| (2 ^ (rowV r (j + 1)))))), (0, .ref m), (1, .int (nI a)), (3, .int (nI 0))]) O hN dX3_shrink_83 4 rfl (nI_add (j + 1) 1) (by decide) rfl ?_
      refine v_goto (tgt := 62) O dX3_shrink_86 (by decide) ?_
      refine v_lv [2, 3, 1, 4, 0] rfl ?_
      exact ih (j + 1) (by omega) (by omega)
theorem l_X3_shrink_i {G : vGC} (hG : vGok G) {X : vCX} {Q : State → Prop} {c0 n0 : Nat} (O : vOk G X yX3_shrink.cls cX3_shrink (some .int) 16 0 0) (hN : xn X = 6) (hcm0 : c0 ≤ 0) (hsm0 : n0 ≤ 0) {σ0 : vSt} {m : Nat} {ad : Nat → Nat} {I : Nat → Int32} {F : Nat → Nat → Int32} {L : Nat → Nat → Int64} {N : NetM} (hN0 : okN N) {a : Nat} (ha : a < N.1) {r : List Nat} (hr2 : r.length ≤ 12) (hrg : ∀ i ∈ r, i < N.1) {b : Nat} {cur : Nat → Int32} (hb : b < N.1) (hba : b ≠ a) (hbg : (goneR r).testBit b = false) (h25 : I 25 = nI r.length) (hrow : RowIs (F 24) r) (hl1 : 1 ≤ r.length) (hral : ∀ j, 1 ≤ j → j < r.length → rowV r j ≠ a) (kx : ∀ (σ : vSt) (F' : Nat → Nat → Int32), RecAt layM σ m ad I F' L → FrL [m] σ0 σ → (∀ j, j ≠ 9 → F' j = F j) → Enc (F' 9) (wmN N a (va_up cur b (mxr N a r b (r.length - 1)))) → V G X Q c0 n0 σ 183 [(0, .ref m), (1, .int (nI a)), (2, .int (nI (goneR r))), (3, .int (nI 0)), (4, .int (nI b))] []) : ∀ (k : Nat) (j : Nat) (σ : vSt) (F' : Nat → Nat → Int32), (r.length < j + 1 + k) → (j + 1 ≤ r.length) → (RecAt layM σ m ad I F' L) → (FrL [m] σ0 σ) → (∀ j, j ≠ 9 → F' j = F j) → (Enc (F' 9) (wmN N a (va_up cur b (mxr N a r b j)))) → V G X Q c0 n0 σ 122 [(0, .ref m), (1, .int (nI a)), (2, .int (nI (goneR r))), (3, .int (nI 0)), (4, .int (nI b)), (5, .int (nI (j + 1)))] [] := by
  intro k
  induction k with
  | zero => intro j σ F' h0 h1 hR hf ho hE; exact absurd h0 (by omega)
  | succ k ih =>
    intro j σ F' h0 h1 hR hf ho hE
    have hn := hN0.2.1
    have hM1 : (wmN N a (va_up cur b (mxr N a r b j))).1 = N.1 := rfl
    refine v_iload O dX3_shrink_122 5 rfl ?_
    refine v_aload_n O dX3_shrink_124 rfl 0 rfl ?_
    refine v_getf (C := RX3) (T := TX3) (N := 27) (v := .int (nI r.length)) O in_X3 hR.ob rfl 25 (by decide) rfl q1517 (congrArg (fun z => some (Value.int z)) h25) dX3_shrink_125 ?_
    refine v_icmp_geN (tgt := 183) O dX3_shrink_128 (by decide) (by omega) (by omega) (fun h_128 => ?_) (fun h_128 => ?_)
    · obtain rfl : j = r.length - 1 := by omega
      exact v_lv [0, 1, 2, 3, 4] rfl (kx σ F' hR hf ho hE)
    · have hvx : rowV r (j + 1) < N.1 := hrg _ (rowV_mem (by omega))
      have hxa : rowV r (j + 1) ≠ a := hral _ (by omega) (by omega)
      refine v_aload_n O dX3_shrink_131 rfl 0 rfl ?_
      refine v_aload_n O dX3_shrink_132 rfl 0 rfl ?_
      refine v_getf (C := RX3) (T := TX3) (N := 27) (v := .ref (ad 24)) O in_X3 hR.ob rfl 24 (by decide) rfl q1516 rfl dX3_shrink_133 ?_
      refine v_iload O dX3_shrink_136 5 rfl ?_
      refine v_iald (f := F' 24) O (hR.ar 24 rfl) (by omega) (by omega) dX3_shrink_138 ?_
      refine v_top (y := nI (rowV r (j + 1))) (by rw [ho 24 (by omega)]; exact hrow.get _ (by omega)) ?_
      refine v_iload O dX3_shrink_139 4 rfl ?_
      refine v_callV (as := [.int (nI (rowV r (j + 1))), .int (nI b)]) (rest := []) O (c_X3_weight hG hR hE (by first | omega | exact hn) (a := rowV r (j + 1)) (b := b) (by omega) (by omega)) q1681 q1683 qs48 q77 q1684 hR.ob (show vcl[2]? = some (RX3, TX3, 27) from rfl) rfl mdX3_weight rfl (by decide) (by omega) (by omega) (by omega) (Nat.le_of_ble_eq_true rfl) rfl dX3_shrink_141 (fun v9 σ9 hp9 => ?_) (fun _ _ _ h => False.elim h)
      obtain ⟨rfl, hs9⟩ := hp9
      obtain rfl := hs9.symm
      refine v_aload_n O dX3_shrink_144 rfl 0 rfl ?_
      refine v_iload_n O dX3_shrink_145 rfl 1 rfl ?_
      refine v_iload O dX3_shrink_146 4 rfl ?_
      refine v_callV (as := [.int (nI a), .int (nI b)]) (rest := [.int ((wmN N a (va_up cur b (mxr N a r b j))).2.1 (rowV r (j + 1)) b)]) O (c_X3_weight hG hR hE (by first | omega | exact hn) (a := a) (b := b) (by omega) (by omega)) q1681 q1683 qs48 q77 q1684 hR.ob (show vcl[2]? = some (RX3, TX3, 27) from rfl) rfl mdX3_weight rfl (by decide) (by omega) (by omega) (by omega) (Nat.le_of_ble_eq_true rfl) rfl dX3_shrink_148 (fun v9 σ9 hp9 => ?_) (fun _ _ _ h => False.elim h)
      obtain ⟨rfl, hs9⟩ := hp9
      obtain rfl := hs9.symm
      rw [wmN_at hxa hba, wmN_a hba, vu, if_pos rfl]
      refine v_icmp_le (tgt := 177) O dX3_shrink_151 (by decide) (fun h_151 => ?_) (fun h_151 => ?_)
      · refine v_iinc (v := nI (j + 1 + 1)) (lv' := [(5, .int (nI (j + 1 + 1))), (0, .ref m), (1, .int (nI a)), (2, .int (nI (goneR r))), (3, .int (nI 0)), (4, .int (nI b))]) O hN dX3_shrink_177 5 rfl (nI_add (j + 1) 1) (by decide) rfl ?_
        refine v_goto (tgt := 122) O dX3_shrink_180 (by decide) ?_
        refine v_lv [1, 2, 3, 4, 5, 0] rfl ?_
        exact ih (j + 1) _ F' (by omega) (by omega) hR hf ho (by rw [mxr, if_pos h_151]; exact hE)
      · refine v_aload_n O dX3_shrink_154 rfl 0 rfl ?_
        refine v_getf (C := RX3) (T := TX3) (N := 27) (v := .ref (ad 9)) O in_X3 hR.ob rfl 9 (by decide) rfl q1501 rfl dX3_shrink_155 ?_
        refine v_iload_n O dX3_shrink_158 rfl 1 rfl ?_
        refine v_iload O dX3_shrink_159 4 rfl ?_
        refine v_aload_n O dX3_shrink_161 rfl 0 rfl ?_
        refine v_aload_n O dX3_shrink_162 rfl 0 rfl ?_
        refine v_getf (C := RX3) (T := TX3) (N := 27) (v := .ref (ad 24)) O in_X3 hR.ob rfl 24 (by decide) rfl q1516 rfl dX3_shrink_163 ?_
        refine v_iload O dX3_shrink_166 5 rfl ?_
        refine v_iald (f := F' 24) O (hR.ar 24 rfl) (by omega) (by omega) dX3_shrink_168 ?_
        refine v_top (y := nI (rowV r (j + 1))) (by rw [ho 24 (by omega)]; exact hrow.get _ (by omega)) ?_
        refine v_iload O dX3_shrink_169 4 rfl ?_
        refine v_callV (as := [.int (nI (rowV r (j + 1))), .int (nI b)]) (rest := [.int (nI b), .int (nI a), .ref (ad 9)]) O (c_X3_weight hG hR hE (by first | omega | exact hn) (a := rowV r (j + 1)) (b := b) (by omega) (by omega)) q1681 q1683 qs48 q77 q1684 hR.ob (show vcl[2]? = some (RX3, TX3, 27) from rfl) rfl mdX3_weight rfl (by decide) (by omega) (by omega) (by omega) (Nat.le_of_ble_eq_true rfl) rfl dX3_shrink_171 (fun v9 σ9 hp9 => ?_) (fun _ _ _ h => False.elim h)
        obtain ⟨rfl, hs9⟩ := hp9
        obtain rfl := hs9.symm
        rw [wmN_at hxa hba]
        refine v_callS (as := [.ref (ad 9), .int (nI a), .int (nI b), .int (N.2.1 (rowV r (j + 1)) b)]) (rest := []) O (c_X3_joins hG (f := F' 9) (a := a) (b := b) (w := (N.2.1 (rowV r (j + 1)) b)) hR.nz (hR.ar 9 rfl) (by omega) (by omega)) q1485 q1486 q77 q1487 mdX3_joins rfl (by decide) (by omega) (by omega) (by omega) (Nat.le_of_ble_eq_true rfl) rfl dX3_shrink_174 (fun v9 σ9 hp9 => ?_) (fun _ _ _ h => False.elim h)
        obtain ⟨rfl, rfl⟩ := hp9
        have hR1 := hR.sa (9) rfl (va_up (va_up (F' 9) (13 + 12 * a + b) (N.2.1 (rowV r (j + 1)) b)) (13 + 12 * b + a) (N.2.1 (rowV r (j + 1)) b))
        have hf1 := FrL.up (L := [m]) (e' := (m, .inl (0, 157, .inl (va_up (va_up (F' 9) (13 + 12 * a + b) (N.2.1 (rowV r (j + 1)) b)) (13 + 12 * b + a) (N.2.1 (rowV r (j + 1)) b))))) (hR.ar 9 rfl) (by simp)
        generalize vUp σ (ad (9)) (m, .inl (0, 157, .inl (va_up (va_up (F' 9) (13 + 12 * a + b) (N.2.1 (rowV r (j + 1)) b)) (13 + 12 * b + a) (N.2.1 (rowV r (j + 1)) b)))) = σ1 at hR1 hf1 ⊢
        refine v_iinc (v := nI (j + 1 + 1)) (lv' := [(5, .int (nI (j + 1 + 1))), (0, .ref m), (1, .int (nI a)), (2, .int (nI (goneR r))), (3, .int (nI 0)), (4, .int (nI b))]) O hN dX3_shrink_177 5 rfl (nI_add (j + 1) 1) (by decide) rfl ?_
        refine v_goto (tgt := 122) O dX3_shrink_180 (by decide) ?_
        refine v_lv [1, 2, 3, 4, 5, 0] rfl ?_
        exact ih (j + 1) _ _ (by omega) (by omega) hR1 (hf.trans hf1) (fun j9 hj => by rw [← ho j9 hj]; funext z; simp [va_up, hj]) (by have h := (hE.setW (a := a) (b := b) (w := (N.2.1 (rowV r (j + 1)) b)) (by omega) (by omega) (by omega)); rw [wmN_set hba, up2] at h; rw [mxr, if_neg h_151]; have e9 : (va_up F' (9) (va_up (va_up (F' 9) (13 + 12 * a + b) (N.2.1 (rowV r (j + 1)) b)) (13 + 12 * b + a) (N.2.1 (rowV r (j + 1)) b))) 9 = (va_up (va_up (F' 9) (13 + 12 * a + b) (N.2.1 (rowV r (j + 1)) b)) (13 + 12 * b + a) (N.2.1 (rowV r (j + 1)) b)) := (by funext z; simp [va_up]); rw [e9]; exact h)
theorem l_X3_shrink_b {G : vGC} (hG : vGok G) {X : vCX} {Q : State → Prop} {c0 n0 : Nat} (O : vOk G X yX3_shrink.cls cX3_shrink (some .int) 16 0 0) (hN : xn X = 6) (hcm0 : c0 ≤ 0) (hsm0 : n0 ≤ 0) {σ0 : vSt} {m : Nat} {ad : Nat → Nat} {I : Nat → Int32} {F : Nat → Nat → Int32} {L : Nat → Nat → Int64} {N : NetM} (hN0 : okN N) {a : Nat} (ha : a < N.1) {r : List Nat} (hr2 : r.length ≤ 12) (hrg : ∀ i ∈ r, i < N.1) (h25 : I 25 = nI r.length) (hrow : RowIs (F 24) r) (hl1 : 1 ≤ r.length) (hral : ∀ j, 1 ≤ j → j < r.length → rowV r j ≠ a) (kx : ∀ (σ : vSt) (F' : Nat → Nat → Int32), RecAt layM σ m ad I F' L → FrL [m] σ0 σ → (∀ j, j ≠ 9 → F' j = F j) → Enc (F' 9) (wmN N a (curN N a r)) → V G X Q c0 n0 σ 189 [(0, .ref m), (1, .int (nI a)), (2, .int (nI (goneR r))), (3, .int (nI 0))] []) : ∀ (k : Nat) (b : Nat) (σ : vSt) (F' : Nat → Nat → Int32) (cur : Nat → Int32), (N.1 < b + k) → (b ≤ N.1) → (RecAt layM σ m ad I F' L) → (FrL [m] σ0 σ) → (∀ j, j ≠ 9 → F' j = F j) → (Enc (F' 9) (wmN N a cur)) → (∀ y, cur y = if y < b ∧ y ≠ a ∧ (goneR r).testBit y = false then mxr N a r y (r.length - 1) else N.2.1 a y) → V G X Q c0 n0 σ 92 [(0, .ref m), (1, .int (nI a)), (2, .int (nI (goneR r))), (3, .int (nI 0)), (4, .int (nI b))] [] := by
  intro k
  induction k with
  | zero => intro b σ F' cur h0 h1 hR hf ho hE hcur; exact absurd h0 (by omega)
  | succ k ih =>
    intro b σ F' cur h0 h1 hR hf ho hE hcur
    have hn := hN0.2.1
    have hM1 : (wmN N a cur).1 = N.1 := rfl
    have hgl : goneR r < 4096 := goneF_lt hn hrg _ (by omega)
    refine v_iload O dX3_shrink_92 4 rfl ?_
    refine v_aload_n O dX3_shrink_94 rfl 0 rfl ?_
    refine v_callV (as := []) (rest := [.int (nI b)]) O (c_X3_nodes hG hR hE (by first | omega | exact hn)) q1677 q1679 qs47 q77 q1680 hR.ob (show vcl[2]? = some (RX3, TX3, 27) from rfl) rfl mdX3_nodes rfl (by decide) (by omega) (by omega) (by omega) (Nat.le_of_ble_eq_true rfl) rfl dX3_shrink_95 (fun v9 σ9 hp9 => ?_) (fun _ _ _ h => False.elim h)
    obtain ⟨rfl, hs9⟩ := hp9
    obtain rfl := hs9.symm
    refine v_icmp_geN (tgt := 189) O dX3_shrink_98 (by decide) (by omega) (by omega) (fun h_98 => ?_) (fun h_98 => ?_)
    · obtain rfl : b = N.1 := by omega
      refine v_lv [0, 1, 2, 3] rfl (kx σ F' hR hf ho (hE.cong rfl (fun i j hi hj => ?_) (fun _ _ => rfl)))
      have key : ∀ y, y < N.1 → y ≠ a → curN N a r y = cur y := fun y hy hya => by
        rw [hcur y]
        unfold curN
        by_cases e : (goneR r).testBit y = true
        · rw [if_pos e, if_neg (fun h => absurd h.2.2 (by rw [e]; decide))]
        · rw [if_neg e, if_pos ⟨hy, hya, by simpa using e⟩]
      show (if i = a ∧ j ≠ a then curN N a r j else if j = a ∧ i ≠ a then curN N a r i else N.2.1 i j) = (if i = a ∧ j ≠ a then cur j else if j = a ∧ i ≠ a then cur i else N.2.1 i j)
      by_cases e1 : i = a ∧ j ≠ a
      · rw [if_pos e1, if_pos e1, key j hj e1.2]
      · rw [if_neg e1, if_neg e1]
        by_cases e2 : j = a ∧ i ≠ a
        · rw [if_pos e2, if_pos e2, key i hi e2.2]
        · rw [if_neg e2, if_neg e2]
    · refine v_iload O dX3_shrink_101 4 rfl ?_
      refine v_iload_n O dX3_shrink_103 rfl 1 rfl ?_
      refine v_icmp_eqN (tgt := 183) O dX3_shrink_104 (by decide) (by omega) (by omega) (fun h_104 => ?_) (fun h_104 => ?_)
      · refine v_iinc (v := nI (b + 1)) (lv' := [(4, .int (nI (b + 1))), (0, .ref m), (1, .int (nI a)), (2, .int (nI (goneR r))), (3, .int (nI 0))]) O hN dX3_shrink_183 4 rfl (nI_add b 1) (by decide) rfl ?_
        refine v_goto (tgt := 92) O dX3_shrink_186 (by decide) ?_
        refine v_lv [1, 2, 3, 4, 0] rfl ?_
        exact ih (b + 1) _ F' cur (by omega) (by omega) hR hf ho hE (fun y => by
          rw [hcur y]
          by_cases e : y = b
          · subst e; rw [if_neg (by omega), if_neg (fun h => h.2.1 h_104)]
          · by_cases e2 : y < b ∧ y ≠ a ∧ (goneR r).testBit y = false
            · rw [if_pos e2, if_pos ⟨by omega, e2.2⟩]
            · rw [if_neg e2, if_neg (fun h => e2 ⟨by omega, h.2⟩)])
      · refine v_iload_n O dX3_shrink_107 rfl 2 rfl ?_
        refine v_iload O dX3_shrink_108 4 rfl ?_
        refine v_callS (as := [.int (nI (goneR r)), .int (nI b)]) (rest := []) O (c_X3_has hG (s := goneR r) (k := b) (by omega) (by omega)) q1741 q1742 q77 q1743 mdX3_has rfl (by decide) (by omega) (by omega) (by omega) (Nat.le_of_ble_eq_true rfl) rfl dX3_shrink_110 (fun v9 σ9 hp9 => ?_) (fun _ _ _ h => False.elim h)
        obtain ⟨rfl, hs9⟩ := hp9
        obtain rfl := hs9.symm
        refine v_if_eqB (tgt := 119) O dX3_shrink_113 (by decide) (fun h_113 => ?_) (fun h_113 => ?_)
        · refine v_iconst (v := nI 1) O dX3_shrink_119 (by decide) ?_
          refine v_istore (lv' := [(5, .int (nI 1)), (0, .ref m), (1, .int (nI a)), (2, .int (nI (goneR r))), (3, .int (nI 0)), (4, .int (nI b))]) O hN dX3_shrink_120 (by decide) rfl ?_
          refine v_lv [1, 2, 3, 4, 5, 0] rfl ?_
          refine l_X3_shrink_i hG O hN hcm0 hsm0 (F := F) hN0 ha hr2 hrg (b := b) (cur := cur) (by omega) h_104 h_113 h25 hrow hl1 hral (fun σ6 F6 hR6 hf6 ho6 hE6 => ?_) r.length 0 σ F' (by omega) (by omega) hR hf ho (by
            have e9 : va_up cur b (mxr N a r b 0) = cur := by
              funext y
              rw [vu]
              by_cases e : y = b
              · rw [if_pos e, e, hcur b, if_neg (by omega)]; rfl
              · rw [if_neg e]
            rw [e9]
            exact hE)
          refine v_iinc (v := nI (b + 1)) (lv' := [(4, .int (nI (b + 1))), (0, .ref m), (1, .int (nI a)), (2, .int (nI (goneR r))), (3, .int (nI 0))]) O hN dX3_shrink_183 4 rfl (nI_add b 1) (by decide) rfl ?_
          refine v_goto (tgt := 92) O dX3_shrink_186 (by decide) ?_
          refine v_lv [1, 2, 3, 4, 0] rfl ?_
          exact ih (b + 1) _ F6 _ (by omega) (by omega) hR6 hf6 ho6 hE6 (fun y => by
            rw [vu]
            by_cases e : y = b
            · subst e
              rw [if_pos rfl, if_pos ⟨by omega, h_104, h_113⟩]
            · rw [if_neg e, hcur y]
              by_cases e2 : y < b ∧ y ≠ a ∧ (goneR r).testBit y = false
              · rw [if_pos e2, if_pos ⟨by omega, e2.2⟩]
              · rw [if_neg e2, if_neg (fun h => e2 ⟨by omega, h.2⟩)])
        · refine v_goto (tgt := 183) O dX3_shrink_116 (by decide) ?_
          refine v_iinc (v := nI (b + 1)) (lv' := [(4, .int (nI (b + 1))), (0, .ref m), (1, .int (nI a)), (2, .int (nI (goneR r))), (3, .int (nI 0))]) O hN dX3_shrink_183 4 rfl (nI_add b 1) (by decide) rfl ?_
          refine v_goto (tgt := 92) O dX3_shrink_186 (by decide) ?_
          refine v_lv [1, 2, 3, 4, 0] rfl ?_
          exact ih (b + 1) _ F' cur (by omega) (by omega) hR hf ho hE (fun y => by
            rw [hcur y]
            by_cases e : y = b
            · subst e; rw [if_neg (by omega), if_neg (fun h => absurd h.2.2 (by rw [h_113]; decide))]
            · by_cases e2 : y < b ∧ y ≠ a ∧ (goneR r).testBit y = false
              · rw [if_pos e2, if_pos ⟨by omega, e2.2⟩]
              · rw [if_neg e2, if_neg (fun h => e2 ⟨by omega, h.2⟩)])
theorem l_X3_shrink_n {G : vGC} (hG : vGok G) {X : vCX} {Q : State → Prop} {c0 n0 : Nat} (O : vOk G X yX3_shrink.cls cX3_shrink (some .int) 16 0 0) (hN : xn X = 6) (hcm0 : c0 ≤ 0) (hsm0 : n0 ≤ 0) {σ0 : vSt} {m : Nat} {ad : Nat → Nat} {I : Nat → Int32} {F : Nat → Nat → Int32} {L : Nat → Nat → Int64} {N M : NetM} (hE0 : Enc (F 9) M) (hM1 : M.1 = N.1) (hn : N.1 ≤ 12) {a g : Nat} (hg : g < 4096) (kx : ∀ (σ : vSt) (F' : Nat → Nat → Int32), RecAt layM σ m ad I F' L → FrL [m] σ0 σ → (∀ j, j ≠ 26 → F' j = F j) → (∀ j, j < N.1 → F' 26 j = nI (numN g j)) → V G X Q c0 n0 σ 232 [(0, .ref m), (1, .int (nI a)), (2, .int (nI g)), (3, .int (nI (numN g N.1)))] []) : ∀ (k : Nat) (b : Nat) (σ : vSt) (F' : Nat → Nat → Int32), (N.1 < b + k) → (b ≤ N.1) → (RecAt layM σ m ad I F' L) → (FrL [m] σ0 σ) → (∀ j, j ≠ 26 → F' j = F j) → (∀ j, j < b → F' 26 j = nI (numN g j)) → V G X Q c0 n0 σ 192 [(0, .ref m), (1, .int (nI a)), (2, .int (nI g)), (3, .int (nI (numN g b))), (4, .int (nI b))] [] := by
  intro k
  induction k with
  | zero => intro b σ F' h0 h1 hR hf ho h2; exact absurd h0 (by omega)
  | succ k ih =>
    intro b σ F' h0 h1 hR hf ho h2
    have hE : Enc (F' 9) M := by rw [ho 9 (by omega)]; exact hE0
    refine v_iload O dX3_shrink_192 4 rfl ?_
    refine v_aload_n O dX3_shrink_194 rfl 0 rfl ?_
    refine v_callV (as := []) (rest := [.int (nI b)]) O (c_X3_nodes hG hR hE (by first | omega | exact hn)) q1677 q1679 qs47 q77 q1680 hR.ob (show vcl[2]? = some (RX3, TX3, 27) from rfl) rfl mdX3_nodes rfl (by decide) (by omega) (by omega) (by omega) (Nat.le_of_ble_eq_true rfl) rfl dX3_shrink_195 (fun v9 σ9 hp9 => ?_) (fun _ _ _ h => False.elim h)
    obtain ⟨rfl, hs9⟩ := hp9
    obtain rfl := hs9.symm
    refine v_icmp_geN (tgt := 232) O dX3_shrink_198 (by decide) (by omega) (by omega) (fun h_198 => ?_) (fun h_198 => ?_)
    · obtain rfl : b = N.1 := by omega
      exact v_lv [0, 1, 2, 3] rfl (kx σ F' hR hf ho h2)
    · refine v_aload_n O dX3_shrink_201 rfl 0 rfl ?_
      refine v_getf (C := RX3) (T := TX3) (N := 27) (v := .ref (ad 26)) O in_X3 hR.ob rfl 26 (by decide) rfl q1518 rfl dX3_shrink_202 ?_
      refine v_iload O dX3_shrink_205 4 rfl ?_
      refine v_iload_n O dX3_shrink_207 rfl 3 rfl ?_
      refine r_iast (K := layM) O hR 26 rfl (by omega) (by omega) dX3_shrink_208 (fun σ1 hR1 hf1 => ?_)
      refine v_iload_n O dX3_shrink_209 rfl 3 rfl ?_
      refine v_iload_n O dX3_shrink_210 rfl 2 rfl ?_
      refine v_iload O dX3_shrink_211 4 rfl ?_
      refine v_callS (as := [.int (nI g), .int (nI b)]) (rest := [.int (nI (numN g b))]) O (c_X3_has hG (s := g) (k := b) (by omega) (by omega)) q1741 q1742 q77 q1743 mdX3_has rfl (by decide) (by omega) (by omega) (by omega) (Nat.le_of_ble_eq_true rfl) rfl dX3_shrink_213 (fun v9 σ9 hp9 => ?_) (fun _ _ _ h => False.elim h)
      obtain ⟨rfl, hs9⟩ := hp9
      obtain rfl := hs9.symm
      refine v_if_eqB (tgt := 223) O dX3_shrink_216 (by decide) (fun h_216 => ?_) (fun h_216 => ?_)
      · refine v_iconst (v := nI 1) O dX3_shrink_223 (by decide) ?_
        refine v_iadd (z := nI (numN g (b + 1))) O dX3_shrink_224 ((nI_add _ _).trans (congrArg nI (by rw [numN_s, if_pos (by simp [stP, h_216])]))) ?_
        refine v_istore_n (lv' := [(3, .int (nI (numN g (b + 1)))), (0, .ref m), (1, .int (nI a)), (2, .int (nI g)), (4, .int (nI b))]) O hN dX3_shrink_225 rfl (by decide) rfl ?_
        refine v_iinc (v := nI (b + 1)) (lv' := [(4, .int (nI (b + 1))), (3, .int (nI (numN g (b + 1)))), (0, .ref m), (1, .int (nI a)), (2, .int (nI g))]) O hN dX3_shrink_226 4 rfl (nI_add b 1) (by decide) rfl ?_
        refine v_goto (tgt := 192) O dX3_shrink_229 (by decide) ?_
        refine v_lv [2, 3, 4, 1, 0] rfl ?_
        exact ih (b + 1) _ _ (by omega) (by omega) hR1 (hf.trans hf1) (fun j hj => by rw [← ho j hj]; funext z; simp [va_up, hj]) (fun j hj => by
          simp only [va_up, if_true]
          by_cases e : j = b
          · rw [if_pos e, e]
          · rw [if_neg e]; exact h2 j (by omega))
      · refine v_iconst (v := nI 0) O dX3_shrink_219 (by decide) ?_
        refine v_goto (tgt := 224) O dX3_shrink_220 (by decide) ?_
        refine v_iadd (z := nI (numN g (b + 1))) O dX3_shrink_224 ((nI_add _ _).trans (congrArg nI (by rw [numN_s, if_neg (by simp [stP, h_216])]))) ?_
        refine v_istore_n (lv' := [(3, .int (nI (numN g (b + 1)))), (0, .ref m), (1, .int (nI a)), (2, .int (nI g)), (4, .int (nI b))]) O hN dX3_shrink_225 rfl (by decide) rfl ?_
        refine v_iinc (v := nI (b + 1)) (lv' := [(4, .int (nI (b + 1))), (3, .int (nI (numN g (b + 1)))), (0, .ref m), (1, .int (nI a)), (2, .int (nI g))]) O hN dX3_shrink_226 4 rfl (nI_add b 1) (by decide) rfl ?_
        refine v_goto (tgt := 192) O dX3_shrink_229 (by decide) ?_
        refine v_lv [2, 3, 4, 1, 0] rfl ?_
        exact ih (b + 1) _ _ (by omega) (by omega) hR1 (hf.trans hf1) (fun j hj => by rw [← ho j hj]; funext z; simp [va_up, hj]) (fun j hj => by
          simp only [va_up, if_true]
          by_cases e : j = b
          · rw [if_pos e, e]
          · rw [if_neg e]; exact h2 j (by omega))
