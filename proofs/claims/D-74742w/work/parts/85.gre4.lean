theorem fstL_no {N : NetM} {a : Nat} {q : Fst} (hq : q.1.testBit a = false) : fstS N q a = q := if_neg (by rw [hq]; decide)
theorem fstL {N : NetM} {a : Nat} {q : Fst} {f : Nat → Int32} (h : ∀ j, q.1.testBit j = true → f j = -1) {s : Nat} (hs : ∀ j, s.testBit j = true → q.1.testBit j = true) : ∀ j, s.testBit j = true → f j = -1 := fun j hj => h j (hs j hj)
theorem fndF_p {p : Nat → Bool} {b : Nat} : ∀ {f i : Nat}, fndF p f i = some b → p b = true
  | 0, _, h => nomatch h
  | f + 1, i, h => by
    rw [fndF_s] at h
    by_cases e : p i = true
    · rw [if_pos e] at h; cases h; exact e
    · rw [if_neg e] at h; exact fndF_p h
theorem l_X7_first {G : vGC} (hG : vGok G) {X : vCX} {Q : State → Prop} {c0 n0 : Nat} (O : vOk G X yX7_first.cls cX7_first (some (.array .int)) 6 1 12) (hN : xn X = 6) (hcm0 : c0 ≤ 1) (hsm0 : n0 ≤ 12) {σ0 : vSt} {g t h : Nat} {N : NetM} (hOk : okN N) {q : Nat} (hqz : q ≠ 0) (hqt : q ≠ t) (hgq : g ≠ q) (htq : t ≠ q) (hhq : h ≠ q) (kx : ∀ (σ : vSt) (f : Nat → Int32), GreAt σ g t h N → σ q = some (q, .inl (0, N.1, .inl f)) → (∀ j, j < N.1 → f j = firstR N j) → FrL [t, q] σ0 σ → V G X Q c0 n0 σ 182 [(0, .ref g), (1, .ref q)] []) : ∀ (k : Nat) (a : Nat) (σ : vSt) (f : Nat → Int32), (N.1 < a + k) → (a ≤ N.1) → (GreAt σ g t h N) → (σ q = some (q, .inl (0, N.1, .inl f))) → (FrL [t, q] σ0 σ) → (FstI N a (fstQ N a) f) → (∀ j, (fstQ N a).1.testBit j = true → f j = -1) → V G X Q c0 n0 σ 31 [(0, .ref g), (1, .ref q), (2, .int (nI ((fstQ N a).1))), (3, .int (nI ((fstQ N a).2.1))), (4, .int (nI a))] [] := by
  intro k
  induction k with
  | zero => intro a σ f h0 h1 hGr hrow hf hI hL; exact absurd h0 (by omega)
  | succ k ih =>
    intro a σ f h0 h1 hGr hrow hf hI hL
    obtain ⟨hg, hT, hN0, hht, hgt⟩ := id hGr
    obtain ⟨adt, It, Ft, Lt, hRt, had0⟩ := id hT
    obtain ⟨wa, ma, hob⟩ := hN0.ob
    have hn := hOk.2.1
    have hal := all_lt (N := N)
    have hp12 := p12 hn
    have htop := dp_top hOk hal
    have htop2 : (dp N.1 N.2.1 (allN N)).1 ≤ 12 := htop
    have htop3 : (topN N).1 ≤ 12 := htop
    have hal2 : allN N = 2 ^ N.1 - 1 := rfl
    have hp1 : 1 ≤ 2 ^ N.1 := Nat.one_le_two_pow
    have hl4 := hI.2.1
    have h2a : a < N.1 → 2 ^ a < 4096 := fun h => Nat.pow_lt_pow_right (by omega) (show a < 12 by omega)
    refine v_iload O dX7_first_31 4 rfl ?_
    refine v_aload_n O dX7_first_33 rfl 0 rfl ?_
    refine v_getf (C := RX7) (T := TX7) (N := 3) (v := .ref h) O in_X7 hg rfl 0 (by decide) rfl q300 rfl dX7_first_34 ?_
    refine v_getfN (C := RX2) (T := TX2) (N := 3) (v := .int (nI N.1)) O in_X2 hob rfl 0 (by decide) rfl q150 rfl dX7_first_37 ?_
    refine v_icmp_geN (tgt := 182) O dX7_first_40 (by decide) (by omega) (by omega) (fun h_40 => ?_) (fun h_40 => ?_)
    · obtain rfl : a = N.1 := by omega
      exact v_lv [0, 1] rfl (kx σ f hGr hrow (fun j hj => hI.2.2.1 j hj (hI.1 j hj)) hf)
    · have h2a2 := h2a (by omega)
      have hd12 := hI.2.2.2
      refine v_iload_n O dX7_first_43 rfl 2 rfl ?_
      refine v_iload O dX7_first_44 4 rfl ?_
      refine v_callSN (as := [.int (nI ((fstQ N a).1)), .int (nI a)]) (rest := []) O (c_X1_has hG (s := (fstQ N a).1) (k := a) (by omega) (by omega)) q316 q271 q72 q272 mdX1_has rfl (by decide) (by omega) (by omega) (by omega) (Nat.le_of_ble_eq_true rfl) rfl dX7_first_46 (fun v9 σ9 hp9 => ?_) (fun _ _ _ h => False.elim h)
      obtain ⟨rfl, hs9⟩ := hp9
      obtain rfl := hs9.symm
      refine v_if_neB (tgt := 55) O dX7_first_49 (by decide) (fun h_49 => ?_) (fun h_49 => ?_)
      · refine v_iload O dX7_first_55 4 rfl ?_
        refine v_iconst (v := nI 1) O dX7_first_57 (by decide) ?_
        refine v_iadd (z := nI (a + 1)) O dX7_first_58 (nI_add a 1) ?_
        refine v_istore (lv' := [(5, .int (nI (a + 1))), (0, .ref g), (1, .ref q), (2, .int (nI ((fstQ N a).1))), (3, .int (nI ((fstQ N a).2.1))), (4, .int (nI a))]) O hN dX7_first_59 (by decide) rfl ?_
        refine v_lv [1, 2, 3, 4, 5, 0] rfl ?_
        refine l_X7_first_i hG O hN hcm0 hsm0 hOk hqz hqt hgq htq hhq (σ0 := σ0) (f := f) (l := (fstQ N a).1) (d := (fstQ N a).2.1) (a := a) hI.2.1 hI.2.2.2 (by omega) (r0 := fndF (fstP N (sd (fstQ N a).1 (2 ^ a)) (fstQ N a).2.1 a) (N.1 - (a + 1)) (a + 1)) (fun σZ b hb hGr2 hrow2 hf2 => ?_) (N.1 + 1) (a + 1) σ (by omega) (by omega) (by omega) ⟨hg, ⟨_, _, _, _, hRt, had0⟩, hN0, hht, hgt⟩ hrow hf rfl
        obtain ⟨hg2, hT2, hN2, -, -⟩ := id hGr2
        obtain ⟨adt2, It2, Ft2, Lt2, hRt2, had2⟩ := id hT2
        obtain ⟨wa2, ma2, hob2⟩ := hN2.ob
        have hll := sd_le (fstQ N a).1 (2 ^ a)
        have hb12 : 2 ^ b ≤ 4096 := Nat.pow_le_pow_right (by omega) (show b ≤ 12 by rcases hb with ⟨-, hb⟩ | ⟨hb, -⟩ <;> omega)
        have hll2 := sd_le (sd (fstQ N a).1 (2 ^ a)) (2 ^ b)
        have hbN : b ≤ N.1 := by rcases hb with ⟨-, hb⟩ | ⟨hb, -⟩ <;> omega
        refine v_iload_n O dX7_first_128 rfl 2 rfl ?_
        refine v_iconst (v := nI 1) O dX7_first_129 (by decide) ?_
        refine v_iload O dX7_first_130 4 rfl ?_
        refine v_ishl (z := nI (2 ^ a)) O dX7_first_132 (bx_shl1 (by omega)) ?_
        refine v_iconst (v := (-1)) O dX7_first_133 (by decide) ?_
        refine v_ixor (z := nI (2 ^ a) ^^^ -1) O dX7_first_134 rfl ?_
        refine v_iand (z := nI (sd ((fstQ N a).1) (2 ^ a))) O dX7_first_135 (bx_sd (by omega) (by first | omega | exact Nat.pow_lt_pow_right (by omega) (by omega))) ?_
        refine v_istore_n (lv' := [(2, .int (nI (sd ((fstQ N a).1) (2 ^ a)))), (0, .ref g), (1, .ref q), (3, .int (nI ((fstQ N a).2.1))), (4, .int (nI a)), (5, .int (nI b))]) O hN dX7_first_136 rfl (by decide) rfl ?_
        refine v_iload O dX7_first_137 5 rfl ?_
        refine v_aload_n O dX7_first_139 rfl 1 rfl ?_
        refine v_getf (C := RX7) (T := TX7) (N := 3) (v := .ref h) O in_X7 hg2 rfl 0 (by decide) rfl q300 rfl dX7_first_140 ?_
        refine v_getfN (C := RX2) (T := TX2) (N := 3) (v := .int (nI N.1)) O in_X2 hob2 rfl 0 (by decide) rfl q150 rfl dX7_first_143 ?_
        refine v_icmp_neN (tgt := 152) O dX7_first_146 (by decide) (by omega) (by omega) (fun h_146 => ?_) (fun h_146 => ?_)
        · obtain ⟨hbn, hab, hr⟩ := hb.resolve_left (fun hh => by omega)
          obtain ⟨hs1, hs2, hs3⟩ := FstI.some hI h_49 (by omega) hr (g := va_up (va_up f a (nI b)) b (nI a)) (by funext z; simp only [va_up]; by_cases e : z = b; simp [e]; by_cases e2 : z = a; simp [e, e2]; simp [e, e2])
          have hdue : 1 ≤ (fstQ N a).2.1 := by
            have hp := (fndF_p hr)
            simp only [fstP, Bool.and_eq_true, decide_eq_true_eq] at hp
            omega
          have h2b : 2 ^ b < 4096 := Nat.pow_lt_pow_right (by omega) (show b < 12 by omega)
          refine v_aload_n O dX7_first_152 rfl 2 rfl ?_
          refine v_iload O dX7_first_153 4 rfl ?_
          refine v_iload O dX7_first_155 5 rfl ?_
          refine v_iast O hqz hrow2 (by omega) (by omega) dX7_first_157 ?_
          have hf61 := FrL.up (L := [q]) (e' := (q, .inl (0, N.1, .inl (va_up f a (nI b))))) hrow2 (by simp)
          have hw61 : (vUp σZ q (q, .inl (0, N.1, .inl (va_up f a (nI b))))) q = some (q, .inl (0, N.1, .inl (va_up f a (nI b)))) := vUp_s
          generalize (vUp σZ q (q, .inl (0, N.1, .inl (va_up f a (nI b))))) = σ61 at hf61 hw61 ⊢
          have hN_62 := hN2.fr hf61 (by simp [hht, hhq])
          obtain ⟨wa62, ma62, hob62⟩ := hN_62.ob
          have hg_63 := hf61 _ _ hg2 (by simp [hgt, hgq])
          have hRt_64 := hRt2.fr hf61 (by simp [htq])
          refine v_aload_n O dX7_first_158 rfl 2 rfl ?_
          refine v_iload O dX7_first_159 5 rfl ?_
          refine v_iload O dX7_first_161 4 rfl ?_
          refine v_iast O hqz hw61 (by omega) (by omega) dX7_first_163 ?_
          have hf65 := FrL.up (L := [q]) (e' := (q, .inl (0, N.1, .inl (va_up (va_up f a (nI b)) b (nI a))))) hw61 (by simp)
          have hw65 : (vUp σ61 q (q, .inl (0, N.1, .inl (va_up (va_up f a (nI b)) b (nI a))))) q = some (q, .inl (0, N.1, .inl (va_up (va_up f a (nI b)) b (nI a)))) := vUp_s
          generalize (vUp σ61 q (q, .inl (0, N.1, .inl (va_up (va_up f a (nI b)) b (nI a))))) = σ65 at hf65 hw65 ⊢
          have hN_66 := hN_62.fr hf65 (by simp [hht, hhq])
          obtain ⟨wa66, ma66, hob66⟩ := hN_66.ob
          have hg_67 := hf65 _ _ hg_63 (by simp [hgt, hgq])
          have hRt_68 := hRt_64.fr hf65 (by simp [htq])
          refine v_iload_n O dX7_first_164 rfl 0 rfl ?_
          refine v_iconst (v := nI 1) O dX7_first_165 (by decide) ?_
          refine v_iload O dX7_first_166 5 rfl ?_
          refine v_ishl (z := nI (2 ^ b)) O dX7_first_168 (bx_shl1 (by omega)) ?_
          refine v_iconst (v := (-1)) O dX7_first_169 (by decide) ?_
          refine v_ixor (z := nI (2 ^ b) ^^^ -1) O dX7_first_170 rfl ?_
          refine v_iand (z := nI (sd (sd ((fstQ N a).1) (2 ^ a)) (2 ^ b))) O dX7_first_171 (bx_sd (by omega) (by first | omega | exact Nat.pow_lt_pow_right (by omega) (by omega))) ?_
          refine v_istore_n (lv' := [(2, .int (nI (sd (sd ((fstQ N a).1) (2 ^ a)) (2 ^ b)))), (0, .ref g), (1, .ref q), (3, .int (nI ((fstQ N a).2.1))), (4, .int (nI a)), (5, .int (nI b))]) O hN dX7_first_172 rfl (by decide) rfl ?_
          refine v_iinc (v := nI ((fstQ N a).2.1 - 1)) (lv' := [(3, .int (nI ((fstQ N a).2.1 - 1))), (2, .int (nI (sd (sd ((fstQ N a).1) (2 ^ a)) (2 ^ b)))), (0, .ref g), (1, .ref q), (4, .int (nI a)), (5, .int (nI b))]) O hN dX7_first_173 3 rfl (nI_dec 1 (by omega)) (by decide) rfl ?_
          refine v_iinc (v := nI (a + 1)) (lv' := [(4, .int (nI (a + 1))), (3, .int (nI ((fstQ N a).2.1 - 1))), (2, .int (nI (sd (sd ((fstQ N a).1) (2 ^ a)) (2 ^ b)))), (0, .ref g), (1, .ref q), (5, .int (nI b))]) O hN dX7_first_176 4 rfl (nI_add a 1) (by decide) rfl ?_
          refine v_goto (tgt := 31) O dX7_first_179 (by decide) ?_
          rw [← hs2, ← hs3]
          rw [show fstS N (fstQ N a) a = fstQ N (a + 1) from rfl]
          refine v_lv [3, 4, 2, 1, 0] rfl ?_
          exact ih (a + 1) _ _ (by omega) (by omega) ⟨hg_67, ⟨_, _, _, _, hRt_68, had2⟩, hN_66, hht, hgt⟩ hw65 (hf2.trans ((hf61.trans hf65).mono (by simp))) hs1 (fun j hj => by
            have hj0 : (fstS N (fstQ N a) a).1.testBit j = true := hj
            rw [hs2] at hj0
            obtain ⟨hj1, hj2⟩ := sd_1.mp hj0
            obtain ⟨hj3, hj4⟩ := sd_1.mp hj1
            rw [vu, vu, if_neg hj2, if_neg hj4]
            exact hL j hj3)
        · obtain ⟨hr, -⟩ := hb.resolve_right (fun hh => by omega)
          obtain ⟨hn1, hn2, hn3⟩ := FstI.none hI h_49 hr (g := f) (by funext z; rw [vu]; by_cases e : z = a; rw [if_pos e, e]; exact hL a h_49; rw [if_neg e])
          refine v_goto (tgt := 176) O dX7_first_149 (by decide) ?_
          refine v_iinc (v := nI (a + 1)) (lv' := [(4, .int (nI (a + 1))), (2, .int (nI (sd ((fstQ N a).1) (2 ^ a)))), (0, .ref g), (1, .ref q), (3, .int (nI ((fstQ N a).2.1))), (5, .int (nI b))]) O hN dX7_first_176 4 rfl (nI_add a 1) (by decide) rfl ?_
          refine v_goto (tgt := 31) O dX7_first_179 (by decide) ?_
          rw [← hn2, ← hn3]
          rw [show fstS N (fstQ N a) a = fstQ N (a + 1) from rfl]
          refine v_lv [2, 3, 1, 4, 0] rfl ?_
          exact ih (a + 1) _ _ (by omega) (by omega) ⟨hg2, ⟨_, _, _, _, hRt2, had2⟩, hN2, hht, hgt⟩ hrow2 hf2 hn1 (fun j hj => hL j (by have hj2 : (fstS N (fstQ N a) a).1.testBit j = true := hj; rw [hn2] at hj2; exact (sd_1.mp hj2).1))
      · have e49 : fstQ N (a + 1) = fstQ N a := by rw [show fstQ N (a + 1) = fstS N (fstQ N a) a from rfl, fstL_no h_49]
        refine v_goto (tgt := 176) O dX7_first_52 (by decide) ?_
        refine v_iinc (v := nI (a + 1)) (lv' := [(4, .int (nI (a + 1))), (0, .ref g), (1, .ref q), (2, .int (nI ((fstQ N a).1))), (3, .int (nI ((fstQ N a).2.1)))]) O hN dX7_first_176 4 rfl (nI_add a 1) (by decide) rfl ?_
        refine v_goto (tgt := 31) O dX7_first_179 (by decide) ?_
        rw [← e49]
        refine v_lv [1, 2, 3, 4, 0] rfl ?_
        exact ih (a + 1) _ f (by omega) (by omega) ⟨hg, ⟨_, _, _, _, hRt, had0⟩, hN0, hht, hgt⟩ hrow hf (hI.no h_49) (fun j hj => hL j (by rw [e49] at hj; exact hj))
theorem c_X7_first {G : vGC} (hG : vGok G) {σ : vSt} {g t h : Nat} {N : NetM} (hOk : okN N) (hGr : GreAt σ g t h N) : Ct G yX7_first (ws_ yX7_first cX7_first 6 (some (.array .int))) 6 1 12 σ [.ref g] (fun v σ9 => ∃ (q : Nat) (f : Nat → Int32), v = some (.ref q) ∧ σ q = none ∧ q ≠ 0 ∧ σ9 q = some (q, .inl (0, N.1, .inl f)) ∧ (∀ j, j < N.1 → f j = firstR N j) ∧ GreAt σ9 g t h N ∧ FrL [t, q] σ σ9) vNo := by
  refine ct_of hG (by decide) (Nat.le_of_ble_eq_true rfl) fun X hN O hnm htb => ?_
  show V G X _ 0 0 σ 0 [(0, .ref g)] []
  obtain ⟨hg, hT, hN0, hht, hgt⟩ := id hGr
  obtain ⟨adt, It, Ft, Lt, hRt, had0⟩ := id hT
  obtain ⟨wa, ma, hob⟩ := hN0.ob
  have hn := hOk.2.1
  have hal := all_lt (N := N)
  have hp12 := p12 hn
  have htop := dp_top hOk hal
  have htop2 : (dp N.1 N.2.1 (allN N)).1 ≤ 12 := htop
  have htop3 : (topN N).1 ≤ 12 := htop
  have hal2 : allN N = 2 ^ N.1 - 1 := rfl
  have hp1 : 1 ≤ 2 ^ N.1 := Nat.one_le_two_pow
  refine v_aload_n O dX7_first_0 rfl 0 rfl ?_
  refine v_getf (C := RX7) (T := TX7) (N := 3) (v := .ref h) O in_X7 hg rfl 0 (by decide) rfl q300 rfl dX7_first_1 ?_
  refine v_getfN (C := RX2) (T := TX2) (N := 3) (v := .int (nI N.1)) O in_X2 hob rfl 0 (by decide) rfl q150 rfl dX7_first_4 ?_
  refine v_newa (N := N.1) (t := 0) (ty := .int) (a0 := (N.1, .inl (fun _ => 0))) O (fun q => q) q137 rfl rfl (fun _ h => by cases h) (fun cA => rfl) (by omega) (by omega) (by omega) dX7_first_7 (fun q hq hqz => ?_)
  have hqt : q ≠ t := fun e => by have := hRt.ob; rw [← e, hq] at this; cases this
  have hgq : g ≠ q := fun e => by have := hg; rw [GreO, e, hq] at this; cases this
  have htq : t ≠ q := Ne.symm hqt
  have hhq : h ≠ q := fun e => by have := hob; rw [e, hq] at this; cases this
  have hf0 : FrL [q] σ (vUp σ q (q, .inl (0, N.1, .inl (fun _ => 0)))) := FrL.new hq
  have hw0 : (vUp σ q (q, .inl (0, N.1, .inl (fun _ => 0)))) q = some (q, .inl (0, N.1, .inl (fun _ => 0))) := vUp_s
  generalize (vUp σ q (q, .inl (0, N.1, .inl (fun _ => 0)))) = σ0 at hf0 hw0 ⊢
  have hN_1 := hN0.fr hf0 (by simp [hht, hhq])
  obtain ⟨wa1, ma1, hob1⟩ := hN_1.ob
  have hg_2 := hf0 _ _ hg (by simp [hgt, hgq])
  have hRt_3 := hRt.fr hf0 (by simp [htq])
  refine v_astore_n (lv' := [(1, .ref q), (0, .ref g)]) O hN dX7_first_9 rfl (by decide) rfl ?_
  refine v_aload_n O dX7_first_10 rfl 0 rfl ?_
  refine v_iconst (v := (-1)) O dX7_first_11 (by decide) ?_
  refine v_callS (as := [.ref q, .int (-1)]) (rest := []) O (c_J2_fill hG (f := fun _ => 0) (v := -1) hqz (by omega) hw0) q315 q147 q76 q148 mdJ2_fill rfl (by decide) (by omega) (by omega) (by omega) (Nat.le_of_ble_eq_true rfl) rfl dX7_first_12 (fun v9 σ4 hp9 => ?_) (fun _ _ _ h => False.elim h)
  obtain ⟨rfl, hff, hfb, f9, hfa, hfv⟩ := hp9
  have hN_5 := hN_1.fr hff (by simp [hht, hhq])
  obtain ⟨wa5, ma5, hob5⟩ := hN_5.ob
  have hg_6 := hff _ _ hg_2 (by simp [hgt, hgq])
  have hRt_7 := hRt_3.fr hff (by simp [htq])
  refine v_aload_n O dX7_first_15 rfl 1 rfl ?_
  refine v_getf (C := RX7) (T := TX7) (N := 3) (v := .ref h) O in_X7 hg_6 rfl 0 (by decide) rfl q300 rfl dX7_first_16 ?_
  refine v_callV (as := []) (rest := []) O (c_X2_all hG hN_5 (by omega) ) q261 q262 q263 q75 q264 hob5 (show vcl[1]? = some (RX2, TX2, 3) from rfl) rfl mdX2_all rfl (by decide) (by omega) (by omega) (by omega) (Nat.le_of_ble_eq_true rfl) rfl dX7_first_19 (fun v9 σ9 hp9 => ?_) (fun _ _ _ h => False.elim h)
  obtain ⟨rfl, hs9⟩ := hp9
  obtain rfl := hs9.symm
  refine v_istore_n (lv' := [(2, .int (nI (allN N))), (1, .ref q), (0, .ref g)]) O hN dX7_first_22 rfl (by decide) rfl ?_
  refine v_aload_n O dX7_first_23 rfl 2 rfl ?_
  refine v_getf (C := RX7) (T := TX7) (N := 3) (v := .int (nI ((topN N).1))) O in_X7 hg_6 rfl 2 (by decide) rfl q302 rfl dX7_first_24 ?_
  refine v_istore_n (lv' := [(3, .int (nI ((topN N).1))), (2, .int (nI (allN N))), (1, .ref q), (0, .ref g)]) O hN dX7_first_27 rfl (by decide) rfl ?_
  refine v_iconst (v := nI 0) O dX7_first_28 (by decide) ?_
  refine v_istore (lv' := [(4, .int (nI 0)), (3, .int (nI ((topN N).1))), (2, .int (nI (allN N))), (1, .ref q), (0, .ref g)]) O hN dX7_first_29 (by decide) rfl ?_
  refine v_lv [4, 3, 2, 1, 0] rfl ?_
  show V G X _ _ _ σ4 31 [(0, .ref g), (1, .ref q), (2, .int (nI ((fstQ N 0).1))), (3, .int (nI ((fstQ N 0).2.1))), (4, .int (nI 0))] []
  refine l_X7_first hG O hN (by omega) (by omega) hOk hqz hqt hgq htq hhq (σ0 := σ4) (fun σZ fZ hGZ hrZ hfZ hZ => ?_) (N.1 + 1) 0 _ f9 (by omega) (by omega) ⟨hg_6, ⟨_, _, _, _, hRt_7, had0⟩, hN_5, hht, hgt⟩ hfa FrL.rf ⟨fun j hj => absurd hj (by omega), hal, fun j hj _ => hfv j hj, htop⟩ (fun j hj => hfv j (Classical.byContradiction fun hh => by
    rw [show (fstQ N 0).1 = allN N from rfl, Nat.testBit_lt_two_pow (Nat.lt_of_lt_of_le hal (Nat.pow_le_pow_right (by omega) (Nat.not_lt.mp hh)))] at hj
    cases hj))
  refine v_aload_n O dX7_first_182 rfl 1 rfl ?_
  exact v_aret O rfl (Or.inr ⟨_, rfl⟩) (Or.inr ⟨_, rfl⟩) dX7_first_183 (by omega) (by omega) ⟨q, fZ, rfl, hq, hqz, hrZ, hfZ, hGZ, ((hf0.trans hff).mono (by simp)).trans hZ⟩
