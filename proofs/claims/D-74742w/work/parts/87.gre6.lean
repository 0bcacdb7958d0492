/-! the recursions of Greatest against the table -/
theorem dp_half {N : NetM} (hOk : okN N) {s : Nat} (hs : s < 2 ^ N.1) : 2 * (dpN N s).1 ≤ pcn s := by
  obtain ⟨M, h1, h2⟩ := dp_attained hOk s s hs (Nat.le_refl _)
  show 2 * (dp N.1 N.2.1 s).1 ≤ _
  rw [← h2]
  exact cnt_le_of 12 fun i hi hp => (h1.inv hi (of_decide_eq_true hp)).2.1
theorem dfold_mono {w : Nat → Nat → Int32} {a rest : Nat} {r : Nat → D4} : ∀ {j k : Nat}, j ≤ k → (dfold w a rest r j).1 ≤ (dfold w a rest r k).1
  | j, 0, h => by rw [show j = 0 by omega]; exact Nat.le_refl _
  | j, k + 1, h => by
    by_cases e : j = k + 1
    · rw [e]; exact Nat.le_refl _
    · refine Nat.le_trans (dfold_mono (show j ≤ k by omega)) ?_
      rw [dfold]
      split
      · rw [comb_fst]; exact Nat.le_max_left _ _
      · exact Nat.le_refl _
theorem dp_none {n : Nat} {w : Nat → Nat → Int32} : ∀ (b s : Nat), s < 4096 → s ≤ b → (dp n w s).1 = 0 → dp n w s = (0, 1, 0, 0) := by
  intro b
  induction b with
  | zero =>
    intro s _ hs _
    obtain rfl : s = 0 := by omega
    rfl
  | succ b ih =>
    intro s h4 hs h0
    by_cases e : s = 0
    · rw [e]; rfl
    · rw [dp_eq h4 e] at h0 ⊢
      obtain ⟨h1, h2, -, -⟩ := (fstb_ok s h4).resolve_left e
      have hr : sd s (2 ^ fstb s) < s := sd_lt_self h1 (Nat.testBit_two_pow_self ..)
      have key : ∀ k, k ≤ n → dfold w (fstb s) (sd s (2 ^ fstb s)) (dp n w) k = dp n w (sd s (2 ^ fstb s)) := by
        intro k
        induction k with
        | zero => intro _; rfl
        | succ k ihk =>
          intro hk
          rw [dfold]
          split
          · rename_i hc
            have h5 := dfold_ge (r := dp n w) hc n (by omega)
            omega
          · exact ihk (by omega)
      rw [key n (Nat.le_refl _)] at h0 ⊢
      exact ih _ (by omega) (by omega) h0
def wayV (d : D4) (need : Nat) : Nat := if d.1 = need then d.2.1 else 0
theorem way_step {c e : D4} {w need : Nat} (hc : c.1 ≤ need) (he : e.1 + 1 ≤ need) : wayV (comb c (bump e w)) need = wayV c need + wayV e (need - 1) := by
  unfold wayV comb bump
  by_cases h1 : e.1 + 1 < c.1
  · rw [if_pos (show (e.1 + 1, e.2.1, e.2.2.1 + w, e.2.2.2 + w).1 < c.1 from h1), if_neg (show ¬ e.1 = need - 1 by omega), Nat.add_zero]
  · rw [if_neg (show ¬ (e.1 + 1, e.2.1, e.2.2.1 + w, e.2.2.2 + w).1 < c.1 from h1)]
    by_cases h2 : c.1 < e.1 + 1
    · rw [if_pos (show c.1 < (e.1 + 1, e.2.1, e.2.2.1 + w, e.2.2.2 + w).1 from h2), if_neg (show ¬ c.1 = need by omega), Nat.zero_add]
      by_cases h3 : e.1 + 1 = need
      · rw [if_pos (show e.1 = need - 1 by omega)]; exact if_pos h3
      · rw [if_neg (show ¬ e.1 = need - 1 by omega)]; exact if_neg h3
    · rw [if_neg (show ¬ c.1 < (e.1 + 1, e.2.1, e.2.2.1 + w, e.2.2.2 + w).1 from h2)]
      show (if c.1 = need then c.2.1 + e.2.1 else 0) = _
      by_cases h3 : c.1 = need
      · rw [if_pos h3, if_pos h3, if_pos (show e.1 = need - 1 by omega)]
      · rw [if_neg h3, if_neg h3, if_neg (show ¬ e.1 = need - 1 by omega)]
theorem dfold_yes {w : Nat → Nat → Int32} {a rest k : Nat} {r : Nat → D4} (h : a < k ∧ rest.testBit k = true ∧ lw w a k = true) : dfold w a rest r (k + 1) = comb (dfold w a rest r k) (bump (r (sd rest (2 ^ k))) (wn w a k)) := by rw [dfold, if_pos h]
theorem dfold_no {w : Nat → Nat → Int32} {a rest k : Nat} {r : Nat → D4} (h : ¬ (a < k ∧ rest.testBit k = true ∧ lw w a k = true)) : dfold w a rest r (k + 1) = dfold w a rest r k := by rw [dfold, if_neg h]
def WaysC (G : vGC) (k : Nat) : Prop := ∀ {σ : vSt} {g t h : Nat} {N : NetM} (hOk : okN N) (hGr : GreAt σ g t h N) {s need : Nat} (hs : s < 2 ^ N.1) (hd : (dpN N s).1 ≤ need) (hnd : need ≤ 12), pcn s < k → Ct G yX7_ways (ws_ yX7_ways cX7_ways 7 (some .int)) (6 + k) 0 0 σ [.ref g, .int (nI s), .int (nI need)] (fun v σ9 => v = some (.int (nI (wayV (dpN N s) need))) ∧ GreAt σ9 g t h N ∧ FrL [t] σ σ9) vNo
theorem mdX7_ways : vMd yX7_ways 2 := ⟨by decide +kernel, by decide +kernel, by decide +kernel⟩
theorem sd_sub (a b : Nat) : ∀ i, (sd a b).testBit i = true → a.testBit i = true := fun i hi => by
  rw [sd_bit] at hi
  cases h : a.testBit i
  · rw [h] at hi; exact hi
  · rfl
theorem pcn_mono {a b : Nat} (h : ∀ i, a.testBit i = true → b.testBit i = true) : pcn a ≤ pcn b := cnt_le_of 12 fun i _ hi => h i hi
theorem l_X7_ways {G : vGC} (hG : vGok G) {X : vCX} {Q : State → Prop} {c0 n0 k9 : Nat} (O : vOk G X yX7_ways.cls cX7_ways (some .int) (6 + (k9 + 1)) 0 0) (hN : xn X = 7) (hcm0 : c0 ≤ 0) (hsm0 : n0 ≤ 0) {σ0 : vSt} {g t h : Nat} {N : NetM} (hOk : okN N) {s need a r0 : Nat} (hrec : WaysC G k9) (hr : r0 < 2 ^ N.1) (ha : a < N.1) (hpr : pcn r0 < k9) (hd : (dfold N.2.1 a r0 (dp N.1 N.2.1) N.1).1 ≤ need) (hnd : need ≤ 12) (kx : ∀ σ : vSt, GreAt σ g t h N → FrL [t] σ0 σ → V G X Q c0 n0 σ 120 [(0, .ref g), (1, .int (nI s)), (2, .int (nI need)), (3, .int (nI a)), (4, .int (nI r0)), (5, .int (nI (wayV (dfold N.2.1 a r0 (dp N.1 N.2.1) N.1) need))), (6, .int (nI N.1))] []) : ∀ (k : Nat) (b : Nat) (σ : vSt), (N.1 < b + k) → (b ≤ N.1) → (a < b) → (GreAt σ g t h N) → (FrL [t] σ0 σ) → V G X Q c0 n0 σ 58 [(0, .ref g), (1, .int (nI s)), (2, .int (nI need)), (3, .int (nI a)), (4, .int (nI r0)), (5, .int (nI (wayV (dfold N.2.1 a r0 (dp N.1 N.2.1) b) need))), (6, .int (nI b))] [] := by
  intro k
  induction k with
  | zero => intro b σ h0 h1 hab hGr hf; exact absurd h0 (by omega)
  | succ k ih =>
    intro b σ h0 h1 hab hGr hf
    obtain ⟨hg, hT, hN0, hht, hgt⟩ := id hGr
    obtain ⟨adt, It, Ft, Lt, hRt, had0⟩ := id hT
    obtain ⟨wa, ma, hob⟩ := hN0.ob
    have hn := hOk.2.1
    have hal := all_lt (N := N)
    have hp12 := p12 hn
    have htop := dp_top hOk hal
    have htop2 : (dp N.1 N.2.1 (allN N)).1 ≤ 12 := htop
    have htop3 : (topN N).1 ≤ 12 := htop
    have hal2 : allN N = 2 ^ N.1 - 1 := rfl
    have hp1 : 1 ≤ 2 ^ N.1 := Nat.one_le_two_pow
    have h2b : b < N.1 → 2 ^ b < 4096 := fun h => Nat.pow_lt_pow_right (by omega) (show b < 12 by omega)
    have hrb := sd_le r0 (2 ^ b)
    have hsb := sd_le r0 (2 ^ b)
    refine v_iload O dX7_ways_58 6 rfl ?_
    refine v_aload_n O dX7_ways_60 rfl 0 rfl ?_
    refine v_getf (C := RX7) (T := TX7) (N := 3) (v := .ref h) O in_X7 hg rfl 0 (by decide) rfl q300 rfl dX7_ways_61 ?_
    refine v_getfN (C := RX2) (T := TX2) (N := 3) (v := .int (nI N.1)) O in_X2 hob rfl 0 (by decide) rfl q150 rfl dX7_ways_64 ?_
    refine v_icmp_geN (tgt := 120) O dX7_ways_67 (by decide) (by omega) (by omega) (fun h_67 => ?_) (fun h_67 => ?_)
    · obtain rfl : b = N.1 := by omega
      exact v_lv [0, 1, 2, 3, 4, 5, 6] rfl (kx σ hGr hf)
    · have h2b2 := h2b (by omega)
      refine v_iload O dX7_ways_70 4 rfl ?_
      refine v_iload O dX7_ways_72 6 rfl ?_
      refine v_callSN (as := [.int (nI r0), .int (nI b)]) (rest := []) O (c_X1_has hG (s := r0) (k := b) (by omega) (by omega)) q316 q271 q72 q272 mdX1_has rfl (by decide) (by omega) (by omega) (by omega) (Nat.le_of_ble_eq_true rfl) rfl dX7_ways_74 (fun v9 σ9 hp9 => ?_) (fun _ _ _ h => False.elim h)
      obtain ⟨rfl, hs9⟩ := hp9
      obtain rfl := hs9.symm
      refine v_if_eqB (tgt := 114) O dX7_ways_77 (by decide) (fun h_77 => ?_) (fun h_77 => ?_)
      · refine v_iinc (v := nI (b + 1)) (lv' := [(6, .int (nI (b + 1))), (0, .ref g), (1, .int (nI s)), (2, .int (nI need)), (3, .int (nI a)), (4, .int (nI r0)), (5, .int (nI (wayV (dfold N.2.1 a r0 (dp N.1 N.2.1) b) need)))]) O hN dX7_ways_114 6 rfl (nI_add b 1) (by decide) rfl ?_
        refine v_goto (tgt := 58) O dX7_ways_117 (by decide) ?_
        rw [← dfold_no (w := N.2.1) (a := a) (rest := r0) (r := dp N.1 N.2.1) (fun hh => by have h9 := hh.2.1; rw [h_77] at h9; cases h9)]
        refine v_lv [1, 2, 3, 4, 5, 6, 0] rfl ?_
        exact ih (b + 1) _ (by omega) (by omega) (by omega) hGr hf
      · refine v_aload_n O dX7_ways_80 rfl 0 rfl ?_
        refine v_getf (C := RX7) (T := TX7) (N := 3) (v := .ref h) O in_X7 hg rfl 0 (by decide) rfl q300 rfl dX7_ways_81 ?_
        refine v_iload_n O dX7_ways_84 rfl 3 rfl ?_
        refine v_iload O dX7_ways_85 6 rfl ?_
        refine v_callV (as := [.int (nI a), .int (nI b)]) (rest := []) O (c_X2_isLine hG hN0 (by omega) (a := a) (b := b) (by omega) (by omega)) q317 q281 q282 q75 q283 hob (show vcl[1]? = some (RX2, TX2, 3) from rfl) rfl mdX2_isLine rfl (by decide) (by omega) (by omega) (by omega) (Nat.le_of_ble_eq_true rfl) rfl dX7_ways_87 (fun v9 σ9 hp9 => ?_) (fun _ _ _ h => False.elim h)
        obtain ⟨rfl, hs9⟩ := hp9
        obtain rfl := hs9.symm
        refine v_if_eqB (tgt := 114) O dX7_ways_90 (by decide) (fun h_90 => ?_) (fun h_90 => ?_)
        · refine v_iinc (v := nI (b + 1)) (lv' := [(6, .int (nI (b + 1))), (0, .ref g), (1, .int (nI s)), (2, .int (nI need)), (3, .int (nI a)), (4, .int (nI r0)), (5, .int (nI (wayV (dfold N.2.1 a r0 (dp N.1 N.2.1) b) need)))]) O hN dX7_ways_114 6 rfl (nI_add b 1) (by decide) rfl ?_
          refine v_goto (tgt := 58) O dX7_ways_117 (by decide) ?_
          rw [← dfold_no (w := N.2.1) (a := a) (rest := r0) (r := dp N.1 N.2.1) (fun hh => by have h9 : ln N a b = true := hh.2.2; rw [h_90] at h9; cases h9)]
          refine v_lv [1, 2, 3, 4, 5, 6, 0] rfl ?_
          exact ih (b + 1) _ (by omega) (by omega) (by omega) hGr hf
        · have hlw : lw N.2.1 a b = true := h_90
          have hc2 : (dp N.1 N.2.1 (sd r0 (2 ^ b))).1 + 1 ≤ need := Nat.le_trans (dfold_ge (r := dp N.1 N.2.1) ⟨by omega, h_77, hlw⟩ N.1 (by omega)) hd
          have hc1 : (dfold N.2.1 a r0 (dp N.1 N.2.1) b).1 ≤ need := Nat.le_trans (dfold_mono (by omega)) hd
          refine v_iload O dX7_ways_93 5 rfl ?_
          refine v_aload_n O dX7_ways_95 rfl 0 rfl ?_
          refine v_iload O dX7_ways_96 4 rfl ?_
          refine v_iconst (v := nI 1) O dX7_ways_98 (by decide) ?_
          refine v_iload O dX7_ways_99 6 rfl ?_
          refine v_ishl (z := nI (2 ^ b)) O dX7_ways_101 (bx_shl1 (by omega)) ?_
          refine v_iconst (v := (-1)) O dX7_ways_102 (by decide) ?_
          refine v_ixor (z := nI (2 ^ b) ^^^ -1) O dX7_ways_103 rfl ?_
          refine v_iand (z := nI (sd r0 (2 ^ b))) O dX7_ways_104 (bx_sd (by omega) (by first | omega | exact Nat.pow_lt_pow_right (by omega) (by omega))) ?_
          refine v_iload_n O dX7_ways_105 rfl 2 rfl ?_
          refine v_iconst (v := nI 1) O dX7_ways_106 (by decide) ?_
          refine v_isub (z := nI (need - 1)) O dX7_ways_107 (pk_sub (by omega)) ?_
          refine v_callV (as := [.int (nI (sd r0 (2 ^ b))), .int (nI (need - 1))]) (rest := [.int (nI (wayV (dfold N.2.1 a r0 (dp N.1 N.2.1) b) need))]) O (hrec hOk ⟨hg, ⟨_, _, _, _, hRt, had0⟩, hN0, hht, hgt⟩ (s := sd r0 (2 ^ b)) (need := need - 1) (by omega) (by show (dp N.1 N.2.1 (sd r0 (2 ^ b))).1 ≤ need - 1; omega) (by omega) (by have := pcn_mono (sd_sub r0 (2 ^ b)); omega)) q530 q517 q518 q101 q519 hg (show vcl[6]? = some (RX7, TX7, 3) from rfl) rfl mdX7_ways rfl (by decide) (by omega) (by omega) (by omega) (Nat.le_of_ble_eq_true rfl) rfl dX7_ways_108 (fun v9 σ2 hp9 => ?_) (fun _ _ _ h => False.elim h)
          obtain ⟨rfl, hGr1, hf1⟩ := hp9
          obtain ⟨hg1, hT1, hN1, -, -⟩ := id hGr1
          obtain ⟨adt1, It1, Ft1, Lt1, hRt1, had1⟩ := id hT1
          obtain ⟨wa1, ma1, hob1⟩ := hN1.ob
          refine v_iadd (z := nI (wayV (dfold N.2.1 a r0 (dp N.1 N.2.1) (b + 1)) need)) O dX7_ways_111 ((nI_add _ _).trans (congrArg nI (by rw [dfold_yes ⟨by omega, h_77, hlw⟩]; exact (way_step hc1 hc2).symm))) ?_
          refine v_istore (lv' := [(5, .int (nI (wayV (dfold N.2.1 a r0 (dp N.1 N.2.1) (b + 1)) need))), (0, .ref g), (1, .int (nI s)), (2, .int (nI need)), (3, .int (nI a)), (4, .int (nI r0)), (6, .int (nI b))]) O hN dX7_ways_112 (by decide) rfl ?_
          refine v_iinc (v := nI (b + 1)) (lv' := [(6, .int (nI (b + 1))), (5, .int (nI (wayV (dfold N.2.1 a r0 (dp N.1 N.2.1) (b + 1)) need))), (0, .ref g), (1, .int (nI s)), (2, .int (nI need)), (3, .int (nI a)), (4, .int (nI r0))]) O hN dX7_ways_114 6 rfl (nI_add b 1) (by decide) rfl ?_
          refine v_goto (tgt := 58) O dX7_ways_117 (by decide) ?_
          refine v_lv [2, 3, 4, 5, 6, 1, 0] rfl ?_
          exact ih (b + 1) _ (by omega) (by omega) (by omega) ⟨hg1, ⟨_, _, _, _, hRt1, had1⟩, hN1, hht, hgt⟩ (hf.trans hf1)
theorem mdJ17_numberOfTrailingZeros : vMd yJ17_numberOfTrailingZeros 1 := ⟨by decide +kernel, by decide +kernel, by decide +kernel⟩
theorem s_X7_ways {G : vGC} (hG : vGok G) {k9 : Nat} (hrec : WaysC G k9) {σ : vSt} {g t h : Nat} {N : NetM} (hOk : okN N) (hGr : GreAt σ g t h N) {s need : Nat} (hs : s < 2 ^ N.1) (hd : (dpN N s).1 ≤ need) (hnd : need ≤ 12) (hk9 : pcn s < k9 + 1) : Ct G yX7_ways (ws_ yX7_ways cX7_ways 7 (some .int)) (6 + (k9 + 1)) 0 0 σ [.ref g, .int (nI s), .int (nI need)] (fun v σ9 => v = some (.int (nI (wayV (dpN N s) need))) ∧ GreAt σ9 g t h N ∧ FrL [t] σ σ9) vNo := by
  refine ct_of hG (by decide) (Nat.le_of_ble_eq_true rfl) fun X hN O hnm htb => ?_
  show V G X _ 0 0 σ 0 [(0, .ref g), (1, .int (nI s)), (2, .int (nI need))] []
  obtain ⟨hg, hT, hN0, hht, hgt⟩ := id hGr
  obtain ⟨adt, It, Ft, Lt, hRt, had0⟩ := id hT
  obtain ⟨wa, ma, hob⟩ := hN0.ob
  have hn := hOk.2.1
  have hal := all_lt (N := N)
  have hp12 := p12 hn
  have htop := dp_top hOk hal
  have htop2 : (dp N.1 N.2.1 (allN N)).1 ≤ 12 := htop
  have htop3 : (topN N).1 ≤ 12 := htop
  have hal2 : allN N = 2 ^ N.1 - 1 := rfl
  have hp1 : 1 ≤ 2 ^ N.1 := Nat.one_le_two_pow
  have hs4 : s < 4096 := by omega
  have hhalf := dp_half hOk hs
  have hps := pcn_le s
  refine v_iload_n O dX7_ways_0 rfl 2 rfl ?_
  refine v_if_neN (tgt := 6) O dX7_ways_1 (by decide) (by omega) (fun h_1 => ?_) (fun h_1 => ?_)
  · refine v_iload_n O dX7_ways_6 rfl 1 rfl ?_
    refine v_callS (as := [.int (nI s)]) (rest := []) O (c_J17_bitCount hG (s := s) (by omega)) q520 q521 q95 q522 mdJ17_bitCount rfl (by decide) (by omega) (by omega) (by omega) (Nat.le_of_ble_eq_true rfl) rfl dX7_ways_7 (fun v9 σ9 hp9 => ?_) (fun _ _ _ h => False.elim h)
    obtain ⟨rfl, hs9⟩ := hp9
    obtain rfl := hs9.symm
    refine v_iconst (v := nI 2) O dX7_ways_10 (by decide) ?_
    refine v_iload_n O dX7_ways_11 rfl 2 rfl ?_
    refine v_imul (z := nI (2 * need)) O dX7_ways_12 (pk_mul 2 need) ?_
    refine v_icmp_ltN (tgt := 28) O dX7_ways_13 (by decide) (by omega) (by omega) (fun h_13 => ?_) (fun h_13 => ?_)
    · refine v_iconst (v := nI 0) O dX7_ways_28 (by decide) ?_
      exact v_iret O rfl dX7_ways_29 (by omega) (by omega) (⟨by rw [wayV, if_neg (by have h9 : (dp N.1 N.2.1 s).1 = (dpN N s).1 := rfl; omega)], ⟨hg, ⟨_, _, _, _, hRt, had0⟩, hN0, hht, hgt⟩, FrL.rf⟩)
    · refine v_aload_n O dX7_ways_16 rfl 0 rfl ?_
      refine v_getf (C := RX7) (T := TX7) (N := 3) (v := .ref t) O in_X7 hg rfl 1 (by decide) rfl q301 rfl dX7_ways_17 ?_
      refine v_iload_n O dX7_ways_20 rfl 1 rfl ?_
      refine v_callV (as := [.int (nI s)]) (rest := []) O (c_X8_most hG hRt hOk (by rw [had0]; exact hht) (s := s) (by omega) (by rw [had0]; exact hN0)) q265 q266 q267 q102 q268 hRt.ob (show vcl[7]? = some (RX8, TX8, 11) from rfl) rfl mdX8_most rfl (by decide) (by omega) (by omega) (by omega) (Nat.le_of_ble_eq_true rfl) rfl dX7_ways_21 (fun v9 σ2 hp9 => ?_) (fun _ _ _ h => False.elim h)
      obtain ⟨rfl, Ft1, It1, hRt1, hf1⟩ := hp9
      have hN_3 := hN0.fr hf1 (by simp [hht])
      obtain ⟨wa3, ma3, hob3⟩ := hN_3.ob
      have hg_4 := hf1 _ _ hg (by simp [hgt])
      have hd1 := dp_top hOk (s := s) (by omega)
      have he1 : (dp N.1 N.2.1 s).1 ≤ 12 := hd1
      refine v_iload_n O dX7_ways_24 rfl 2 rfl ?_
      refine v_icmp_geN (tgt := 30) O dX7_ways_25 (by decide) (by omega) (by omega) (fun h_25 => ?_) (fun h_25 => ?_)
      · have hs0 : s ≠ 0 := fun e => by
          have h9 : (dp N.1 N.2.1 0).1 = 0 := rfl
          have h10 : need ≤ (dp N.1 N.2.1 s).1 := h_25
          rw [e] at h10
          omega
        obtain ⟨hb1, hb2, -, -⟩ := (fstb_ok s hs4).resolve_left hs0
        have hfn : fstb s < N.1 := Nat.not_le.mp fun hh => by
          rw [Nat.testBit_lt_two_pow (Nat.lt_of_lt_of_le hs (Nat.pow_le_pow_right (by omega) hh))] at hb1
          cases hb1
        have h2f : 2 ^ fstb s < 4096 := Nat.pow_lt_pow_right (show 1 < 2 by omega) (show fstb s < 12 by omega)
        have hsl := sd_le s (2 ^ fstb s)
        have hpc : pcn (sd s (2 ^ fstb s)) < k9 := by
          have := pcn_lt hs4 (sd_sub s (2 ^ fstb s)) (fun e => by
            have h9 := sd_lt_self hb1 (b := 2 ^ fstb s) (by rw [Nat.testBit_two_pow_self])
            rw [e] at h9
            exact Nat.lt_irrefl _ h9)
          omega
        have hdf : (dfold N.2.1 (fstb s) (sd s (2 ^ fstb s)) (dp N.1 N.2.1) N.1).1 ≤ need := by rw [← dp_eq hs4 hs0]; exact hd
        have hdr : (dpN N (sd s (2 ^ fstb s))).1 ≤ need := Nat.le_trans (dfold_ge0 (w := N.2.1) (a := fstb s) N.1) hdf
        refine v_iload_n O dX7_ways_30 rfl 1 rfl ?_
        refine v_callS (as := [.int (nI s)]) (rest := []) O (c_J17_numberOfTrailingZeros hG (s := s) (by omega) (by omega)) q526 q527 q95 q528 mdJ17_numberOfTrailingZeros rfl (by decide) (by omega) (by omega) (by omega) (Nat.le_of_ble_eq_true rfl) rfl dX7_ways_31 (fun v9 σ9 hp9 => ?_) (fun _ _ _ h => False.elim h)
        obtain ⟨rfl, hs9⟩ := hp9
        obtain rfl := hs9.symm
        refine v_istore_n (lv' := [(3, .int (nI (fstb s))), (0, .ref g), (1, .int (nI s)), (2, .int (nI need))]) O hN dX7_ways_34 rfl (by decide) rfl ?_
        refine v_iload_n O dX7_ways_35 rfl 2 rfl ?_
        refine v_iconst (v := nI 1) O dX7_ways_36 (by decide) ?_
        refine v_iload_n O dX7_ways_37 rfl 0 rfl ?_
        refine v_ishl (z := nI (2 ^ (fstb s))) O dX7_ways_38 (bx_shl1 (by omega)) ?_
        refine v_iconst (v := (-1)) O dX7_ways_39 (by decide) ?_
        refine v_ixor (z := nI (2 ^ (fstb s)) ^^^ -1) O dX7_ways_40 rfl ?_
        refine v_iand (z := nI (sd s (2 ^ (fstb s)))) O dX7_ways_41 (bx_sd (by omega) (by first | omega | exact Nat.pow_lt_pow_right (by omega) (by omega))) ?_
        refine v_istore (lv' := [(4, .int (nI (sd s (2 ^ (fstb s))))), (3, .int (nI (fstb s))), (0, .ref g), (1, .int (nI s)), (2, .int (nI need))]) O hN dX7_ways_42 (by decide) rfl ?_
        refine v_aload_n O dX7_ways_44 rfl 2 rfl ?_
        refine v_iload O dX7_ways_45 0 rfl ?_
        refine v_iload_n O dX7_ways_47 rfl 4 rfl ?_
        refine v_callV (as := [.int (nI (sd s (2 ^ (fstb s)))), .int (nI need)]) (rest := []) O (hrec hOk ⟨hg_4, ⟨_, _, _, _, hRt1, had0⟩, hN_3, hht, hgt⟩ (s := sd s (2 ^ (fstb s))) (need := need) (by omega) hdr hnd hpc) q530 q517 q518 q101 q519 hg_4 (show vcl[6]? = some (RX7, TX7, 3) from rfl) rfl mdX7_ways rfl (by decide) (by omega) (by omega) (by omega) (Nat.le_of_ble_eq_true rfl) rfl dX7_ways_48 (fun v9 σ6 hp9 => ?_) (fun _ _ _ h => False.elim h)
        obtain ⟨rfl, hGr5, hf5⟩ := hp9
        obtain ⟨hg5, hT5, hN5, -, -⟩ := id hGr5
        obtain ⟨adt5, It5, Ft5, Lt5, hRt5, had5⟩ := id hT5
        obtain ⟨wa5, ma5, hob5⟩ := hN5.ob
        refine v_istore (lv' := [(5, .int (nI (wayV (dpN N (sd s (2 ^ (fstb s)))) need))), (4, .int (nI (sd s (2 ^ (fstb s))))), (3, .int (nI (fstb s))), (0, .ref g), (1, .int (nI s)), (2, .int (nI need))]) O hN dX7_ways_51 (by decide) rfl ?_
        refine v_iload_n O dX7_ways_53 rfl 2 rfl ?_
        refine v_iconst (v := nI 1) O dX7_ways_54 (by decide) ?_
        refine v_iadd (z := nI (fstb s + 1)) O dX7_ways_55 (nI_add (fstb s) 1) ?_
        refine v_istore (lv' := [(6, .int (nI (fstb s + 1))), (5, .int (nI (wayV (dpN N (sd s (2 ^ (fstb s)))) need))), (4, .int (nI (sd s (2 ^ (fstb s))))), (3, .int (nI (fstb s))), (0, .ref g), (1, .int (nI s)), (2, .int (nI need))]) O hN dX7_ways_56 (by decide) rfl ?_
        refine v_lv [4, 5, 6, 3, 2, 1, 0] rfl ?_
        have hl0 : (dfold N.2.1 (fstb s) (sd s (2 ^ fstb s)) (dp N.1 N.2.1) (fstb s + 1)) = dp N.1 N.2.1 (sd s (2 ^ fstb s)) := dfold_low _ (by omega)
        rw [show nI (wayV (dpN N (sd s (2 ^ fstb s))) need) = nI (wayV (dfold N.2.1 (fstb s) (sd s (2 ^ fstb s)) (dp N.1 N.2.1) (fstb s + 1)) need) by rw [hl0]]
        refine l_X7_ways hG O hN (by omega) (by omega) (σ0 := σ6) hOk (s := s) (need := need) (a := fstb s) (r0 := sd s (2 ^ fstb s)) hrec (by omega) hfn hpc hdf hnd (fun σZ hZ hfZ => ?_) (N.1 + 1) (fstb s + 1) _ (by omega) (by omega) (by omega) ⟨hg5, ⟨_, _, _, _, hRt5, had5⟩, hN5, hht, hgt⟩ FrL.rf
        rw [← dp_eq hs4 hs0]
        refine v_iload O dX7_ways_120 5 rfl ?_
        exact v_iret O rfl dX7_ways_122 (by omega) (by omega) ⟨rfl, hZ, (hf1.trans hf5).trans hfZ⟩
      · refine v_iconst (v := nI 0) O dX7_ways_28 (by decide) ?_
        exact v_iret O rfl dX7_ways_29 (by omega) (by omega) (⟨by rw [wayV, if_neg (by have h9 : (dp N.1 N.2.1 s).1 = (dpN N s).1 := rfl; omega)], ⟨hg_4, ⟨_, _, _, _, hRt1, had0⟩, hN_3, hht, hgt⟩, hf1⟩)
  · refine v_iconst (v := nI 1) O dX7_ways_4 (by decide) ?_
    exact v_iret O rfl dX7_ways_5 (by omega) (by omega) (⟨by rw [wayV, if_pos (by omega), show (dpN N s).2.1 = 1 by rw [show dpN N s = (0, 1, 0, 0) from dp_none s s (by omega) (Nat.le_refl _) (by show (dpN N s).1 = 0; omega)]], hGr, FrL.rf⟩)
theorem c_X7_ways {G : vGC} (hG : vGok G) (k : Nat) : WaysC G k := by
  induction k with
  | zero => intro σ g t h N hOk hGr s need hs hd hnd hk; exact absurd hk (by omega)
  | succ k ih => intro σ g t h N hOk hGr s need hs hd hnd hk; exact s_X7_ways hG ih hOk hGr hs hd hnd hk
