def BetC (G : vGC) (k : Nat) : Prop := ∀ {σ : vSt} {m : Nat} {ad : Nat → Nat} {I : Nat → Int32} {F : Nat → Nat → Int32} {L : Nat → Nat → Int64} (hR : RecAt layM σ m ad I F L) {N : NetM} (hE : Enc (F 9) N) (hn : N.1 ≤ 12) {a due : Nat} {l : List Nat} (hrg : RgL N (a :: l)) (hrow : RowIs (F 24) (a :: l)) (hdue : due ≤ 12), 13 ≤ k + (l.length + 1) → Ct G yX3_betters (ws_ yX3_betters cX3_betters 6 (some .boolean)) (2 + k) 0 0 σ [.ref m, .int (nI (l.length + 1)), .int (nI due), .int (nI (msk (a :: l)))] (fun v σ9 => v = some (.int (bI (betF N due k (a :: l)).isSome)) ∧ ∃ F' : Nat → Nat → Int32, RecAt layM σ9 m ad I F' L ∧ FrL [m] σ σ9 ∧ (∀ j, j ≠ 24 → F' j = F j) ∧ (∀ j, j < l.length + 1 → F' 24 j = F 24 j) ∧ ∀ r, betF N due k (a :: l) = some r → RowIs (F' 24) r) vNo
def RinC (G : vGC) (k : Nat) : Prop := ∀ {σ : vSt} {m : Nat} {ad : Nat → Nat} {I : Nat → Int32} {F : Nat → Nat → Int32} {L : Nat → Nat → Int64} (hR : RecAt layM σ m ad I F L) {N : NetM} (hE : Enc (F 9) N) (hN0 : okN N) {base : Nat} (hbs : base < N.1) (h00 : F 24 0 = nI base) {a due : Nat} {l : List Nat} (hrg : RgL N (a :: l)) (hrow : RowIs (F 24) (a :: l)) (hdue : due ≤ 12), 13 ≤ k + (l.length + 1) → Ct G yX3_rings (ws_ yX3_rings cX3_rings 6 (some .boolean)) (2 + k) 0 0 σ [.ref m, .int (nI (l.length + 1)), .int (nI due), .int (nI (msk (a :: l)))] (fun v σ9 => v = some (.int (bI (ringF N due base k (a :: l)).isSome)) ∧ ∃ F' : Nat → Nat → Int32, RecAt layM σ9 m ad I F' L ∧ FrL [m] σ σ9 ∧ (∀ j, j ≠ 24 → F' j = F j) ∧ (∀ j, j < l.length + 1 → F' 24 j = F 24 j) ∧ ∀ r, ringF N due base k (a :: l) = some r → RowIs (F' 24) r) vNo
theorem par_t {p : Prop} [Decidable p] {k : Nat} (h : ¬ bI (decide p) = bI (decide (k % 2 = 1))) : p ↔ k % 2 = 0 := by
  by_cases e1 : p
  · by_cases e2 : k % 2 = 1
    · exact absurd (by rw [decide_eq_true e1, decide_eq_true e2]) h
    · exact ⟨fun _ => by omega, fun _ => e1⟩
  · by_cases e2 : k % 2 = 1
    · exact ⟨fun h => absurd h e1, fun h => by omega⟩
    · exact absurd (by rw [decide_eq_false e1, decide_eq_false e2]) h
theorem par_f {p : Prop} [Decidable p] {k : Nat} (h : bI (decide p) = bI (decide (k % 2 = 1))) : ¬ (p ↔ k % 2 = 0) := fun h5 => by
  have h4 := bI_inj h
  rw [decide_eq_decide, h5] at h4
  omega
theorem isSome_f {α : Type} {o : Option α} (h : o.isSome = false) : o = none := by cases o with | none => rfl | some x => cases h
theorem isSome_t {α : Type} {o : Option α} (h : o.isSome = true) : ∃ r, o = some r := by cases o with | none => cases h | some x => exact ⟨x, rfl⟩
theorem mdX3_betters : vMd yX3_betters 3 := ⟨by decide +kernel, by decide +kernel, by decide +kernel⟩
theorem l_X3_betters {G : vGC} (hG : vGok G) {X : vCX} {Q : State → Prop} {c0 n0 k9 : Nat} (O : vOk G X yX3_betters.cls cX3_betters (some .boolean) (2 + (k9 + 1)) 0 0) (hN : xn X = 6) (hcm0 : c0 ≤ 0) (hsm0 : n0 ≤ 0) {σ0 : vSt} {m : Nat} {ad : Nat → Nat} {I : Nat → Int32} {F : Nat → Nat → Int32} {L : Nat → Nat → Int64} {N : NetM} (hE0 : Enc (F 9) N) (hn : N.1 ≤ 12) {a due : Nat} {l : List Nat} {r0 : Option (List Nat)} (hrec : BetC G k9) (hk9 : 13 ≤ (k9 + 1) + (l.length + 1)) (hrg : RgL N (a :: l)) (hrow : RowIs (F 24) (a :: l)) (hdue : due ≤ 12) (kx : r0 = none → ∀ (σ : vSt) (F' : Nat → Nat → Int32), RecAt layM σ m ad I F' L → FrL [m] σ0 σ → (∀ j, j ≠ 24 → F' j = F j) → (∀ j, j < l.length + 1 → F' 24 j = F 24 j) → V G X Q c0 n0 σ 131 [(0, .ref m)] []) (kt : ∀ r, r0 = some r → ∀ (σ : vSt) (F' : Nat → Nat → Int32), RecAt layM σ m ad I F' L → FrL [m] σ0 σ → (∀ j, j ≠ 24 → F' j = F j) → (∀ j, j < l.length + 1 → F' 24 j = F 24 j) → RowIs (F' 24) r → V G X Q c0 n0 σ 123 [(0, .ref m)] []) : ∀ (k : Nat) (b : Nat) (σ : vSt) (F' : Nat → Nat → Int32), (N.1 < b + k) → (b ≤ N.1) → (RecAt layM σ m ad I F' L) → (FrL [m] σ0 σ) → (∀ j, j ≠ 24 → F' j = F j) → (∀ j, j < l.length + 1 → F' 24 j = F 24 j) → (fsm (fun b => if altB N (a :: l) b then betF N due k9 (b :: a :: l) else none) (N.1 - b) b = r0) → V G X Q c0 n0 σ 34 [(0, .ref m), (1, .int (nI (l.length + 1))), (2, .int (nI due)), (3, .int (nI (msk (a :: l)))), (4, .int (nI a)), (5, .int (nI b))] [] := by
  intro k
  induction k with
  | zero => intro b σ F' h0 h1 hR hf ho hk24 h2; exact absurd h0 (by omega)
  | succ k ih =>
    intro b σ F' h0 h1 hR hf ho hk24 h2
    obtain ⟨hmk, hll⟩ := hrg.lt hn
    have hll2 : l.length + 1 ≤ 12 := hll
    have ha : a < N.1 := hrg.1 a (List.mem_cons_self ..)
    have hE : Enc (F' 9) N := by rw [ho 9 (by omega)]; exact hE0
    refine v_iload O dX3_betters_34 5 rfl ?_
    refine v_aload_n O dX3_betters_36 rfl 0 rfl ?_
    refine v_callV (as := []) (rest := [.int (nI b)]) O (c_X3_nodes hG hR hE (by first | omega | exact hn)) q1677 q1679 qs47 q77 q1680 hR.ob (show vcl[2]? = some (RX3, TX3, 27) from rfl) rfl mdX3_nodes rfl (by decide) (by omega) (by omega) (by omega) (Nat.le_of_ble_eq_true rfl) rfl dX3_betters_37 (fun v9 σ9 hp9 => ?_) (fun _ _ _ h => False.elim h)
    obtain ⟨rfl, hs9⟩ := hp9
    obtain rfl := hs9.symm
    refine v_icmp_geN (tgt := 131) O dX3_betters_40 (by decide) (by omega) (by omega) (fun h_40 => ?_) (fun h_40 => ?_)
    · obtain rfl : b = N.1 := by omega
      rw [Nat.sub_self] at h2
      exact v_lv [0] rfl (kx h2.symm σ F' hR hf ho hk24)
    · refine v_iload_n O dX3_betters_43 rfl 3 rfl ?_
      refine v_iload O dX3_betters_44 5 rfl ?_
      refine v_callS (as := [.int (nI (msk (a :: l))), .int (nI b)]) (rest := []) O (c_X3_has hG (s := msk (a :: l)) (k := b) (by omega) (by omega)) q1741 q1742 q77 q1743 mdX3_has rfl (by decide) (by omega) (by omega) (by omega) (Nat.le_of_ble_eq_true rfl) rfl dX3_betters_46 (fun v9 σ9 hp9 => ?_) (fun _ _ _ h => False.elim h)
      obtain ⟨rfl, hs9⟩ := hp9
      obtain rfl := hs9.symm
      refine v_if_neB (tgt := 125) O dX3_betters_49 (by decide) (fun h_49 => ?_) (fun h_49 => ?_)
      · refine v_iinc (v := nI (b + 1)) (lv' := [(5, .int (nI (b + 1))), (0, .ref m), (1, .int (nI (l.length + 1))), (2, .int (nI due)), (3, .int (nI (msk (a :: l)))), (4, .int (nI a))]) O hN dX3_betters_125 5 rfl (nI_add b 1) (by decide) rfl ?_
        refine v_goto (tgt := 34) O dX3_betters_128 (by decide) ?_
        refine v_lv [1, 2, 3, 4, 5, 0] rfl ?_
        exact ih (b + 1) σ F' (by omega) (by omega) hR hf ho hk24 (by have e0 : N.1 - b = (N.1 - (b + 1)) + 1 := (by omega); rw [e0] at h2; rw [fsm_none (show (fun b => if altB N (a :: l) b then betF N due k9 (b :: a :: l) else none) b = none from if_neg (fun h => by rw [altB_m] at h; rw [h_49] at h; cases h.1))] at h2; exact h2)
      · refine v_aload_n O dX3_betters_52 rfl 0 rfl ?_
        refine v_iload O dX3_betters_53 4 rfl ?_
        refine v_iload O dX3_betters_55 5 rfl ?_
        refine v_callV (as := [.int (nI a), .int (nI b)]) (rest := []) O (c_X3_weight hG hR hE (by first | omega | exact hn) (a := a) (b := b) (by omega) (by omega)) q1681 q1683 qs48 q77 q1684 hR.ob (show vcl[2]? = some (RX3, TX3, 27) from rfl) rfl mdX3_weight rfl (by decide) (by omega) (by omega) (by omega) (Nat.le_of_ble_eq_true rfl) rfl dX3_betters_57 (fun v9 σ9 hp9 => ?_) (fun _ _ _ h => False.elim h)
        obtain ⟨rfl, hs9⟩ := hp9
        obtain rfl := hs9.symm
        refine v_iconst (v := (-1)) O dX3_betters_60 (by decide) ?_
        refine v_icmp_eq (tgt := 125) O dX3_betters_61 (by decide) (fun h_61 => ?_) (fun h_61 => ?_)
        · refine v_iinc (v := nI (b + 1)) (lv' := [(5, .int (nI (b + 1))), (0, .ref m), (1, .int (nI (l.length + 1))), (2, .int (nI due)), (3, .int (nI (msk (a :: l)))), (4, .int (nI a))]) O hN dX3_betters_125 5 rfl (nI_add b 1) (by decide) rfl ?_
          refine v_goto (tgt := 34) O dX3_betters_128 (by decide) ?_
          refine v_lv [1, 2, 3, 4, 5, 0] rfl ?_
          exact ih (b + 1) σ F' (by omega) (by omega) hR hf ho hk24 (by have e0 : N.1 - b = (N.1 - (b + 1)) + 1 := (by omega); rw [e0] at h2; rw [fsm_none (show (fun b => if altB N (a :: l) b then betF N due k9 (b :: a :: l) else none) b = none from if_neg (fun h => by rw [altB_m] at h; exact absurd h.2.1 (by simp [ln, h_61])))] at h2; exact h2)
        · refine v_aload_n O dX3_betters_64 rfl 0 rfl ?_
          refine v_iload O dX3_betters_65 4 rfl ?_
          refine v_callV (as := [.int (nI a)]) (rest := []) O (c_X3_mate hG hR hE (by first | omega | exact hn) (a := a) (by omega)) q1705 q1707 qs50 q77 q1708 hR.ob (show vcl[2]? = some (RX3, TX3, 27) from rfl) rfl mdX3_mate rfl (by decide) (by omega) (by omega) (by omega) (Nat.le_of_ble_eq_true rfl) rfl dX3_betters_67 (fun v9 σ9 hp9 => ?_) (fun _ _ _ h => False.elim h)
          obtain ⟨rfl, hs9⟩ := hp9
          obtain rfl := hs9.symm
          refine v_iload O dX3_betters_70 5 rfl ?_
          refine v_icmp_ne (tgt := 79) O dX3_betters_72 (by decide) (fun h_72 => ?_) (fun h_72 => ?_)
          · refine v_iconst (v := nI 0) O dX3_betters_79 (by decide) ?_
            rw [bIF' (b := decide (N.2.2 a = nI b)) (decide_eq_false h_72)]
            refine v_iload_n O dX3_betters_80 rfl 1 rfl ?_
            refine v_iconst (v := nI 2) O dX3_betters_81 (by decide) ?_
            refine v_irem (z := nI ((l.length + 1) % 2)) O dX3_betters_82 (by decide) (pk_rem (by omega) (by omega) (by omega)) ?_
            refine v_iconst (v := nI 1) O dX3_betters_83 (by decide) ?_
            refine v_icmp_neN (tgt := 91) O dX3_betters_84 (by decide) (by omega) (by omega) (fun h_84 => ?_) (fun h_84 => ?_)
            · refine v_iconst (v := nI 0) O dX3_betters_91 (by decide) ?_
              rw [bIF' (b := decide ((l.length + 1) % 2 = 1)) (decide_eq_false h_84)]
              refine v_icmp_ne (tgt := 98) O dX3_betters_92 (by decide) (fun h_92 => ?_) (fun h_92 => ?_)
              · refine v_aload_n O dX3_betters_98 rfl 0 rfl ?_
                refine v_getf (C := RX3) (T := TX3) (N := 27) (v := .ref (ad 24)) O in_X3 hR.ob rfl 24 (by decide) rfl q1516 rfl dX3_betters_99 ?_
                refine v_iload_n O dX3_betters_102 rfl 1 rfl ?_
                refine v_iload O dX3_betters_103 5 rfl ?_
                refine r_iast (K := layM) O hR 24 rfl (by omega) (by omega) dX3_betters_105 (fun σ1 hR1 hf1 => ?_)
                refine v_aload_n O dX3_betters_106 rfl 0 rfl ?_
                refine v_iload_n O dX3_betters_107 rfl 1 rfl ?_
                refine v_iconst (v := nI 1) O dX3_betters_108 (by decide) ?_
                refine v_iadd (z := nI ((l.length + 1) + 1)) O dX3_betters_109 (nI_add (l.length + 1) 1) ?_
                refine v_iload_n O dX3_betters_110 rfl 2 rfl ?_
                refine v_iload_n O dX3_betters_111 rfl 3 rfl ?_
                refine v_iconst (v := nI 1) O dX3_betters_112 (by decide) ?_
                refine v_iload O dX3_betters_113 5 rfl ?_
                refine v_ishl (z := nI (2 ^ b)) O dX3_betters_115 (bx_shl1 (by omega)) ?_
                refine v_ior (z := nI ((msk (a :: l)) ||| (2 ^ b))) O dX3_betters_116 (bx_or (msk (a :: l)) (2 ^ b)) ?_
                refine v_callV (as := [.int (nI ((l.length + 1) + 1)), .int (nI due), .int (nI ((msk (a :: l)) ||| (2 ^ b)))]) (rest := []) O (hrec hR1 hE hn (a := b) (l := a :: l) (due := due) (hrg.add hn (by omega) h_49) (RowIs.congr (RowIs.put (l := a :: l) (b := b) (hrow.congr hk24)) (fun j hj => by simp [va_up])) hdue (by simp only [List.length_cons]; omega)) q1737 q1739 qs55 q77 q1740 hR1.ob (show vcl[2]? = some (RX3, TX3, 27) from rfl) rfl mdX3_betters rfl (by decide) (by omega) (by omega) (by omega) (Nat.le_of_ble_eq_true rfl) rfl dX3_betters_117 (fun v9 σ3 hp9 => ?_) (fun _ _ _ h => False.elim h)
                obtain ⟨rfl, F2, hR2, hf2, ho2, hw2, hs2⟩ := hp9
                refine v_if_eqB (tgt := 125) O dX3_betters_120 (by decide) (fun h_120 => ?_) (fun h_120 => ?_)
                · refine v_iinc (v := nI (b + 1)) (lv' := [(5, .int (nI (b + 1))), (0, .ref m), (1, .int (nI (l.length + 1))), (2, .int (nI due)), (3, .int (nI (msk (a :: l)))), (4, .int (nI a))]) O hN dX3_betters_125 5 rfl (nI_add b 1) (by decide) rfl ?_
                  refine v_goto (tgt := 34) O dX3_betters_128 (by decide) ?_
                  refine v_lv [1, 2, 3, 4, 5, 0] rfl ?_
                  exact ih (b + 1) _ _ (by omega) (by omega) hR2 (hf.trans (hf1.trans hf2)) (fun j hj => by rw [ho2 j hj, ← ho j hj]; funext z; simp [va_up, hj]) (fun j hj => by rw [hw2 j (by simp only [List.length_cons]; omega), ← hk24 j hj]; simp [va_up, show ¬ j = l.length + 1 by omega]) (by have e0 : N.1 - b = (N.1 - (b + 1)) + 1 := (by omega); rw [e0] at h2; rw [fsm_none (show (fun b => if altB N (a :: l) b then betF N due k9 (b :: a :: l) else none) b = none from by simp only [if_pos (altB_m.mpr ⟨h_49, decide_eq_true h_61, par_t h_92⟩)]; exact isSome_f h_120)] at h2; exact h2)
                · obtain ⟨r, hr⟩ := isSome_t h_120
                  have hr0 : r0 = some r := by
                    have e0 : N.1 - b = (N.1 - (b + 1)) + 1 := (by omega)
                    rw [e0, fsm_some (show (fun b => if altB N (a :: l) b then betF N due k9 (b :: a :: l) else none) b = some r from by simp only [if_pos (altB_m.mpr ⟨h_49, decide_eq_true h_61, par_t h_92⟩)]; exact hr)] at h2
                    exact h2.symm
                  exact v_lv [0] rfl (kt r hr0 _ _ hR2 (hf.trans (hf1.trans hf2)) (fun j hj => by rw [ho2 j hj, ← ho j hj]; funext z; simp [va_up, hj]) (fun j hj => by rw [hw2 j (by simp only [List.length_cons]; omega), ← hk24 j hj]; simp [va_up, show ¬ j = l.length + 1 by omega]) (hs2 r hr))
              · refine v_goto (tgt := 125) O dX3_betters_95 (by decide) ?_
                refine v_iinc (v := nI (b + 1)) (lv' := [(5, .int (nI (b + 1))), (0, .ref m), (1, .int (nI (l.length + 1))), (2, .int (nI due)), (3, .int (nI (msk (a :: l)))), (4, .int (nI a))]) O hN dX3_betters_125 5 rfl (nI_add b 1) (by decide) rfl ?_
                refine v_goto (tgt := 34) O dX3_betters_128 (by decide) ?_
                refine v_lv [1, 2, 3, 4, 5, 0] rfl ?_
                exact ih (b + 1) σ F' (by omega) (by omega) hR hf ho hk24 (by have e0 : N.1 - b = (N.1 - (b + 1)) + 1 := (by omega); rw [e0] at h2; rw [fsm_none (show (fun b => if altB N (a :: l) b then betF N due k9 (b :: a :: l) else none) b = none from if_neg (fun h => by rw [altB_m] at h; exact par_f h_92 h.2.2))] at h2; exact h2)
            · refine v_iconst (v := nI 1) O dX3_betters_87 (by decide) ?_
              refine v_goto (tgt := 92) O dX3_betters_88 (by decide) ?_
              rw [bIT' (b := decide ((l.length + 1) % 2 = 1)) (decide_eq_true h_84)]
              refine v_icmp_ne (tgt := 98) O dX3_betters_92 (by decide) (fun h_92 => ?_) (fun h_92 => ?_)
              · refine v_aload_n O dX3_betters_98 rfl 0 rfl ?_
                refine v_getf (C := RX3) (T := TX3) (N := 27) (v := .ref (ad 24)) O in_X3 hR.ob rfl 24 (by decide) rfl q1516 rfl dX3_betters_99 ?_
                refine v_iload_n O dX3_betters_102 rfl 1 rfl ?_
                refine v_iload O dX3_betters_103 5 rfl ?_
                refine r_iast (K := layM) O hR 24 rfl (by omega) (by omega) dX3_betters_105 (fun σ4 hR4 hf4 => ?_)
                refine v_aload_n O dX3_betters_106 rfl 0 rfl ?_
                refine v_iload_n O dX3_betters_107 rfl 1 rfl ?_
                refine v_iconst (v := nI 1) O dX3_betters_108 (by decide) ?_
                refine v_iadd (z := nI ((l.length + 1) + 1)) O dX3_betters_109 (nI_add (l.length + 1) 1) ?_
                refine v_iload_n O dX3_betters_110 rfl 2 rfl ?_
                refine v_iload_n O dX3_betters_111 rfl 3 rfl ?_
                refine v_iconst (v := nI 1) O dX3_betters_112 (by decide) ?_
                refine v_iload O dX3_betters_113 5 rfl ?_
                refine v_ishl (z := nI (2 ^ b)) O dX3_betters_115 (bx_shl1 (by omega)) ?_
                refine v_ior (z := nI ((msk (a :: l)) ||| (2 ^ b))) O dX3_betters_116 (bx_or (msk (a :: l)) (2 ^ b)) ?_
                refine v_callV (as := [.int (nI ((l.length + 1) + 1)), .int (nI due), .int (nI ((msk (a :: l)) ||| (2 ^ b)))]) (rest := []) O (hrec hR4 hE hn (a := b) (l := a :: l) (due := due) (hrg.add hn (by omega) h_49) (RowIs.congr (RowIs.put (l := a :: l) (b := b) (hrow.congr hk24)) (fun j hj => by simp [va_up])) hdue (by simp only [List.length_cons]; omega)) q1737 q1739 qs55 q77 q1740 hR4.ob (show vcl[2]? = some (RX3, TX3, 27) from rfl) rfl mdX3_betters rfl (by decide) (by omega) (by omega) (by omega) (Nat.le_of_ble_eq_true rfl) rfl dX3_betters_117 (fun v9 σ6 hp9 => ?_) (fun _ _ _ h => False.elim h)
                obtain ⟨rfl, F5, hR5, hf5, ho5, hw5, hs5⟩ := hp9
                refine v_if_eqB (tgt := 125) O dX3_betters_120 (by decide) (fun h_120 => ?_) (fun h_120 => ?_)
                · refine v_iinc (v := nI (b + 1)) (lv' := [(5, .int (nI (b + 1))), (0, .ref m), (1, .int (nI (l.length + 1))), (2, .int (nI due)), (3, .int (nI (msk (a :: l)))), (4, .int (nI a))]) O hN dX3_betters_125 5 rfl (nI_add b 1) (by decide) rfl ?_
                  refine v_goto (tgt := 34) O dX3_betters_128 (by decide) ?_
                  refine v_lv [1, 2, 3, 4, 5, 0] rfl ?_
                  exact ih (b + 1) _ _ (by omega) (by omega) hR5 (hf.trans (hf4.trans hf5)) (fun j hj => by rw [ho5 j hj, ← ho j hj]; funext z; simp [va_up, hj]) (fun j hj => by rw [hw5 j (by simp only [List.length_cons]; omega), ← hk24 j hj]; simp [va_up, show ¬ j = l.length + 1 by omega]) (by have e0 : N.1 - b = (N.1 - (b + 1)) + 1 := (by omega); rw [e0] at h2; rw [fsm_none (show (fun b => if altB N (a :: l) b then betF N due k9 (b :: a :: l) else none) b = none from by simp only [if_pos (altB_m.mpr ⟨h_49, decide_eq_true h_61, par_t h_92⟩)]; exact isSome_f h_120)] at h2; exact h2)
                · obtain ⟨r, hr⟩ := isSome_t h_120
                  have hr0 : r0 = some r := by
                    have e0 : N.1 - b = (N.1 - (b + 1)) + 1 := (by omega)
                    rw [e0, fsm_some (show (fun b => if altB N (a :: l) b then betF N due k9 (b :: a :: l) else none) b = some r from by simp only [if_pos (altB_m.mpr ⟨h_49, decide_eq_true h_61, par_t h_92⟩)]; exact hr)] at h2
                    exact h2.symm
                  exact v_lv [0] rfl (kt r hr0 _ _ hR5 (hf.trans (hf4.trans hf5)) (fun j hj => by rw [ho5 j hj, ← ho j hj]; funext z; simp [va_up, hj]) (fun j hj => by rw [hw5 j (by simp only [List.length_cons]; omega), ← hk24 j hj]; simp [va_up, show ¬ j = l.length + 1 by omega]) (hs5 r hr))
              · refine v_goto (tgt := 125) O dX3_betters_95 (by decide) ?_
                refine v_iinc (v := nI (b + 1)) (lv' := [(5, .int (nI (b + 1))), (0, .ref m), (1, .int (nI (l.length + 1))), (2, .int (nI due)), (3, .int (nI (msk (a :: l)))), (4, .int (nI a))]) O hN dX3_betters_125 5 rfl (nI_add b 1) (by decide) rfl ?_
                refine v_goto (tgt := 34) O dX3_betters_128 (by decide) ?_
                refine v_lv [1, 2, 3, 4, 5, 0] rfl ?_
                exact ih (b + 1) σ F' (by omega) (by omega) hR hf ho hk24 (by have e0 : N.1 - b = (N.1 - (b + 1)) + 1 := (by omega); rw [e0] at h2; rw [fsm_none (show (fun b => if altB N (a :: l) b then betF N due k9 (b :: a :: l) else none) b = none from if_neg (fun h => by rw [altB_m] at h; exact par_f h_92 h.2.2))] at h2; exact h2)
          · refine v_iconst (v := nI 1) O dX3_betters_75 (by decide) ?_
            refine v_goto (tgt := 80) O dX3_betters_76 (by decide) ?_
            rw [bIT' (b := decide (N.2.2 a = nI b)) (decide_eq_true h_72)]
            refine v_iload_n O dX3_betters_80 rfl 1 rfl ?_
            refine v_iconst (v := nI 2) O dX3_betters_81 (by decide) ?_
            refine v_irem (z := nI ((l.length + 1) % 2)) O dX3_betters_82 (by decide) (pk_rem (by omega) (by omega) (by omega)) ?_
            refine v_iconst (v := nI 1) O dX3_betters_83 (by decide) ?_
            refine v_icmp_neN (tgt := 91) O dX3_betters_84 (by decide) (by omega) (by omega) (fun h_84 => ?_) (fun h_84 => ?_)
            · refine v_iconst (v := nI 0) O dX3_betters_91 (by decide) ?_
              rw [bIF' (b := decide ((l.length + 1) % 2 = 1)) (decide_eq_false h_84)]
              refine v_icmp_ne (tgt := 98) O dX3_betters_92 (by decide) (fun h_92 => ?_) (fun h_92 => ?_)
              · refine v_aload_n O dX3_betters_98 rfl 0 rfl ?_
                refine v_getf (C := RX3) (T := TX3) (N := 27) (v := .ref (ad 24)) O in_X3 hR.ob rfl 24 (by decide) rfl q1516 rfl dX3_betters_99 ?_
                refine v_iload_n O dX3_betters_102 rfl 1 rfl ?_
                refine v_iload O dX3_betters_103 5 rfl ?_
                refine r_iast (K := layM) O hR 24 rfl (by omega) (by omega) dX3_betters_105 (fun σ7 hR7 hf7 => ?_)
                refine v_aload_n O dX3_betters_106 rfl 0 rfl ?_
                refine v_iload_n O dX3_betters_107 rfl 1 rfl ?_
                refine v_iconst (v := nI 1) O dX3_betters_108 (by decide) ?_
                refine v_iadd (z := nI ((l.length + 1) + 1)) O dX3_betters_109 (nI_add (l.length + 1) 1) ?_
                refine v_iload_n O dX3_betters_110 rfl 2 rfl ?_
                refine v_iload_n O dX3_betters_111 rfl 3 rfl ?_
                refine v_iconst (v := nI 1) O dX3_betters_112 (by decide) ?_
                refine v_iload O dX3_betters_113 5 rfl ?_
                refine v_ishl (z := nI (2 ^ b)) O dX3_betters_115 (bx_shl1 (by omega)) ?_
                refine v_ior (z := nI ((msk (a :: l)) ||| (2 ^ b))) O dX3_betters_116 (bx_or (msk (a :: l)) (2 ^ b)) ?_
                refine v_callV (as := [.int (nI ((l.length + 1) + 1)), .int (nI due), .int (nI ((msk (a :: l)) ||| (2 ^ b)))]) (rest := []) O (hrec hR7 hE hn (a := b) (l := a :: l) (due := due) (hrg.add hn (by omega) h_49) (RowIs.congr (RowIs.put (l := a :: l) (b := b) (hrow.congr hk24)) (fun j hj => by simp [va_up])) hdue (by simp only [List.length_cons]; omega)) q1737 q1739 qs55 q77 q1740 hR7.ob (show vcl[2]? = some (RX3, TX3, 27) from rfl) rfl mdX3_betters rfl (by decide) (by omega) (by omega) (by omega) (Nat.le_of_ble_eq_true rfl) rfl dX3_betters_117 (fun v9 σ9 hp9 => ?_) (fun _ _ _ h => False.elim h)
                obtain ⟨rfl, F8, hR8, hf8, ho8, hw8, hs8⟩ := hp9
                refine v_if_eqB (tgt := 125) O dX3_betters_120 (by decide) (fun h_120 => ?_) (fun h_120 => ?_)
                · refine v_iinc (v := nI (b + 1)) (lv' := [(5, .int (nI (b + 1))), (0, .ref m), (1, .int (nI (l.length + 1))), (2, .int (nI due)), (3, .int (nI (msk (a :: l)))), (4, .int (nI a))]) O hN dX3_betters_125 5 rfl (nI_add b 1) (by decide) rfl ?_
                  refine v_goto (tgt := 34) O dX3_betters_128 (by decide) ?_
                  refine v_lv [1, 2, 3, 4, 5, 0] rfl ?_
                  exact ih (b + 1) _ _ (by omega) (by omega) hR8 (hf.trans (hf7.trans hf8)) (fun j hj => by rw [ho8 j hj, ← ho j hj]; funext z; simp [va_up, hj]) (fun j hj => by rw [hw8 j (by simp only [List.length_cons]; omega), ← hk24 j hj]; simp [va_up, show ¬ j = l.length + 1 by omega]) (by have e0 : N.1 - b = (N.1 - (b + 1)) + 1 := (by omega); rw [e0] at h2; rw [fsm_none (show (fun b => if altB N (a :: l) b then betF N due k9 (b :: a :: l) else none) b = none from by simp only [if_pos (altB_m.mpr ⟨h_49, decide_eq_true h_61, par_t h_92⟩)]; exact isSome_f h_120)] at h2; exact h2)
                · obtain ⟨r, hr⟩ := isSome_t h_120
                  have hr0 : r0 = some r := by
                    have e0 : N.1 - b = (N.1 - (b + 1)) + 1 := (by omega)
                    rw [e0, fsm_some (show (fun b => if altB N (a :: l) b then betF N due k9 (b :: a :: l) else none) b = some r from by simp only [if_pos (altB_m.mpr ⟨h_49, decide_eq_true h_61, par_t h_92⟩)]; exact hr)] at h2
                    exact h2.symm
                  exact v_lv [0] rfl (kt r hr0 _ _ hR8 (hf.trans (hf7.trans hf8)) (fun j hj => by rw [ho8 j hj, ← ho j hj]; funext z; simp [va_up, hj]) (fun j hj => by rw [hw8 j (by simp only [List.length_cons]; omega), ← hk24 j hj]; simp [va_up, show ¬ j = l.length + 1 by omega]) (hs8 r hr))
              · refine v_goto (tgt := 125) O dX3_betters_95 (by decide) ?_
                refine v_iinc (v := nI (b + 1)) (lv' := [(5, .int (nI (b + 1))), (0, .ref m), (1, .int (nI (l.length + 1))), (2, .int (nI due)), (3, .int (nI (msk (a :: l)))), (4, .int (nI a))]) O hN dX3_betters_125 5 rfl (nI_add b 1) (by decide) rfl ?_
                refine v_goto (tgt := 34) O dX3_betters_128 (by decide) ?_
                refine v_lv [1, 2, 3, 4, 5, 0] rfl ?_
                exact ih (b + 1) σ F' (by omega) (by omega) hR hf ho hk24 (by have e0 : N.1 - b = (N.1 - (b + 1)) + 1 := (by omega); rw [e0] at h2; rw [fsm_none (show (fun b => if altB N (a :: l) b then betF N due k9 (b :: a :: l) else none) b = none from if_neg (fun h => by rw [altB_m] at h; exact par_f h_92 h.2.2))] at h2; exact h2)
            · refine v_iconst (v := nI 1) O dX3_betters_87 (by decide) ?_
              refine v_goto (tgt := 92) O dX3_betters_88 (by decide) ?_
              rw [bIT' (b := decide ((l.length + 1) % 2 = 1)) (decide_eq_true h_84)]
              refine v_icmp_ne (tgt := 98) O dX3_betters_92 (by decide) (fun h_92 => ?_) (fun h_92 => ?_)
              · refine v_aload_n O dX3_betters_98 rfl 0 rfl ?_
                refine v_getf (C := RX3) (T := TX3) (N := 27) (v := .ref (ad 24)) O in_X3 hR.ob rfl 24 (by decide) rfl q1516 rfl dX3_betters_99 ?_
                refine v_iload_n O dX3_betters_102 rfl 1 rfl ?_
                refine v_iload O dX3_betters_103 5 rfl ?_
                refine r_iast (K := layM) O hR 24 rfl (by omega) (by omega) dX3_betters_105 (fun σ10 hR10 hf10 => ?_)
                refine v_aload_n O dX3_betters_106 rfl 0 rfl ?_
                refine v_iload_n O dX3_betters_107 rfl 1 rfl ?_
                refine v_iconst (v := nI 1) O dX3_betters_108 (by decide) ?_
                refine v_iadd (z := nI ((l.length + 1) + 1)) O dX3_betters_109 (nI_add (l.length + 1) 1) ?_
                refine v_iload_n O dX3_betters_110 rfl 2 rfl ?_
                refine v_iload_n O dX3_betters_111 rfl 3 rfl ?_
                refine v_iconst (v := nI 1) O dX3_betters_112 (by decide) ?_
                refine v_iload O dX3_betters_113 5 rfl ?_
                refine v_ishl (z := nI (2 ^ b)) O dX3_betters_115 (bx_shl1 (by omega)) ?_
                refine v_ior (z := nI ((msk (a :: l)) ||| (2 ^ b))) O dX3_betters_116 (bx_or (msk (a :: l)) (2 ^ b)) ?_
                refine v_callV (as := [.int (nI ((l.length + 1) + 1)), .int (nI due), .int (nI ((msk (a :: l)) ||| (2 ^ b)))]) (rest := []) O (hrec hR10 hE hn (a := b) (l := a :: l) (due := due) (hrg.add hn (by omega) h_49) (RowIs.congr (RowIs.put (l := a :: l) (b := b) (hrow.congr hk24)) (fun j hj => by simp [va_up])) hdue (by simp only [List.length_cons]; omega)) q1737 q1739 qs55 q77 q1740 hR10.ob (show vcl[2]? = some (RX3, TX3, 27) from rfl) rfl mdX3_betters rfl (by decide) (by omega) (by omega) (by omega) (Nat.le_of_ble_eq_true rfl) rfl dX3_betters_117 (fun v9 σ12 hp9 => ?_) (fun _ _ _ h => False.elim h)
                obtain ⟨rfl, F11, hR11, hf11, ho11, hw11, hs11⟩ := hp9
                refine v_if_eqB (tgt := 125) O dX3_betters_120 (by decide) (fun h_120 => ?_) (fun h_120 => ?_)
                · refine v_iinc (v := nI (b + 1)) (lv' := [(5, .int (nI (b + 1))), (0, .ref m), (1, .int (nI (l.length + 1))), (2, .int (nI due)), (3, .int (nI (msk (a :: l)))), (4, .int (nI a))]) O hN dX3_betters_125 5 rfl (nI_add b 1) (by decide) rfl ?_
                  refine v_goto (tgt := 34) O dX3_betters_128 (by decide) ?_
                  refine v_lv [1, 2, 3, 4, 5, 0] rfl ?_
                  exact ih (b + 1) _ _ (by omega) (by omega) hR11 (hf.trans (hf10.trans hf11)) (fun j hj => by rw [ho11 j hj, ← ho j hj]; funext z; simp [va_up, hj]) (fun j hj => by rw [hw11 j (by simp only [List.length_cons]; omega), ← hk24 j hj]; simp [va_up, show ¬ j = l.length + 1 by omega]) (by have e0 : N.1 - b = (N.1 - (b + 1)) + 1 := (by omega); rw [e0] at h2; rw [fsm_none (show (fun b => if altB N (a :: l) b then betF N due k9 (b :: a :: l) else none) b = none from by simp only [if_pos (altB_m.mpr ⟨h_49, decide_eq_true h_61, par_t h_92⟩)]; exact isSome_f h_120)] at h2; exact h2)
                · obtain ⟨r, hr⟩ := isSome_t h_120
                  have hr0 : r0 = some r := by
                    have e0 : N.1 - b = (N.1 - (b + 1)) + 1 := (by omega)
                    rw [e0, fsm_some (show (fun b => if altB N (a :: l) b then betF N due k9 (b :: a :: l) else none) b = some r from by simp only [if_pos (altB_m.mpr ⟨h_49, decide_eq_true h_61, par_t h_92⟩)]; exact hr)] at h2
                    exact h2.symm
                  exact v_lv [0] rfl (kt r hr0 _ _ hR11 (hf.trans (hf10.trans hf11)) (fun j hj => by rw [ho11 j hj, ← ho j hj]; funext z; simp [va_up, hj]) (fun j hj => by rw [hw11 j (by simp only [List.length_cons]; omega), ← hk24 j hj]; simp [va_up, show ¬ j = l.length + 1 by omega]) (hs11 r hr))
              · refine v_goto (tgt := 125) O dX3_betters_95 (by decide) ?_
                refine v_iinc (v := nI (b + 1)) (lv' := [(5, .int (nI (b + 1))), (0, .ref m), (1, .int (nI (l.length + 1))), (2, .int (nI due)), (3, .int (nI (msk (a :: l)))), (4, .int (nI a))]) O hN dX3_betters_125 5 rfl (nI_add b 1) (by decide) rfl ?_
                refine v_goto (tgt := 34) O dX3_betters_128 (by decide) ?_
                refine v_lv [1, 2, 3, 4, 5, 0] rfl ?_
                exact ih (b + 1) σ F' (by omega) (by omega) hR hf ho hk24 (by have e0 : N.1 - b = (N.1 - (b + 1)) + 1 := (by omega); rw [e0] at h2; rw [fsm_none (show (fun b => if altB N (a :: l) b then betF N due k9 (b :: a :: l) else none) b = none from if_neg (fun h => by rw [altB_m] at h; exact par_f h_92 h.2.2))] at h2; exact h2)
theorem s_X3_betters {G : vGC} (hG : vGok G) {k9 : Nat} (hrec : BetC G k9) {σ : vSt} {m : Nat} {ad : Nat → Nat} {I : Nat → Int32} {F : Nat → Nat → Int32} {L : Nat → Nat → Int64} (hR : RecAt layM σ m ad I F L) {N : NetM} (hE : Enc (F 9) N) (hn : N.1 ≤ 12) {a due : Nat} {l : List Nat} (hrg : RgL N (a :: l)) (hrow : RowIs (F 24) (a :: l)) (hdue : due ≤ 12) (hk9 : 13 ≤ (k9 + 1) + (l.length + 1)) : Ct G yX3_betters (ws_ yX3_betters cX3_betters 6 (some .boolean)) (2 + (k9 + 1)) 0 0 σ [.ref m, .int (nI (l.length + 1)), .int (nI due), .int (nI (msk (a :: l)))] (fun v σ9 => v = some (.int (bI (betF N due (k9 + 1) (a :: l)).isSome)) ∧ ∃ F' : Nat → Nat → Int32, RecAt layM σ9 m ad I F' L ∧ FrL [m] σ σ9 ∧ (∀ j, j ≠ 24 → F' j = F j) ∧ (∀ j, j < l.length + 1 → F' 24 j = F 24 j) ∧ ∀ r, betF N due (k9 + 1) (a :: l) = some r → RowIs (F' 24) r) vNo := by
  refine ct_of hG (by decide) (Nat.le_of_ble_eq_true rfl) fun X hN O hnm htb => ?_
  show V G X _ 0 0 σ 0 [(0, .ref m), (1, .int (nI (l.length + 1))), (2, .int (nI due)), (3, .int (nI (msk (a :: l))))] []
  obtain ⟨hmk, hll⟩ := hrg.lt hn
  have hll2 : l.length + 1 ≤ 12 := hll
  have ha : a < N.1 := hrg.1 a (List.mem_cons_self ..)
  refine v_aload_n O dX3_betters_0 rfl 0 rfl ?_
  refine v_getf (C := RX3) (T := TX3) (N := 27) (v := .ref (ad 24)) O in_X3 hR.ob rfl 24 (by decide) rfl q1516 rfl dX3_betters_1 ?_
  refine v_iload_n O dX3_betters_4 rfl 1 rfl ?_
  refine v_iconst (v := nI 1) O dX3_betters_5 (by decide) ?_
  refine v_isub (z := nI ((l.length + 1) - 1)) O dX3_betters_6 (pk_sub (by omega)) ?_
  refine v_iald (f := F 24) O (hR.ar 24 rfl) (by omega) (by omega) dX3_betters_7 ?_
  refine v_top (y := nI a) (by rw [Nat.add_sub_cancel]; exact hrow.1) ?_
  refine v_istore (lv' := [(4, .int (nI a)), (0, .ref m), (1, .int (nI (l.length + 1))), (2, .int (nI due)), (3, .int (nI (msk (a :: l))))]) O hN dX3_betters_8 (by decide) rfl ?_
  refine v_iload_n O dX3_betters_10 rfl 2 rfl ?_
  refine v_iload_n O dX3_betters_11 rfl 3 rfl ?_
  refine v_icmp_neN (tgt := 31) O dX3_betters_12 (by decide) (by omega) (by omega) (fun h_12 => ?_) (fun h_12 => ?_)
  · refine v_iconst (v := nI 0) O dX3_betters_31 (by decide) ?_
    refine v_istore (lv' := [(5, .int (nI 0)), (4, .int (nI a)), (0, .ref m), (1, .int (nI (l.length + 1))), (2, .int (nI due)), (3, .int (nI (msk (a :: l))))]) O hN dX3_betters_32 (by decide) rfl ?_
    refine v_lv [2, 3, 4, 5, 1, 0] rfl ?_
    refine l_X3_betters hG O hN (by omega) (by omega) (I := I) (F := F) (N := N) hE hn (r0 := betF N due (k9 + 1) (a :: l)) hrec hk9 hrg hrow hdue (fun hr σ6 F6 hR6 hf6 ho6 hk6 => ?_) (fun r hr σ6 F6 hR6 hf6 ho6 hk6 hw6 => ?_) (N.1 + 1) 0 _ F (by omega) (by omega) hR FrL.rf (fun _ _ => rfl) (fun _ _ => rfl) (by rw [betF, if_neg (by simp only [List.length_cons]; omega)]; rfl)
    · refine v_iconst (v := nI 0) O dX3_betters_131 (by decide) ?_
      exact v_zret O rfl rfl dX3_betters_132 (by omega) (by omega) ⟨by rw [hr]; rfl, F6, hR6, hf6, ho6, hk6, fun r h9 => by rw [hr] at h9; cases h9⟩
    · refine v_iconst (v := nI 1) O dX3_betters_123 (by decide) ?_
      exact v_zret O rfl rfl dX3_betters_124 (by omega) (by omega) ⟨by rw [hr]; rfl, F6, hR6, hf6, ho6, hk6, fun r' h9 => by rw [hr] at h9; cases h9; exact hw6⟩
  · refine v_aload_n O dX3_betters_15 rfl 1 rfl ?_
    refine v_iload O dX3_betters_16 0 rfl ?_
    refine v_callV (as := [.int (nI a)]) (rest := []) O (c_X3_mate hG hR hE (by first | omega | exact hn) (a := a) (by omega)) q1705 q1707 qs50 q77 q1708 hR.ob (show vcl[2]? = some (RX3, TX3, 27) from rfl) rfl mdX3_mate rfl (by decide) (by omega) (by omega) (by omega) (Nat.le_of_ble_eq_true rfl) rfl dX3_betters_18 (fun v9 σ9 hp9 => ?_) (fun _ _ _ h => False.elim h)
    obtain ⟨rfl, hs9⟩ := hp9
    obtain rfl := hs9.symm
    refine v_iconst (v := (-1)) O dX3_betters_21 (by decide) ?_
    refine v_icmp_ne (tgt := 29) O dX3_betters_22 (by decide) (fun h_22 => ?_) (fun h_22 => ?_)
    · refine v_iconst (v := nI 0) O dX3_betters_29 (by decide) ?_
      exact v_zret (ty := .boolean) O rfl rfl dX3_betters_30 (by omega) (by omega) (by have e : betF N due (k9 + 1) (a :: l) = none := (by rw [betF, if_pos (by simp only [List.length_cons]; omega)]; exact if_neg h_22); rw [e]; exact ⟨rfl, F, hR, FrL.rf, fun _ _ => rfl, fun _ _ => rfl, fun r h => by cases h⟩)
    · refine v_iconst (v := nI 1) O dX3_betters_25 (by decide) ?_
      refine v_goto (tgt := 30) O dX3_betters_26 (by decide) ?_
      exact v_zret (ty := .boolean) O rfl rfl dX3_betters_30 (by omega) (by omega) (by have e : betF N due (k9 + 1) (a :: l) = some (a :: l) := (by rw [betF, if_pos (by simp only [List.length_cons]; omega)]; exact if_pos h_22); rw [e]; exact ⟨rfl, F, hR, FrL.rf, fun _ _ => rfl, fun _ _ => rfl, fun r h => by cases h; exact hrow⟩)
theorem c_X3_betters {G : vGC} (hG : vGok G) (k : Nat) : BetC G k := by
  induction k with
  | zero =>
    intro σ m ad I F L hR N hE hn a due l hrg hrow hdue hk
    have h : l.length + 1 ≤ 12 := (hrg.lt hn).2
    omega
  | succ k ih =>
    intro σ m ad I F L hR N hE hn a due l hrg hrow hdue hk
    exact s_X3_betters hG ih hR hE hn hrg hrow hdue hk
