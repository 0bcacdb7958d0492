theorem barF_lt {N : NetM} {x : Int32} {b : Nat} : ∀ s, barF N x s = some b → b < s
  | 0, h => by cases h
  | s + 1, h => by
    rw [barF] at h
    cases ho : barF N x s with
    | none =>
      rw [ho] at h
      by_cases e : barG N s = true
      · simp only [if_pos e] at h; cases h; omega
      · simp only [if_neg e] at h; cases h
    | some c =>
      have hc : c < s := barF_lt s ho
      rw [ho] at h
      simp only at h
      by_cases e1 : (if x = nI 0 then pcn c ≤ pcn s else pcn s ≤ pcn c)
      · rw [if_pos e1] at h; cases h; omega
      · rw [if_neg e1] at h
        by_cases e2 : barG N s = true
        · rw [if_pos e2] at h; cases h; omega
        · rw [if_neg e2] at h; cases h; omega
theorem optI_some {o : Option Nat} (h : ¬ optI o = -1) : ∃ b, o = some b := by
  cases o with
  | none => exact absurd rfl h
  | some b => exact ⟨b, rfl⟩
theorem optI_none {o : Option Nat} (hb : ∀ b, o = some b → b < 2 ^ 31) (h : optI o = -1) : o = none := by
  cases o with
  | none => rfl
  | some b => exact absurd h (nI_ne (hb b rfl))
theorem l_X3_barrier {G : vGC} (hG : vGok G) {X : vCX} {Q : State → Prop} {c0 n0 : Nat} (O : vOk G X yX3_barrier.cls cX3_barrier (some .int) 5 0 0) (hN : xn X = 4) (hcm0 : c0 ≤ 0) (hsm0 : n0 ≤ 0) {σ : vSt} {m : Nat} {ad : Nat → Nat} {I : Nat → Int32} {F : Nat → Nat → Int32} {L : Nat → Nat → Int64} (hR : RecAt layM σ m ad I F L) {N : NetM} (hE : Enc (F 9) N) (hn : N.1 ≤ 12) (hl : LaidOk N.1 N.2.1 F L) (hn1 : 1 ≤ N.1) {j : Nat} (hj : j ≤ 1) (kx : V G X Q c0 n0 σ 108 [(0, .ref m), (1, .int (nI j)), (2, .int (optI (barF N (nI j) (2 ^ N.1))))] []) : ∀ (k : Nat) (s : Nat), (2 ^ N.1 < s + k) → (s ≤ 2 ^ N.1) → V G X Q c0 n0 σ 38 [(0, .ref m), (1, .int (nI j)), (2, .int (optI (barF N (nI j) s))), (3, .int (nI s))] [] := by
  intro k
  induction k with
  | zero => intro s h0 h1; exact absurd h0 (by omega)
  | succ k ih =>
    intro s h0 h1
    have hp12 := p12 hn
    have hp1 : 1 ≤ 2 ^ N.1 := Nat.one_le_two_pow
    have hal : allN N = 2 ^ N.1 - 1 := rfl
    have hbl := fun b => barF_lt (N := N) (x := nI j) (b := b) s
    refine v_iload_n O dX3_barrier_38 rfl 3 rfl ?_
    refine v_aload_n O dX3_barrier_39 rfl 0 rfl ?_
    refine v_callV (as := []) (rest := [.int (nI s)]) O (c_X3_all hG hR hE (by first | omega | exact hn)) q1756 q1758 qs58 q77 q1759 hR.ob (show vcl[2]? = some (RX3, TX3, 27) from rfl) rfl mdX3_all rfl (by decide) (by omega) (by omega) (by omega) (Nat.le_of_ble_eq_true rfl) rfl dX3_barrier_40 (fun v9 σ9 hp9 => ?_) (fun _ _ _ h => False.elim h)
    obtain ⟨rfl, hs9⟩ := hp9
    obtain rfl := hs9.symm
    refine v_icmp_gtN (tgt := 108) O dX3_barrier_43 (by decide) (by omega) (by omega) (fun h_43 => ?_) (fun h_43 => ?_)
    · obtain rfl : s = 2 ^ N.1 := by omega
      exact v_lv [0, 1, 2] rfl kx
    · refine v_iload_n O dX3_barrier_46 rfl 2 rfl ?_
      refine v_iconst (v := (-1)) O dX3_barrier_47 (by decide) ?_
      refine v_icmp_eq (tgt := 83) O dX3_barrier_48 (by decide) (fun h_48 => ?_) (fun h_48 => ?_)
      · have ho := optI_none (fun b h => by have := hbl b h; omega) h_48
        refine v_aload_n O dX3_barrier_83 rfl 0 rfl ?_
        refine v_iload_n O dX3_barrier_84 rfl 3 rfl ?_
        refine v_callV (as := [.int (nI s)]) (rest := []) O (c_X3_oddOf hG hR hE (by first | omega | exact hn) (s := s) (by omega)) q1827 q1829 qs68 q77 q1830 hR.ob (show vcl[2]? = some (RX3, TX3, 27) from rfl) rfl mdX3_oddOf rfl (by decide) (by omega) (by omega) (by omega) (Nat.le_of_ble_eq_true rfl) rfl dX3_barrier_85 (fun v9 σ9 hp9 => ?_) (fun _ _ _ h => False.elim h)
        obtain ⟨rfl, hs9⟩ := hp9
        obtain rfl := hs9.symm
        refine v_iload_n O dX3_barrier_88 rfl 3 rfl ?_
        refine v_callS (as := [.int (nI s)]) (rest := [.int (nI (oddN N s))]) O (c_X3_bits hG (s := s) (by omega)) q1804 q1805 q77 q1806 mdX3_bits rfl (by decide) (by omega) (by omega) (by omega) (Nat.le_of_ble_eq_true rfl) rfl dX3_barrier_89 (fun v9 σ9 hp9 => ?_) (fun _ _ _ h => False.elim h)
        obtain ⟨rfl, hs9⟩ := hp9
        obtain rfl := hs9.symm
        refine v_isub (z := (nI (oddN N s) - nI (pcn s))) O dX3_barrier_92 rfl ?_
        refine v_aload_n O dX3_barrier_93 rfl 0 rfl ?_
        refine v_callV (as := []) (rest := [.int (nI (oddN N s) - nI (pcn s))]) O (c_X3_missing hG hR hE (by omega) hl) q1784 q1786 qs62 q77 q1787 hR.ob (show vcl[2]? = some (RX3, TX3, 27) from rfl) rfl mdX3_missing rfl (by decide) (by omega) (by omega) (by omega) (Nat.le_of_ble_eq_true rfl) rfl dX3_barrier_94 (fun v9 σ9 hp9 => ?_) (fun _ _ _ h => False.elim h)
        obtain ⟨rfl, hs9⟩ := hp9
        obtain rfl := hs9.symm
        refine v_icmp_ne (tgt := 102) O dX3_barrier_97 (by decide) (fun h_97 => ?_) (fun h_97 => ?_)
        · refine v_iinc (v := nI (s + 1)) (lv' := [(3, .int (nI (s + 1))), (0, .ref m), (1, .int (nI j)), (2, .int (optI (barF N (nI j) s)))]) O hN dX3_barrier_102 3 rfl (nI_add s 1) (by decide) rfl ?_
          refine v_goto (tgt := 38) O dX3_barrier_105 (by decide) ?_
          have e9 : optI (barF N (nI j) (s + 1)) = (optI (barF N (nI j) s)) := by rw [ho]; simp only [barF, ho]; rw [if_neg (by simp [barG, h_97])]
          rw [← e9]
          refine v_lv [1, 2, 3, 0] rfl ?_
          exact ih (s + 1) (by omega) (by omega)
        · refine v_iload_n O dX3_barrier_100 rfl 3 rfl ?_
          refine v_istore_n (lv' := [(2, .int (nI s)), (0, .ref m), (1, .int (nI j)), (3, .int (nI s))]) O hN dX3_barrier_101 rfl (by decide) rfl ?_
          refine v_iinc (v := nI (s + 1)) (lv' := [(3, .int (nI (s + 1))), (2, .int (nI s)), (0, .ref m), (1, .int (nI j))]) O hN dX3_barrier_102 3 rfl (nI_add s 1) (by decide) rfl ?_
          refine v_goto (tgt := 38) O dX3_barrier_105 (by decide) ?_
          have e9 : optI (barF N (nI j) (s + 1)) = nI s := by simp only [barF, ho]; rw [if_pos (show barG N s = true from decide_eq_true h_97)]; rfl
          rw [← e9]
          refine v_lv [2, 3, 1, 0] rfl ?_
          exact ih (s + 1) (by omega) (by omega)
      · obtain ⟨b, ho⟩ := optI_some h_48
        have hbb := hbl b ho
        have hbe : optI (barF N (nI j) s) = nI b := by rw [ho]; rfl
        have hpb := pcn_le b
        have hps := pcn_le s
        refine v_iload_n O dX3_barrier_51 rfl 1 rfl ?_
        refine v_if_neN (tgt := 69) O dX3_barrier_52 (by decide) (by omega) (fun h_52 => ?_) (fun h_52 => ?_)
        · refine v_iload_n O dX3_barrier_69 rfl 3 rfl ?_
          refine v_callS (as := [.int (nI s)]) (rest := []) O (c_X3_bits hG (s := s) (by omega)) q1804 q1805 q77 q1806 mdX3_bits rfl (by decide) (by omega) (by omega) (by omega) (Nat.le_of_ble_eq_true rfl) rfl dX3_barrier_70 (fun v9 σ9 hp9 => ?_) (fun _ _ _ h => False.elim h)
          obtain ⟨rfl, hs9⟩ := hp9
          obtain rfl := hs9.symm
          refine v_iload_n O dX3_barrier_73 rfl 2 rfl ?_
          rw [hbe]
          refine v_callS (as := [.int (nI b)]) (rest := [.int (nI (pcn s))]) O (c_X3_bits hG (s := b) (by omega)) q1804 q1805 q77 q1806 mdX3_bits rfl (by decide) (by omega) (by omega) (by omega) (Nat.le_of_ble_eq_true rfl) rfl dX3_barrier_74 (fun v9 σ9 hp9 => ?_) (fun _ _ _ h => False.elim h)
          obtain ⟨rfl, hs9⟩ := hp9
          obtain rfl := hs9.symm
          refine v_icmp_gtN (tgt := 83) O dX3_barrier_77 (by decide) (by omega) (by omega) (fun h_77 => ?_) (fun h_77 => ?_)
          · refine v_aload_n O dX3_barrier_83 rfl 0 rfl ?_
            refine v_iload_n O dX3_barrier_84 rfl 3 rfl ?_
            refine v_callV (as := [.int (nI s)]) (rest := []) O (c_X3_oddOf hG hR hE (by first | omega | exact hn) (s := s) (by omega)) q1827 q1829 qs68 q77 q1830 hR.ob (show vcl[2]? = some (RX3, TX3, 27) from rfl) rfl mdX3_oddOf rfl (by decide) (by omega) (by omega) (by omega) (Nat.le_of_ble_eq_true rfl) rfl dX3_barrier_85 (fun v9 σ9 hp9 => ?_) (fun _ _ _ h => False.elim h)
            obtain ⟨rfl, hs9⟩ := hp9
            obtain rfl := hs9.symm
            refine v_iload_n O dX3_barrier_88 rfl 3 rfl ?_
            refine v_callS (as := [.int (nI s)]) (rest := [.int (nI (oddN N s))]) O (c_X3_bits hG (s := s) (by omega)) q1804 q1805 q77 q1806 mdX3_bits rfl (by decide) (by omega) (by omega) (by omega) (Nat.le_of_ble_eq_true rfl) rfl dX3_barrier_89 (fun v9 σ9 hp9 => ?_) (fun _ _ _ h => False.elim h)
            obtain ⟨rfl, hs9⟩ := hp9
            obtain rfl := hs9.symm
            refine v_isub (z := (nI (oddN N s) - nI (pcn s))) O dX3_barrier_92 rfl ?_
            refine v_aload_n O dX3_barrier_93 rfl 0 rfl ?_
            refine v_callV (as := []) (rest := [.int (nI (oddN N s) - nI (pcn s))]) O (c_X3_missing hG hR hE (by omega) hl) q1784 q1786 qs62 q77 q1787 hR.ob (show vcl[2]? = some (RX3, TX3, 27) from rfl) rfl mdX3_missing rfl (by decide) (by omega) (by omega) (by omega) (Nat.le_of_ble_eq_true rfl) rfl dX3_barrier_94 (fun v9 σ9 hp9 => ?_) (fun _ _ _ h => False.elim h)
            obtain ⟨rfl, hs9⟩ := hp9
            obtain rfl := hs9.symm
            refine v_icmp_ne (tgt := 102) O dX3_barrier_97 (by decide) (fun h_97 => ?_) (fun h_97 => ?_)
            · refine v_iinc (v := nI (s + 1)) (lv' := [(3, .int (nI (s + 1))), (0, .ref m), (1, .int (nI j)), (2, .int (nI b))]) O hN dX3_barrier_102 3 rfl (nI_add s 1) (by decide) rfl ?_
              refine v_goto (tgt := 38) O dX3_barrier_105 (by decide) ?_
              have e9 : optI (barF N (nI j) (s + 1)) = nI b := by simp only [barF, ho]; rw [if_neg (show ¬ (if nI j = nI 0 then pcn b ≤ pcn s else pcn s ≤ pcn b) from by rw [if_neg (fun e => h_52 (nI_inj (by omega) (by omega) e))]; omega), if_neg (by simp [barG, h_97])]; rfl
              rw [← e9]
              refine v_lv [1, 2, 3, 0] rfl ?_
              exact ih (s + 1) (by omega) (by omega)
            · refine v_iload_n O dX3_barrier_100 rfl 3 rfl ?_
              refine v_istore_n (lv' := [(2, .int (nI s)), (0, .ref m), (1, .int (nI j)), (3, .int (nI s))]) O hN dX3_barrier_101 rfl (by decide) rfl ?_
              refine v_iinc (v := nI (s + 1)) (lv' := [(3, .int (nI (s + 1))), (2, .int (nI s)), (0, .ref m), (1, .int (nI j))]) O hN dX3_barrier_102 3 rfl (nI_add s 1) (by decide) rfl ?_
              refine v_goto (tgt := 38) O dX3_barrier_105 (by decide) ?_
              have e9 : optI (barF N (nI j) (s + 1)) = nI s := by simp only [barF, ho]; rw [if_neg (show ¬ (if nI j = nI 0 then pcn b ≤ pcn s else pcn s ≤ pcn b) from by rw [if_neg (fun e => h_52 (nI_inj (by omega) (by omega) e))]; omega), if_pos (show barG N s = true from decide_eq_true h_97)]; rfl
              rw [← e9]
              refine v_lv [2, 3, 1, 0] rfl ?_
              exact ih (s + 1) (by omega) (by omega)
          · refine v_goto (tgt := 102) O dX3_barrier_80 (by decide) ?_
            refine v_iinc (v := nI (s + 1)) (lv' := [(3, .int (nI (s + 1))), (0, .ref m), (1, .int (nI j)), (2, .int (nI b))]) O hN dX3_barrier_102 3 rfl (nI_add s 1) (by decide) rfl ?_
            refine v_goto (tgt := 38) O dX3_barrier_105 (by decide) ?_
            have e9 : optI (barF N (nI j) (s + 1)) = nI b := by simp only [barF, ho]; rw [if_pos (show (if nI j = nI 0 then pcn b ≤ pcn s else pcn s ≤ pcn b) from by rw [if_neg (fun e => h_52 (nI_inj (by omega) (by omega) e))]; omega)]; rfl
            rw [← e9]
            refine v_lv [1, 2, 3, 0] rfl ?_
            exact ih (s + 1) (by omega) (by omega)
        · refine v_iload_n O dX3_barrier_55 rfl 3 rfl ?_
          refine v_callS (as := [.int (nI s)]) (rest := []) O (c_X3_bits hG (s := s) (by omega)) q1804 q1805 q77 q1806 mdX3_bits rfl (by decide) (by omega) (by omega) (by omega) (Nat.le_of_ble_eq_true rfl) rfl dX3_barrier_56 (fun v9 σ9 hp9 => ?_) (fun _ _ _ h => False.elim h)
          obtain ⟨rfl, hs9⟩ := hp9
          obtain rfl := hs9.symm
          refine v_iload_n O dX3_barrier_59 rfl 2 rfl ?_
          rw [hbe]
          refine v_callS (as := [.int (nI b)]) (rest := [.int (nI (pcn s))]) O (c_X3_bits hG (s := b) (by omega)) q1804 q1805 q77 q1806 mdX3_bits rfl (by decide) (by omega) (by omega) (by omega) (Nat.le_of_ble_eq_true rfl) rfl dX3_barrier_60 (fun v9 σ9 hp9 => ?_) (fun _ _ _ h => False.elim h)
          obtain ⟨rfl, hs9⟩ := hp9
          obtain rfl := hs9.symm
          refine v_icmp_ltN (tgt := 83) O dX3_barrier_63 (by decide) (by omega) (by omega) (fun h_63 => ?_) (fun h_63 => ?_)
          · refine v_aload_n O dX3_barrier_83 rfl 0 rfl ?_
            refine v_iload_n O dX3_barrier_84 rfl 3 rfl ?_
            refine v_callV (as := [.int (nI s)]) (rest := []) O (c_X3_oddOf hG hR hE (by first | omega | exact hn) (s := s) (by omega)) q1827 q1829 qs68 q77 q1830 hR.ob (show vcl[2]? = some (RX3, TX3, 27) from rfl) rfl mdX3_oddOf rfl (by decide) (by omega) (by omega) (by omega) (Nat.le_of_ble_eq_true rfl) rfl dX3_barrier_85 (fun v9 σ9 hp9 => ?_) (fun _ _ _ h => False.elim h)
            obtain ⟨rfl, hs9⟩ := hp9
            obtain rfl := hs9.symm
            refine v_iload_n O dX3_barrier_88 rfl 3 rfl ?_
            refine v_callS (as := [.int (nI s)]) (rest := [.int (nI (oddN N s))]) O (c_X3_bits hG (s := s) (by omega)) q1804 q1805 q77 q1806 mdX3_bits rfl (by decide) (by omega) (by omega) (by omega) (Nat.le_of_ble_eq_true rfl) rfl dX3_barrier_89 (fun v9 σ9 hp9 => ?_) (fun _ _ _ h => False.elim h)
            obtain ⟨rfl, hs9⟩ := hp9
            obtain rfl := hs9.symm
            refine v_isub (z := (nI (oddN N s) - nI (pcn s))) O dX3_barrier_92 rfl ?_
            refine v_aload_n O dX3_barrier_93 rfl 0 rfl ?_
            refine v_callV (as := []) (rest := [.int (nI (oddN N s) - nI (pcn s))]) O (c_X3_missing hG hR hE (by omega) hl) q1784 q1786 qs62 q77 q1787 hR.ob (show vcl[2]? = some (RX3, TX3, 27) from rfl) rfl mdX3_missing rfl (by decide) (by omega) (by omega) (by omega) (Nat.le_of_ble_eq_true rfl) rfl dX3_barrier_94 (fun v9 σ9 hp9 => ?_) (fun _ _ _ h => False.elim h)
            obtain ⟨rfl, hs9⟩ := hp9
            obtain rfl := hs9.symm
            refine v_icmp_ne (tgt := 102) O dX3_barrier_97 (by decide) (fun h_97 => ?_) (fun h_97 => ?_)
            · refine v_iinc (v := nI (s + 1)) (lv' := [(3, .int (nI (s + 1))), (0, .ref m), (1, .int (nI j)), (2, .int (nI b))]) O hN dX3_barrier_102 3 rfl (nI_add s 1) (by decide) rfl ?_
              refine v_goto (tgt := 38) O dX3_barrier_105 (by decide) ?_
              have e9 : optI (barF N (nI j) (s + 1)) = nI b := by simp only [barF, ho]; rw [if_neg (show ¬ (if nI j = nI 0 then pcn b ≤ pcn s else pcn s ≤ pcn b) from by rw [if_pos (congrArg nI h_52)]; omega), if_neg (by simp [barG, h_97])]; rfl
              rw [← e9]
              refine v_lv [1, 2, 3, 0] rfl ?_
              exact ih (s + 1) (by omega) (by omega)
            · refine v_iload_n O dX3_barrier_100 rfl 3 rfl ?_
              refine v_istore_n (lv' := [(2, .int (nI s)), (0, .ref m), (1, .int (nI j)), (3, .int (nI s))]) O hN dX3_barrier_101 rfl (by decide) rfl ?_
              refine v_iinc (v := nI (s + 1)) (lv' := [(3, .int (nI (s + 1))), (2, .int (nI s)), (0, .ref m), (1, .int (nI j))]) O hN dX3_barrier_102 3 rfl (nI_add s 1) (by decide) rfl ?_
              refine v_goto (tgt := 38) O dX3_barrier_105 (by decide) ?_
              have e9 : optI (barF N (nI j) (s + 1)) = nI s := by simp only [barF, ho]; rw [if_neg (show ¬ (if nI j = nI 0 then pcn b ≤ pcn s else pcn s ≤ pcn b) from by rw [if_pos (congrArg nI h_52)]; omega), if_pos (show barG N s = true from decide_eq_true h_97)]; rfl
              rw [← e9]
              refine v_lv [2, 3, 1, 0] rfl ?_
              exact ih (s + 1) (by omega) (by omega)
          · refine v_goto (tgt := 102) O dX3_barrier_66 (by decide) ?_
            refine v_iinc (v := nI (s + 1)) (lv' := [(3, .int (nI (s + 1))), (0, .ref m), (1, .int (nI j)), (2, .int (nI b))]) O hN dX3_barrier_102 3 rfl (nI_add s 1) (by decide) rfl ?_
            refine v_goto (tgt := 38) O dX3_barrier_105 (by decide) ?_
            have e9 : optI (barF N (nI j) (s + 1)) = nI b := by simp only [barF, ho]; rw [if_pos (show (if nI j = nI 0 then pcn b ≤ pcn s else pcn s ≤ pcn b) from by rw [if_pos (congrArg nI h_52)]; omega)]; rfl
            rw [← e9]
            refine v_lv [1, 2, 3, 0] rfl ?_
            exact ih (s + 1) (by omega) (by omega)
theorem c_X3_barrier {G : vGC} (hG : vGok G) {σ : vSt} {m : Nat} {S : SysM} {t0 : Nat} (hA : ModAt σ m S t0) (hS : okS S) {x : Int32} : Ct G yX3_barrier (ws_ yX3_barrier cX3_barrier 4 (some .int)) 5 0 0 σ [.ref m, .int x] (fun v σ9 => v = some (.int (opBarrier S x).2.1) ∧ ModAt σ9 m (opBarrier S x).2.2 (opBarrier S x).1 ∧ FrL [m] σ σ9) vNo := by
  refine ct_of hG (by decide) (Nat.le_of_ble_eq_true rfl) fun X hN O hnm htb => ?_
  show V G X _ 0 0 σ 0 [(0, .ref m), (1, .int x)] []
  obtain ⟨ad, I, F, L, hR, hM⟩ := id hA
  have hd := okS.d S hS
  have hn1 : 1 ≤ (sN S).1 := hd.1
  have hn : (sN S).1 ≤ 12 := hd.2.1
  have hp12 := p12 hn
  have hal := all_lt (N := sN S)
  refine v_aload_n O dX3_barrier_0 rfl 0 rfl ?_
  refine v_iconst (v := nI 0) O dX3_barrier_1 (by decide) ?_
  refine r_puti (K := layM) (I' := (va_up I 0 (nI 0))) (ty0 := tyX3) O hR in_X3 tyX3_ok nmX3 (show vcl[2]? = some (RX3, TX3, 27) from rfl) 0 (by decide) rfl q1492 rfl (tyX3_ok 0 (by decide)) rfl rfl (Nat.le_of_ble_eq_true rfl) rfl dX3_barrier_2 (fun σ1 hR1 hf1 => ?_)
  refine v_aload_n O dX3_barrier_5 rfl 0 rfl ?_
  refine v_iload_n O dX3_barrier_6 rfl 1 rfl ?_
  refine v_iconst (v := nI 0) O dX3_barrier_7 (by decide) ?_
  refine v_iconst (v := nI 1) O dX3_barrier_8 (by decide) ?_
  refine v_callS (as := [.int x, .int (nI 0), .int (nI 1)]) (rest := [.ref m]) O (c_X3_in hG (x := x) (lo := nI 0) (hi := nI 1)) q1587 q1588 q77 q1589 mdX3_in rfl (by decide) (by omega) (by omega) (by omega) (Nat.le_of_ble_eq_true rfl) rfl dX3_barrier_9 (fun v9 σ9 hp9 => ?_) (fun _ _ _ h => False.elim h)
  obtain ⟨rfl, hs9⟩ := hp9
  obtain rfl := hs9.symm
  refine v_if_neB (tgt := 19) O dX3_barrier_12 (by decide) (fun h_12 => ?_) (fun h_12 => ?_)
  · have h12 := of_decide_eq_true h_12
    obtain ⟨j, hj, rfl⟩ := nI_of2 (n := 1) (M := nI 1) rfl (Int32.not_lt.mpr h12.1) h12.2
    refine v_iconst (v := nI 0) O dX3_barrier_19 (by decide) ?_
    refine v_iconst (v := nI 1) O dX3_barrier_20 (by decide) ?_
    refine v_iconst (v := nI 1) O dX3_barrier_21 (by decide) ?_
    refine v_callV (as := [.int (nI 0), .int (nI 1), .int (nI 1)]) (rest := []) O (c_X3_bad hG (p := false) (w := 1) (r := 1) hR1 (by omega) (by omega) rfl) q1590 q1592 qs32 q77 q1593 hR1.ob (show vcl[2]? = some (RX3, TX3, 27) from rfl) rfl mdX3_bad rfl (by decide) (by omega) (by omega) (by omega) (Nat.le_of_ble_eq_true rfl) rfl dX3_barrier_22 (fun v9 σ3 hp9 => ?_) (fun _ _ _ h => False.elim h)
    obtain ⟨rfl, hR2, hf2⟩ := hp9
    replace hR2 : RecAt layM σ3 m ad (va_up I 0 (nI 0)) F L := hR2
    refine v_if_eqB (tgt := 30) O dX3_barrier_25 (by decide) (fun h_25 => ?_) (fun h_25 => ?_)
    · refine v_aload_n O dX3_barrier_30 rfl 0 rfl ?_
      refine v_callV (as := []) (rest := []) O (c_X3_lays hG hR2 (hM.thr 0) hS) q1752 q1754 qs57 q77 q1755 hR2.ob (show vcl[2]? = some (RX3, TX3, 27) from rfl) rfl mdX3_lays rfl (by decide) (by omega) (by omega) (by omega) (Nat.le_of_ble_eq_true rfl) rfl dX3_barrier_31 (fun v9 σ5 hp9 => ?_) (fun _ _ _ h => False.elim h)
      obtain ⟨rfl, I4, F4, L4, hR4, hM4, hl4, hf4⟩ := hp9
      have hE4 : Enc (F4 9) (sN S) := hM4.e9
      refine v_iconst (v := (-1)) O dX3_barrier_34 (by decide) ?_
      refine v_istore_n (lv' := [(2, .int (-1)), (0, .ref m), (1, .int (nI j))]) O hN dX3_barrier_35 rfl (by decide) rfl ?_
      refine v_iconst (v := nI 0) O dX3_barrier_36 (by decide) ?_
      refine v_istore_n (lv' := [(3, .int (nI 0)), (2, .int (-1)), (0, .ref m), (1, .int (nI j))]) O hN dX3_barrier_37 rfl (by decide) rfl ?_
      refine v_lv [2, 3, 1, 0] rfl ?_
      refine l_X3_barrier hG O hN (by omega) (by omega) hR4 hE4 hn hl4 hn1 (by omega) ?_ (2 ^ (sN S).1 + 1) 0 (by omega) (by omega)
      refine v_iload_n O dX3_barrier_108 rfl 2 rfl ?_
      exact v_iret O rfl dX3_barrier_109 (by omega) (by omega) (by rw [show opBarrier S (nI j) = (0, optI (barF (sN S) (nI j) (2 ^ (sN S).1)), S) from by rw [opBarrier, if_pos h12]]; exact ⟨rfl, ⟨ad, _, _, _, hR4, hM4⟩, ((hf1.trans hf2).trans hf4)⟩)
    · exact absurd h_25 (by decide)
  · have h12 := of_decide_eq_false h_12
    refine v_iconst (v := nI 1) O dX3_barrier_15 (by decide) ?_
    refine v_goto (tgt := 20) O dX3_barrier_16 (by decide) ?_
    refine v_iconst (v := nI 1) O dX3_barrier_20 (by decide) ?_
    refine v_iconst (v := nI 1) O dX3_barrier_21 (by decide) ?_
    refine v_callV (as := [.int (nI 1), .int (nI 1), .int (nI 1)]) (rest := []) O (c_X3_bad hG (p := true) (w := 1) (r := 1) hR1 (by omega) (by omega) rfl) q1590 q1592 qs32 q77 q1593 hR1.ob (show vcl[2]? = some (RX3, TX3, 27) from rfl) rfl mdX3_bad rfl (by decide) (by omega) (by omega) (by omega) (Nat.le_of_ble_eq_true rfl) rfl dX3_barrier_22 (fun v9 σ7 hp9 => ?_) (fun _ _ _ h => False.elim h)
    obtain ⟨rfl, hR6, hf6⟩ := hp9
    replace hR6 : RecAt layM σ7 m ad (va_up (va_up I 0 (nI 0)) 0 (nI 1)) (va_up F 1 (va_up (F 1) 1 ((F 1) 1 + nI 1))) L := hR6
    refine v_if_eqB (tgt := 30) O dX3_barrier_25 (by decide) (fun h_25 => ?_) (fun h_25 => ?_)
    · exact absurd h_25 (by decide)
    · refine v_iconst (v := nI 0) O dX3_barrier_28 (by decide) ?_
      exact v_iret O rfl dX3_barrier_29 (by omega) (by omega) (by rw [show opBarrier S x = (1, nI 0, refS S 1) from by rw [opBarrier, if_neg h12]]; exact ⟨rfl, ⟨ad, _, _, _, hR6, (((hM.thr 0).rf (r := 1) (by omega)).thr 1)⟩, (hf1.trans hf6)⟩)
theorem lg_cmp0 {a b : Nat} (ha : a ≤ 13 ^ 12) (hb : b ≤ 13 ^ 12) : (lg_cmp (lN a) (lN b) = nI 0) ↔ a = b := by
  have key : lg_cmp (lN a) (lN b) = nI 0 ↔ lN a = lN b := by
    show (if lN a > lN b then 1 else if lN a = lN b then 0 else -1) = nI 0 ↔ _
    constructor
    · intro h
      by_cases h1 : lN a > lN b
      · rw [if_pos h1] at h; exact absurd h (by decide)
      · rw [if_neg h1] at h
        by_cases h2 : lN a = lN b
        · exact h2
        · rw [if_neg h2] at h; exact absurd h (by decide)
    · intro h
      rw [h, if_neg (fun e => Int64.lt_irrefl e), if_pos rfl]
      rfl
  rw [key]
  exact ⟨fun h => lN_inj (by omega) (by omega) h, fun h => by rw [h]⟩
theorem c_X3_line {G : vGC} (hG : vGok G) {σ : vSt} {m : Nat} {S : SysM} {t0 : Nat} (hA : ModAt σ m S t0) (hS : okS S) {x y q : Int32} : Ct G yX3_line (ws_ yX3_line cX3_line 7 (some .int)) 5 0 0 σ [.ref m, .int x, .int y, .int q] (fun v σ9 => v = some (.int (opLine S x y q).2.1) ∧ ModAt σ9 m (opLine S x y q).2.2 (opLine S x y q).1 ∧ FrL [m] σ σ9) vNo := by
  refine ct_of hG (by decide) (Nat.le_of_ble_eq_true rfl) fun X hN O hnm htb => ?_
  show V G X _ 0 0 σ 0 [(0, .ref m), (1, .int x), (2, .int y), (3, .int q)] []
  obtain ⟨ad, I, F, L, hR, hM⟩ := id hA
  have hd := okS.d S hS
  have hn1 : 1 ≤ (sN S).1 := hd.1
  have hn : (sN S).1 ≤ 12 := hd.2.1
  have hp12 := p12 hn
  have hal := all_lt (N := sN S)
  refine v_aload_n O dX3_line_0 rfl 0 rfl ?_
  refine v_iconst (v := nI 0) O dX3_line_1 (by decide) ?_
  refine r_puti (K := layM) (I' := (va_up I 0 (nI 0))) (ty0 := tyX3) O hR in_X3 tyX3_ok nmX3 (show vcl[2]? = some (RX3, TX3, 27) from rfl) 0 (by decide) rfl q1492 rfl (tyX3_ok 0 (by decide)) rfl rfl (Nat.le_of_ble_eq_true rfl) rfl dX3_line_2 (fun σ1 hR1 hf1 => ?_)
  refine v_aload_n O dX3_line_5 rfl 0 rfl ?_
  refine v_aload_n O dX3_line_6 rfl 0 rfl ?_
  refine v_iload_n O dX3_line_7 rfl 1 rfl ?_
  refine v_callV (as := [.int x]) (rest := [.ref m]) O (c_X3_isNode hG hR1 (hM.thr 0).e9 (by first | omega | exact hn) (x := x) (by omega)) q1697 q1699 qs49 q77 q1700 hR1.ob (show vcl[2]? = some (RX3, TX3, 27) from rfl) rfl mdX3_isNode rfl (by decide) (by omega) (by omega) (by omega) (Nat.le_of_ble_eq_true rfl) rfl dX3_line_8 (fun v9 σ9 hp9 => ?_) (fun _ _ _ h => False.elim h)
  obtain ⟨rfl, hs9⟩ := hp9
  obtain rfl := hs9.symm
  refine v_if_eqB (tgt := 22) O dX3_line_11 (by decide) (fun h_11 => ?_) (fun h_11 => ?_)
  · refine v_iconst (v := nI 1) O dX3_line_22 (by decide) ?_
    refine v_goto (tgt := 27) O dX3_line_23 (by decide) ?_
    refine v_iconst (v := nI 1) O dX3_line_27 (by decide) ?_
    refine v_iconst (v := nI 0) O dX3_line_28 (by decide) ?_
    refine v_callV (as := [.int (nI 1), .int (nI 1), .int (nI 0)]) (rest := []) O (c_X3_bad hG (p := true) (w := 1) (r := 0) hR1 (by omega) (by omega) rfl) q1590 q1592 qs32 q77 q1593 hR1.ob (show vcl[2]? = some (RX3, TX3, 27) from rfl) rfl mdX3_bad rfl (by decide) (by omega) (by omega) (by omega) (Nat.le_of_ble_eq_true rfl) rfl dX3_line_29 (fun v9 σ3 hp9 => ?_) (fun _ _ _ h => False.elim h)
    obtain ⟨rfl, hR2, hf2⟩ := hp9
    replace hR2 : RecAt layM σ3 m ad (va_up (va_up I 0 (nI 0)) 0 (nI 1)) (va_up F 1 (va_up (F 1) 0 ((F 1) 0 + nI 1))) L := hR2
    refine v_if_neB (tgt := 63) O dX3_line_32 (by decide) (fun h_32 => ?_) (fun h_32 => ?_)
    · refine v_iconst (v := nI 0) O dX3_line_63 (by decide) ?_
      exact v_iret O rfl dX3_line_64 (by omega) (by omega) (by rw [show opLine S x y q = (1, nI 0, refS S 0) from by simp [opLine, h_11]]; exact ⟨rfl, ⟨ad, _, _, _, hR2, (((hM.thr 0).rf (r := 0) (by omega)).thr 1)⟩, (hf1.trans hf2)⟩)
    · exact absurd h_32 (by decide)
  · obtain ⟨a, ha, rfl⟩ := isNd_t hn1 hn h_11
    refine v_aload_n O dX3_line_14 rfl 0 rfl ?_
    refine v_iload_n O dX3_line_15 rfl 2 rfl ?_
    refine v_callV (as := [.int y]) (rest := [.ref m]) O (c_X3_isNode hG hR1 (hM.thr 0).e9 (by first | omega | exact hn) (x := y) (by omega)) q1697 q1699 qs49 q77 q1700 hR1.ob (show vcl[2]? = some (RX3, TX3, 27) from rfl) rfl mdX3_isNode rfl (by decide) (by omega) (by omega) (by omega) (Nat.le_of_ble_eq_true rfl) rfl dX3_line_16 (fun v9 σ9 hp9 => ?_) (fun _ _ _ h => False.elim h)
    obtain ⟨rfl, hs9⟩ := hp9
    obtain rfl := hs9.symm
    refine v_if_neB (tgt := 26) O dX3_line_19 (by decide) (fun h_19 => ?_) (fun h_19 => ?_)
    · obtain ⟨b, hb, rfl⟩ := isNd_t hn1 hn h_19
      refine v_iconst (v := nI 0) O dX3_line_26 (by decide) ?_
      refine v_iconst (v := nI 1) O dX3_line_27 (by decide) ?_
      refine v_iconst (v := nI 0) O dX3_line_28 (by decide) ?_
      refine v_callV (as := [.int (nI 0), .int (nI 1), .int (nI 0)]) (rest := []) O (c_X3_bad hG (p := false) (w := 1) (r := 0) hR1 (by omega) (by omega) rfl) q1590 q1592 qs32 q77 q1593 hR1.ob (show vcl[2]? = some (RX3, TX3, 27) from rfl) rfl mdX3_bad rfl (by decide) (by omega) (by omega) (by omega) (Nat.le_of_ble_eq_true rfl) rfl dX3_line_29 (fun v9 σ5 hp9 => ?_) (fun _ _ _ h => False.elim h)
      obtain ⟨rfl, hR4, hf4⟩ := hp9
      replace hR4 : RecAt layM σ5 m ad (va_up I 0 (nI 0)) F L := hR4
      refine v_if_neB (tgt := 63) O dX3_line_32 (by decide) (fun h_32 => ?_) (fun h_32 => ?_)
      · exact absurd h_32 (by decide)
      · refine v_aload_n O dX3_line_35 rfl 0 rfl ?_
        refine v_iload_n O dX3_line_36 rfl 1 rfl ?_
        refine v_iload_n O dX3_line_37 rfl 2 rfl ?_
        refine v_icmp_eqN (tgt := 50) O dX3_line_38 (by decide) (by omega) (by omega) (fun h_38 => ?_) (fun h_38 => ?_)
        · refine v_iconst (v := nI 1) O dX3_line_50 (by decide) ?_
          refine v_goto (tgt := 55) O dX3_line_51 (by decide) ?_
          refine v_iconst (v := nI 2) O dX3_line_55 (by decide) ?_
          refine v_iconst (v := nI 1) O dX3_line_56 (by decide) ?_
          refine v_callV (as := [.int (nI 1), .int (nI 2), .int (nI 1)]) (rest := []) O (c_X3_bad hG (p := true) (w := 2) (r := 1) hR4 (by omega) (by omega) rfl) q1590 q1592 qs32 q77 q1593 hR4.ob (show vcl[2]? = some (RX3, TX3, 27) from rfl) rfl mdX3_bad rfl (by decide) (by omega) (by omega) (by omega) (Nat.le_of_ble_eq_true rfl) rfl dX3_line_57 (fun v9 σ7 hp9 => ?_) (fun _ _ _ h => False.elim h)
          obtain ⟨rfl, hR6, hf6⟩ := hp9
          replace hR6 : RecAt layM σ7 m ad (va_up (va_up I 0 (nI 0)) 0 (nI 2)) (va_up F 1 (va_up (F 1) 1 ((F 1) 1 + nI 1))) L := hR6
          refine v_if_eqB (tgt := 65) O dX3_line_60 (by decide) (fun h_60 => ?_) (fun h_60 => ?_)
          · exact absurd h_60 (by decide)
          · refine v_iconst (v := nI 0) O dX3_line_63 (by decide) ?_
            exact v_iret O rfl dX3_line_64 (by omega) (by omega) (by rw [show opLine S (nI a) (nI b) q = (2, nI 0, refS S 1) from by simp [opLine, h_11, h_19, h_38, cl, nI_clamp (show a < 2 ^ 31 by omega), nI_clamp (show b < 2 ^ 31 by omega), nI_eq (show a < 2 ^ 31 by omega) (show b < 2 ^ 31 by omega)]]; exact ⟨rfl, ⟨ad, _, _, _, hR6, (((hM.thr 0).rf (r := 1) (by omega)).thr 2)⟩, ((hf1.trans hf4).trans hf6)⟩)
        · refine v_iload_n O dX3_line_41 rfl 3 rfl ?_
          refine v_iconst (v := nI 0) O dX3_line_42 (by decide) ?_
          refine v_iconst (v := nI 4) O dX3_line_43 (by decide) ?_
          refine v_callS (as := [.int q, .int (nI 0), .int (nI 4)]) (rest := [.ref m]) O (c_X3_in hG (x := q) (lo := nI 0) (hi := nI 4)) q1587 q1588 q77 q1589 mdX3_in rfl (by decide) (by omega) (by omega) (by omega) (Nat.le_of_ble_eq_true rfl) rfl dX3_line_44 (fun v9 σ9 hp9 => ?_) (fun _ _ _ h => False.elim h)
          obtain ⟨rfl, hs9⟩ := hp9
          obtain rfl := hs9.symm
          refine v_if_neB (tgt := 54) O dX3_line_47 (by decide) (fun h_47 => ?_) (fun h_47 => ?_)
          · have h12 := of_decide_eq_true h_47
            obtain ⟨j, hj, rfl⟩ := nI_of2 (n := 4) (M := nI 4) rfl (Int32.not_lt.mpr h12.1) h12.2
            refine v_iconst (v := nI 0) O dX3_line_54 (by decide) ?_
            refine v_iconst (v := nI 2) O dX3_line_55 (by decide) ?_
            refine v_iconst (v := nI 1) O dX3_line_56 (by decide) ?_
            refine v_callV (as := [.int (nI 0), .int (nI 2), .int (nI 1)]) (rest := []) O (c_X3_bad hG (p := false) (w := 2) (r := 1) hR4 (by omega) (by omega) rfl) q1590 q1592 qs32 q77 q1593 hR4.ob (show vcl[2]? = some (RX3, TX3, 27) from rfl) rfl mdX3_bad rfl (by decide) (by omega) (by omega) (by omega) (Nat.le_of_ble_eq_true rfl) rfl dX3_line_57 (fun v9 σ9 hp9 => ?_) (fun _ _ _ h => False.elim h)
            obtain ⟨rfl, hR8, hf8⟩ := hp9
            replace hR8 : RecAt layM σ9 m ad (va_up I 0 (nI 0)) F L := hR8
            refine v_if_eqB (tgt := 65) O dX3_line_60 (by decide) (fun h_60 => ?_) (fun h_60 => ?_)
            · refine v_aload_n O dX3_line_65 rfl 0 rfl ?_
              refine v_callV (as := []) (rest := []) O (c_X3_lays hG hR8 (hM.thr 0) hS) q1752 q1754 qs57 q77 q1755 hR8.ob (show vcl[2]? = some (RX3, TX3, 27) from rfl) rfl mdX3_lays rfl (by decide) (by omega) (by omega) (by omega) (Nat.le_of_ble_eq_true rfl) rfl dX3_line_66 (fun v9 σ11 hp9 => ?_) (fun _ _ _ h => False.elim h)
              obtain ⟨rfl, I10, F10, L10, hR10, hM10, hl10, hf10⟩ := hp9
              have hE10 : Enc (F10 9) (sN S) := hM10.e9
              refine v_aload_n O dX3_line_69 rfl 0 rfl ?_
              refine v_iload_n O dX3_line_70 rfl 1 rfl ?_
              refine v_iload_n O dX3_line_71 rfl 2 rfl ?_
              refine v_callV (as := [.int (nI a), .int (nI b)]) (rest := []) O (c_X3_weight hG hR10 hE10 (by first | omega | exact hn) (a := a) (b := b) (by omega) (by omega)) q1681 q1683 qs48 q77 q1684 hR10.ob (show vcl[2]? = some (RX3, TX3, 27) from rfl) rfl mdX3_weight rfl (by decide) (by omega) (by omega) (by omega) (Nat.le_of_ble_eq_true rfl) rfl dX3_line_72 (fun v9 σ9 hp9 => ?_) (fun _ _ _ h => False.elim h)
              obtain ⟨rfl, hs9⟩ := hp9
              obtain rfl := hs9.symm
              refine v_iconst (v := (-1)) O dX3_line_75 (by decide) ?_
              refine v_icmp_eq (tgt := 83) O dX3_line_76 (by decide) (fun h_76 => ?_) (fun h_76 => ?_)
              · refine v_iconst (v := nI 0) O dX3_line_83 (by decide) ?_
                rw [bIF' (b := ln (sN S) a b) (by simp [ln, h_76])]
                refine v_istore (lv' := [(4, .int (bI (ln (sN S) a b))), (0, .ref m), (1, .int (nI a)), (2, .int (nI b)), (3, .int (nI j))]) O hN dX3_line_84 (by decide) rfl ?_
                have hr1 := sall_lt (N := sN S) (s := 2 ^ a)
                have hr2 : sd (sd (allN (sN S)) (2 ^ a)) (2 ^ b) < 2 ^ (sN S).1 := restN_lt (a := a) (b := b)
                have hb1 : (dpN (sN S) (sd (sd (allN (sN S)) (2 ^ a)) (2 ^ b))).1 ≤ 12 := (dp_small hS.2.2.2.2.w hn hr2).1
                have hb2 : (topN (sN S)).1 ≤ 12 := (dp_small hS.2.2.2.2.w hn hal).1
                have hb3 : (dpN (sN S) (allN (sN S))).1 ≤ 12 := hb2
                refine v_aload_n O dX3_line_86 rfl 1 rfl ?_
                refine v_callV (as := []) (rest := []) O (c_X3_all hG hR10 hE10 (by first | omega | exact hn)) q1756 q1758 qs58 q77 q1759 hR10.ob (show vcl[2]? = some (RX3, TX3, 27) from rfl) rfl mdX3_all rfl (by decide) (by omega) (by omega) (by omega) (Nat.le_of_ble_eq_true rfl) rfl dX3_line_87 (fun v9 σ9 hp9 => ?_) (fun _ _ _ h => False.elim h)
                obtain ⟨rfl, hs9⟩ := hp9
                obtain rfl := hs9.symm
                refine v_iconst (v := nI 1) O dX3_line_90 (by decide) ?_
                refine v_iload_n O dX3_line_91 rfl 2 rfl ?_
                refine v_ishl (z := nI (2 ^ a)) O dX3_line_92 (bx_shl1 (by omega)) ?_
                refine v_iconst (v := (-1)) O dX3_line_93 (by decide) ?_
                refine v_ixor (z := nI (2 ^ a) ^^^ -1) O dX3_line_94 rfl ?_
                refine v_iand (z := nI (sd (allN (sN S)) (2 ^ a))) O dX3_line_95 (bx_sd (by omega) (by first | omega | exact Nat.pow_lt_pow_right (by omega) (by omega))) ?_
                refine v_iconst (v := nI 1) O dX3_line_96 (by decide) ?_
                refine v_iload_n O dX3_line_97 rfl 3 rfl ?_
                refine v_ishl (z := nI (2 ^ b)) O dX3_line_98 (bx_shl1 (by omega)) ?_
                refine v_iconst (v := (-1)) O dX3_line_99 (by decide) ?_
                refine v_ixor (z := nI (2 ^ b) ^^^ -1) O dX3_line_100 rfl ?_
                refine v_iand (z := nI (sd (sd (allN (sN S)) (2 ^ a)) (2 ^ b))) O dX3_line_101 (bx_sd (by omega) (by first | omega | exact Nat.pow_lt_pow_right (by omega) (by omega))) ?_
                refine v_istore (lv' := [(5, .int (nI (sd (sd (allN (sN S)) (2 ^ a)) (2 ^ b)))), (4, .int (bI (ln (sN S) a b))), (0, .ref m), (1, .int (nI a)), (2, .int (nI b)), (3, .int (nI j))]) O hN dX3_line_102 (by decide) rfl ?_
                refine v_iload O dX3_line_104 1 rfl ?_
                refine v_if_eqB (tgt := 134) O dX3_line_106 (by decide) (fun h_106 => ?_) (fun h_106 => ?_)
                · refine v_iconst (v := nI 0) O dX3_line_134 (by decide) ?_
                  rw [bIF' (b := someN (sN S) a b) (by simp [someN, h_106])]
                  refine v_istore (lv' := [(6, .int (bI (someN (sN S) a b))), (5, .int (nI (sd (sd (allN (sN S)) (2 ^ a)) (2 ^ b)))), (4, .int (bI (ln (sN S) a b))), (0, .ref m), (1, .int (nI a)), (2, .int (nI b)), (3, .int (nI j))]) O hN dX3_line_135 (by decide) rfl ?_
                  refine v_iload_n O dX3_line_137 rfl 6 rfl ?_
                  by_cases hs_0 : j = 0
                  · refine v_tableIn (off := 30) (tgt := 168) O dX3_line_138 (by rw [hs_0]; decide) (by rw [hs_0]; decide) (by rw [hs_0]; rfl) (by decide) ?_
                    refine v_iload O dX3_line_168 2 rfl ?_
                    refine v_if_eqB (tgt := 177) O dX3_line_170 (by decide) (fun h_170 => ?_) (fun h_170 => ?_)
                    · refine v_iconst (v := nI 0) O dX3_line_177 (by decide) ?_
                      exact v_iret O rfl dX3_line_178 (by omega) (by omega) (by rw [show opLine S (nI a) (nI b) (nI j) = (0, lineV (sN S) a b (nI j), S) from by simp [opLine, h_11, h_19, h_38, h_47, cl, nI_clamp (show a < 2 ^ 31 by omega), nI_clamp (show b < 2 ^ 31 by omega), nI_eq (show a < 2 ^ 31 by omega) (show b < 2 ^ 31 by omega)]]; exact ⟨(by subst hs_0; rw [lineV, if_pos rfl]; exact bIF h_170), ⟨ad, _, _, _, hR10, hM10⟩, (((hf1.trans hf4).trans hf8).trans hf10)⟩)
                    · refine v_iconst (v := nI 1) O dX3_line_173 (by decide) ?_
                      refine v_goto (tgt := 178) O dX3_line_174 (by decide) ?_
                      exact v_iret O rfl dX3_line_178 (by omega) (by omega) (by rw [show opLine S (nI a) (nI b) (nI j) = (0, lineV (sN S) a b (nI j), S) from by simp [opLine, h_11, h_19, h_38, h_47, cl, nI_clamp (show a < 2 ^ 31 by omega), nI_clamp (show b < 2 ^ 31 by omega), nI_eq (show a < 2 ^ 31 by omega) (show b < 2 ^ 31 by omega)]]; exact ⟨(by subst hs_0; rw [lineV, if_pos rfl]; exact bIT h_170), ⟨ad, _, _, _, hR10, hM10⟩, (((hf1.trans hf4).trans hf8).trans hf10)⟩)
                  by_cases hs_1 : j = 1
                  · refine v_tableIn (off := 41) (tgt := 179) O dX3_line_138 (by rw [hs_1]; decide) (by rw [hs_1]; decide) (by rw [hs_1]; rfl) (by decide) ?_
                    refine v_aload_n O dX3_line_179 rfl 3 rfl ?_
                    refine v_iload_n O dX3_line_180 rfl 4 rfl ?_
                    refine v_iload_n O dX3_line_181 rfl 5 rfl ?_
                    refine v_callV (as := [.int (nI a), .int (nI b)]) (rest := []) O (c_X3_weight hG hR10 hE10 (by first | omega | exact hn) (a := a) (b := b) (by omega) (by omega)) q1681 q1683 qs48 q77 q1684 hR10.ob (show vcl[2]? = some (RX3, TX3, 27) from rfl) rfl mdX3_weight rfl (by decide) (by omega) (by omega) (by omega) (Nat.le_of_ble_eq_true rfl) rfl dX3_line_182 (fun v9 σ9 hp9 => ?_) (fun _ _ _ h => False.elim h)
                    obtain ⟨rfl, hs9⟩ := hp9
                    obtain rfl := hs9.symm
                    exact v_iret O rfl dX3_line_185 (by omega) (by omega) (by rw [show opLine S (nI a) (nI b) (nI j) = (0, lineV (sN S) a b (nI j), S) from by simp [opLine, h_11, h_19, h_38, h_47, cl, nI_clamp (show a < 2 ^ 31 by omega), nI_clamp (show b < 2 ^ 31 by omega), nI_eq (show a < 2 ^ 31 by omega) (show b < 2 ^ 31 by omega)]]; exact ⟨(by subst hs_1; rw [lineV, if_neg (by decide), if_pos rfl]), ⟨ad, _, _, _, hR10, hM10⟩, (((hf1.trans hf4).trans hf8).trans hf10)⟩)
                  by_cases hs_2 : j = 2
                  · refine v_tableIn (off := 48) (tgt := 186) O dX3_line_138 (by rw [hs_2]; decide) (by rw [hs_2]; decide) (by rw [hs_2]; rfl) (by decide) ?_
                    refine v_aload_n O dX3_line_186 rfl 3 rfl ?_
                    refine v_iload_n O dX3_line_187 rfl 4 rfl ?_
                    refine v_callV (as := [.int (nI a)]) (rest := []) O (c_X3_mate hG hR10 hE10 (by first | omega | exact hn) (a := a) (by omega)) q1705 q1707 qs50 q77 q1708 hR10.ob (show vcl[2]? = some (RX3, TX3, 27) from rfl) rfl mdX3_mate rfl (by decide) (by omega) (by omega) (by omega) (Nat.le_of_ble_eq_true rfl) rfl dX3_line_188 (fun v9 σ9 hp9 => ?_) (fun _ _ _ h => False.elim h)
                    obtain ⟨rfl, hs9⟩ := hp9
                    obtain rfl := hs9.symm
                    refine v_iload_n O dX3_line_191 rfl 5 rfl ?_
                    refine v_icmp_ne (tgt := 199) O dX3_line_192 (by decide) (fun h_192 => ?_) (fun h_192 => ?_)
                    · refine v_iconst (v := nI 0) O dX3_line_199 (by decide) ?_
                      exact v_iret O rfl dX3_line_200 (by omega) (by omega) (by rw [show opLine S (nI a) (nI b) (nI j) = (0, lineV (sN S) a b (nI j), S) from by simp [opLine, h_11, h_19, h_38, h_47, cl, nI_clamp (show a < 2 ^ 31 by omega), nI_clamp (show b < 2 ^ 31 by omega), nI_eq (show a < 2 ^ 31 by omega) (show b < 2 ^ 31 by omega)]]; exact ⟨(by subst hs_2; rw [lineV, if_neg (by decide), if_neg (by decide), if_pos rfl]; exact bIF (by simp [h_192])), ⟨ad, _, _, _, hR10, hM10⟩, (((hf1.trans hf4).trans hf8).trans hf10)⟩)
                    · refine v_iconst (v := nI 1) O dX3_line_195 (by decide) ?_
                      refine v_goto (tgt := 200) O dX3_line_196 (by decide) ?_
                      exact v_iret O rfl dX3_line_200 (by omega) (by omega) (by rw [show opLine S (nI a) (nI b) (nI j) = (0, lineV (sN S) a b (nI j), S) from by simp [opLine, h_11, h_19, h_38, h_47, cl, nI_clamp (show a < 2 ^ 31 by omega), nI_clamp (show b < 2 ^ 31 by omega), nI_eq (show a < 2 ^ 31 by omega) (show b < 2 ^ 31 by omega)]]; exact ⟨(by subst hs_2; rw [lineV, if_neg (by decide), if_neg (by decide), if_pos rfl]; exact bIT (by simp [h_192])), ⟨ad, _, _, _, hR10, hM10⟩, (((hf1.trans hf4).trans hf8).trans hf10)⟩)
                  by_cases hs_3 : j = 3
                  · refine v_tableIn (off := 63) (tgt := 201) O dX3_line_138 (by rw [hs_3]; decide) (by rw [hs_3]; decide) (by rw [hs_3]; rfl) (by decide) ?_
                    refine v_iload O dX3_line_201 0 rfl ?_
                    refine v_if_eqB (tgt := 210) O dX3_line_203 (by decide) (fun h_203 => ?_) (fun h_203 => ?_)
                    · refine v_iconst (v := nI 0) O dX3_line_210 (by decide) ?_
                      exact v_iret O rfl dX3_line_211 (by omega) (by omega) (by rw [show opLine S (nI a) (nI b) (nI j) = (0, lineV (sN S) a b (nI j), S) from by simp [opLine, h_11, h_19, h_38, h_47, cl, nI_clamp (show a < 2 ^ 31 by omega), nI_clamp (show b < 2 ^ 31 by omega), nI_eq (show a < 2 ^ 31 by omega) (show b < 2 ^ 31 by omega)]]; exact ⟨(by subst hs_3; rw [lineV, if_neg (by decide), if_neg (by decide), if_neg (by decide), if_pos rfl]; exact bIF h_203), ⟨ad, _, _, _, hR10, hM10⟩, (((hf1.trans hf4).trans hf8).trans hf10)⟩)
                    · refine v_iconst (v := nI 1) O dX3_line_206 (by decide) ?_
                      refine v_goto (tgt := 211) O dX3_line_207 (by decide) ?_
                      exact v_iret O rfl dX3_line_211 (by omega) (by omega) (by rw [show opLine S (nI a) (nI b) (nI j) = (0, lineV (sN S) a b (nI j), S) from by simp [opLine, h_11, h_19, h_38, h_47, cl, nI_clamp (show a < 2 ^ 31 by omega), nI_clamp (show b < 2 ^ 31 by omega), nI_eq (show a < 2 ^ 31 by omega) (show b < 2 ^ 31 by omega)]]; exact ⟨(by subst hs_3; rw [lineV, if_neg (by decide), if_neg (by decide), if_neg (by decide), if_pos rfl]; exact bIT h_203), ⟨ad, _, _, _, hR10, hM10⟩, (((hf1.trans hf4).trans hf8).trans hf10)⟩)
                  refine v_tableOut (tgt := 212) O dX3_line_138 (Or.inr (by rw [nI_toInt (by omega)]; omega)) (by decide) ?_
                  refine v_iload O dX3_line_212 0 rfl ?_
                  refine v_if_eqB (tgt := 241) O dX3_line_214 (by decide) (fun h_214 => ?_) (fun h_214 => ?_)
                  · refine v_iconst (v := nI 0) O dX3_line_241 (by decide) ?_
                    exact v_iret O rfl dX3_line_242 (by omega) (by omega) (by rw [show opLine S (nI a) (nI b) (nI j) = (0, lineV (sN S) a b (nI j), S) from by simp [opLine, h_11, h_19, h_38, h_47, cl, nI_clamp (show a < 2 ^ 31 by omega), nI_clamp (show b < 2 ^ 31 by omega), nI_eq (show a < 2 ^ 31 by omega) (show b < 2 ^ 31 by omega)]]; exact ⟨(by obtain rfl : j = 4 := (by omega); rw [lineV, if_neg (by decide), if_neg (by decide), if_neg (by decide), if_neg (by decide)]; exact bIF (by simp [h_214])), ⟨ad, _, _, _, hR10, hM10⟩, (((hf1.trans hf4).trans hf8).trans hf10)⟩)
                  · refine v_aload_n O dX3_line_217 rfl 3 rfl ?_
                    refine v_getf (C := RX3) (T := TX3) (N := 27) (v := .ref (ad 18)) O in_X3 hR10.ob rfl 18 (by decide) rfl q1510 rfl dX3_line_218 ?_
                    refine v_iload O dX3_line_221 1 rfl ?_
                    refine v_lald (f := L10 18) O (hR10.lg 18 rfl) (by omega) (by omega) dX3_line_223 ?_
                    refine v_topl (y := lN (dpN (sN S) (sd (sd (allN (sN S)) (2 ^ a)) (2 ^ b))).2.1) (hl10 _ (by first | omega | exact sall_lt | exact restN_lt)).2.1 ?_
                    refine v_aload_n O dX3_line_224 rfl 3 rfl ?_
                    refine v_getf (C := RX3) (T := TX3) (N := 27) (v := .ref (ad 18)) O in_X3 hR10.ob rfl 18 (by decide) rfl q1510 rfl dX3_line_225 ?_
                    refine v_aload_n O dX3_line_228 rfl 3 rfl ?_
                    refine v_callV (as := []) (rest := [.ref (ad 18), .long (lN (dpN (sN S) (sd (sd (allN (sN S)) (2 ^ a)) (2 ^ b))).2.1)]) O (c_X3_all hG hR10 hE10 (by first | omega | exact hn)) q1756 q1758 qs58 q77 q1759 hR10.ob (show vcl[2]? = some (RX3, TX3, 27) from rfl) rfl mdX3_all rfl (by decide) (by omega) (by omega) (by omega) (Nat.le_of_ble_eq_true rfl) rfl dX3_line_229 (fun v9 σ9 hp9 => ?_) (fun _ _ _ h => False.elim h)
                    obtain ⟨rfl, hs9⟩ := hp9
                    obtain rfl := hs9.symm
                    refine v_lald (f := L10 18) O (hR10.lg 18 rfl) (by omega) (by omega) dX3_line_232 ?_
                    refine v_topl (y := lN (dpN (sN S) (allN (sN S))).2.1) (hl10 _ (by first | omega | exact sall_lt | exact restN_lt)).2.1 ?_
                    refine v_lcmp (z := lg_cmp (lN (dpN (sN S) (restN (sN S) a b)).2.1) (lN (topN (sN S)).2.1)) O dX3_line_233 rfl ?_
                    have hw1 := (dp_small hS.2.2.2.2.w hn (restN_lt (N := sN S) (a := a) (b := b))).2.1
                    have hw2 := (dp_small hS.2.2.2.2.w hn hal).2.1
                    have hcm : lg_cmp (lN (dpN (sN S) (restN (sN S) a b)).2.1) (lN (topN (sN S)).2.1) = 0 ↔ (dpN (sN S) (restN (sN S) a b)).2.1 = (topN (sN S)).2.1 := lg_cmp0 hw1 hw2
                    refine v_if_ne (tgt := 241) O dX3_line_234 (by decide) (fun h_234 => ?_) (fun h_234 => ?_)
                    · rw [hcm] at h_234
                      refine v_iconst (v := nI 0) O dX3_line_241 (by decide) ?_
                      exact v_iret O rfl dX3_line_242 (by omega) (by omega) (by rw [show opLine S (nI a) (nI b) (nI j) = (0, lineV (sN S) a b (nI j), S) from by simp [opLine, h_11, h_19, h_38, h_47, cl, nI_clamp (show a < 2 ^ 31 by omega), nI_clamp (show b < 2 ^ 31 by omega), nI_eq (show a < 2 ^ 31 by omega) (show b < 2 ^ 31 by omega)]]; exact ⟨(by obtain rfl : j = 4 := (by omega); rw [lineV, if_neg (by decide), if_neg (by decide), if_neg (by decide), if_neg (by decide)]; exact bIF (by simp [h_214, h_234])), ⟨ad, _, _, _, hR10, hM10⟩, (((hf1.trans hf4).trans hf8).trans hf10)⟩)
                    · rw [hcm] at h_234
                      refine v_iconst (v := nI 1) O dX3_line_237 (by decide) ?_
                      refine v_goto (tgt := 242) O dX3_line_238 (by decide) ?_
                      exact v_iret O rfl dX3_line_242 (by omega) (by omega) (by rw [show opLine S (nI a) (nI b) (nI j) = (0, lineV (sN S) a b (nI j), S) from by simp [opLine, h_11, h_19, h_38, h_47, cl, nI_clamp (show a < 2 ^ 31 by omega), nI_clamp (show b < 2 ^ 31 by omega), nI_eq (show a < 2 ^ 31 by omega) (show b < 2 ^ 31 by omega)]]; exact ⟨(by obtain rfl : j = 4 := (by omega); rw [lineV, if_neg (by decide), if_neg (by decide), if_neg (by decide), if_neg (by decide)]; exact bIT (by simp [h_214, h_234])), ⟨ad, _, _, _, hR10, hM10⟩, (((hf1.trans hf4).trans hf8).trans hf10)⟩)
                · refine v_aload_n O dX3_line_109 rfl 2 rfl ?_
                  refine v_getf (C := RX3) (T := TX3) (N := 27) (v := .ref (ad 15)) O in_X3 hR10.ob rfl 15 (by decide) rfl q1507 rfl dX3_line_110 ?_
                  refine v_iload O dX3_line_113 0 rfl ?_
                  refine v_iald (f := F10 15) O (hR10.ar 15 rfl) (by omega) (by omega) dX3_line_115 ?_
                  refine v_top (y := nI ((dpN (sN S) (sd (sd (allN (sN S)) (2 ^ a)) (2 ^ b))).1)) (hl10 _ (by first | omega | exact sall_lt | exact restN_lt)).1 ?_
                  refine v_iconst (v := nI 1) O dX3_line_116 (by decide) ?_
                  refine v_iadd (z := nI (((dpN (sN S) (sd (sd (allN (sN S)) (2 ^ a)) (2 ^ b))).1) + 1)) O dX3_line_117 (nI_add ((dpN (sN S) (sd (sd (allN (sN S)) (2 ^ a)) (2 ^ b))).1) 1) ?_
                  refine v_aload_n O dX3_line_118 rfl 2 rfl ?_
                  refine v_getf (C := RX3) (T := TX3) (N := 27) (v := .ref (ad 15)) O in_X3 hR10.ob rfl 15 (by decide) rfl q1507 rfl dX3_line_119 ?_
                  refine v_aload_n O dX3_line_122 rfl 2 rfl ?_
                  refine v_callV (as := []) (rest := [.ref (ad 15), .int (nI (((dpN (sN S) (sd (sd (allN (sN S)) (2 ^ a)) (2 ^ b))).1) + 1))]) O (c_X3_all hG hR10 hE10 (by first | omega | exact hn)) q1756 q1758 qs58 q77 q1759 hR10.ob (show vcl[2]? = some (RX3, TX3, 27) from rfl) rfl mdX3_all rfl (by decide) (by omega) (by omega) (by omega) (Nat.le_of_ble_eq_true rfl) rfl dX3_line_123 (fun v9 σ9 hp9 => ?_) (fun _ _ _ h => False.elim h)
                  obtain ⟨rfl, hs9⟩ := hp9
                  obtain rfl := hs9.symm
                  refine v_iald (f := F10 15) O (hR10.ar 15 rfl) (by omega) (by omega) dX3_line_126 ?_
                  refine v_top (y := nI ((dpN (sN S) (allN (sN S))).1)) (hl10 _ (by first | omega | exact sall_lt | exact restN_lt)).1 ?_
                  refine v_icmp_neN (tgt := 134) O dX3_line_127 (by decide) (by omega) (by omega) (fun h_127 => ?_) (fun h_127 => ?_)
                  · refine v_iconst (v := nI 0) O dX3_line_134 (by decide) ?_
                    rw [bIF' (b := someN (sN S) a b) (by simp [someN, h_106, restN, h_127])]
                    refine v_istore (lv' := [(6, .int (bI (someN (sN S) a b))), (5, .int (nI (sd (sd (allN (sN S)) (2 ^ a)) (2 ^ b)))), (4, .int (bI (ln (sN S) a b))), (0, .ref m), (1, .int (nI a)), (2, .int (nI b)), (3, .int (nI j))]) O hN dX3_line_135 (by decide) rfl ?_
                    refine v_iload_n O dX3_line_137 rfl 6 rfl ?_
                    by_cases hs_0 : j = 0
                    · refine v_tableIn (off := 30) (tgt := 168) O dX3_line_138 (by rw [hs_0]; decide) (by rw [hs_0]; decide) (by rw [hs_0]; rfl) (by decide) ?_
                      refine v_iload O dX3_line_168 2 rfl ?_
                      refine v_if_eqB (tgt := 177) O dX3_line_170 (by decide) (fun h_170 => ?_) (fun h_170 => ?_)
                      · refine v_iconst (v := nI 0) O dX3_line_177 (by decide) ?_
                        exact v_iret O rfl dX3_line_178 (by omega) (by omega) (by rw [show opLine S (nI a) (nI b) (nI j) = (0, lineV (sN S) a b (nI j), S) from by simp [opLine, h_11, h_19, h_38, h_47, cl, nI_clamp (show a < 2 ^ 31 by omega), nI_clamp (show b < 2 ^ 31 by omega), nI_eq (show a < 2 ^ 31 by omega) (show b < 2 ^ 31 by omega)]]; exact ⟨(by subst hs_0; rw [lineV, if_pos rfl]; exact bIF h_170), ⟨ad, _, _, _, hR10, hM10⟩, (((hf1.trans hf4).trans hf8).trans hf10)⟩)
                      · refine v_iconst (v := nI 1) O dX3_line_173 (by decide) ?_
                        refine v_goto (tgt := 178) O dX3_line_174 (by decide) ?_
                        exact v_iret O rfl dX3_line_178 (by omega) (by omega) (by rw [show opLine S (nI a) (nI b) (nI j) = (0, lineV (sN S) a b (nI j), S) from by simp [opLine, h_11, h_19, h_38, h_47, cl, nI_clamp (show a < 2 ^ 31 by omega), nI_clamp (show b < 2 ^ 31 by omega), nI_eq (show a < 2 ^ 31 by omega) (show b < 2 ^ 31 by omega)]]; exact ⟨(by subst hs_0; rw [lineV, if_pos rfl]; exact bIT h_170), ⟨ad, _, _, _, hR10, hM10⟩, (((hf1.trans hf4).trans hf8).trans hf10)⟩)
                    by_cases hs_1 : j = 1
                    · refine v_tableIn (off := 41) (tgt := 179) O dX3_line_138 (by rw [hs_1]; decide) (by rw [hs_1]; decide) (by rw [hs_1]; rfl) (by decide) ?_
                      refine v_aload_n O dX3_line_179 rfl 3 rfl ?_
                      refine v_iload_n O dX3_line_180 rfl 4 rfl ?_
                      refine v_iload_n O dX3_line_181 rfl 5 rfl ?_
                      refine v_callV (as := [.int (nI a), .int (nI b)]) (rest := []) O (c_X3_weight hG hR10 hE10 (by first | omega | exact hn) (a := a) (b := b) (by omega) (by omega)) q1681 q1683 qs48 q77 q1684 hR10.ob (show vcl[2]? = some (RX3, TX3, 27) from rfl) rfl mdX3_weight rfl (by decide) (by omega) (by omega) (by omega) (Nat.le_of_ble_eq_true rfl) rfl dX3_line_182 (fun v9 σ9 hp9 => ?_) (fun _ _ _ h => False.elim h)
                      obtain ⟨rfl, hs9⟩ := hp9
                      obtain rfl := hs9.symm
                      exact v_iret O rfl dX3_line_185 (by omega) (by omega) (by rw [show opLine S (nI a) (nI b) (nI j) = (0, lineV (sN S) a b (nI j), S) from by simp [opLine, h_11, h_19, h_38, h_47, cl, nI_clamp (show a < 2 ^ 31 by omega), nI_clamp (show b < 2 ^ 31 by omega), nI_eq (show a < 2 ^ 31 by omega) (show b < 2 ^ 31 by omega)]]; exact ⟨(by subst hs_1; rw [lineV, if_neg (by decide), if_pos rfl]), ⟨ad, _, _, _, hR10, hM10⟩, (((hf1.trans hf4).trans hf8).trans hf10)⟩)
                    by_cases hs_2 : j = 2
                    · refine v_tableIn (off := 48) (tgt := 186) O dX3_line_138 (by rw [hs_2]; decide) (by rw [hs_2]; decide) (by rw [hs_2]; rfl) (by decide) ?_
                      refine v_aload_n O dX3_line_186 rfl 3 rfl ?_
                      refine v_iload_n O dX3_line_187 rfl 4 rfl ?_
                      refine v_callV (as := [.int (nI a)]) (rest := []) O (c_X3_mate hG hR10 hE10 (by first | omega | exact hn) (a := a) (by omega)) q1705 q1707 qs50 q77 q1708 hR10.ob (show vcl[2]? = some (RX3, TX3, 27) from rfl) rfl mdX3_mate rfl (by decide) (by omega) (by omega) (by omega) (Nat.le_of_ble_eq_true rfl) rfl dX3_line_188 (fun v9 σ9 hp9 => ?_) (fun _ _ _ h => False.elim h)
                      obtain ⟨rfl, hs9⟩ := hp9
                      obtain rfl := hs9.symm
                      refine v_iload_n O dX3_line_191 rfl 5 rfl ?_
                      refine v_icmp_ne (tgt := 199) O dX3_line_192 (by decide) (fun h_192 => ?_) (fun h_192 => ?_)
                      · refine v_iconst (v := nI 0) O dX3_line_199 (by decide) ?_
                        exact v_iret O rfl dX3_line_200 (by omega) (by omega) (by rw [show opLine S (nI a) (nI b) (nI j) = (0, lineV (sN S) a b (nI j), S) from by simp [opLine, h_11, h_19, h_38, h_47, cl, nI_clamp (show a < 2 ^ 31 by omega), nI_clamp (show b < 2 ^ 31 by omega), nI_eq (show a < 2 ^ 31 by omega) (show b < 2 ^ 31 by omega)]]; exact ⟨(by subst hs_2; rw [lineV, if_neg (by decide), if_neg (by decide), if_pos rfl]; exact bIF (by simp [h_192])), ⟨ad, _, _, _, hR10, hM10⟩, (((hf1.trans hf4).trans hf8).trans hf10)⟩)
                      · refine v_iconst (v := nI 1) O dX3_line_195 (by decide) ?_
                        refine v_goto (tgt := 200) O dX3_line_196 (by decide) ?_
                        exact v_iret O rfl dX3_line_200 (by omega) (by omega) (by rw [show opLine S (nI a) (nI b) (nI j) = (0, lineV (sN S) a b (nI j), S) from by simp [opLine, h_11, h_19, h_38, h_47, cl, nI_clamp (show a < 2 ^ 31 by omega), nI_clamp (show b < 2 ^ 31 by omega), nI_eq (show a < 2 ^ 31 by omega) (show b < 2 ^ 31 by omega)]]; exact ⟨(by subst hs_2; rw [lineV, if_neg (by decide), if_neg (by decide), if_pos rfl]; exact bIT (by simp [h_192])), ⟨ad, _, _, _, hR10, hM10⟩, (((hf1.trans hf4).trans hf8).trans hf10)⟩)
                    by_cases hs_3 : j = 3
                    · refine v_tableIn (off := 63) (tgt := 201) O dX3_line_138 (by rw [hs_3]; decide) (by rw [hs_3]; decide) (by rw [hs_3]; rfl) (by decide) ?_
                      refine v_iload O dX3_line_201 0 rfl ?_
                      refine v_if_eqB (tgt := 210) O dX3_line_203 (by decide) (fun h_203 => ?_) (fun h_203 => ?_)
                      · refine v_iconst (v := nI 0) O dX3_line_210 (by decide) ?_
                        exact v_iret O rfl dX3_line_211 (by omega) (by omega) (by rw [show opLine S (nI a) (nI b) (nI j) = (0, lineV (sN S) a b (nI j), S) from by simp [opLine, h_11, h_19, h_38, h_47, cl, nI_clamp (show a < 2 ^ 31 by omega), nI_clamp (show b < 2 ^ 31 by omega), nI_eq (show a < 2 ^ 31 by omega) (show b < 2 ^ 31 by omega)]]; exact ⟨(by subst hs_3; rw [lineV, if_neg (by decide), if_neg (by decide), if_neg (by decide), if_pos rfl]; exact bIF h_203), ⟨ad, _, _, _, hR10, hM10⟩, (((hf1.trans hf4).trans hf8).trans hf10)⟩)
                      · refine v_iconst (v := nI 1) O dX3_line_206 (by decide) ?_
                        refine v_goto (tgt := 211) O dX3_line_207 (by decide) ?_
                        exact v_iret O rfl dX3_line_211 (by omega) (by omega) (by rw [show opLine S (nI a) (nI b) (nI j) = (0, lineV (sN S) a b (nI j), S) from by simp [opLine, h_11, h_19, h_38, h_47, cl, nI_clamp (show a < 2 ^ 31 by omega), nI_clamp (show b < 2 ^ 31 by omega), nI_eq (show a < 2 ^ 31 by omega) (show b < 2 ^ 31 by omega)]]; exact ⟨(by subst hs_3; rw [lineV, if_neg (by decide), if_neg (by decide), if_neg (by decide), if_pos rfl]; exact bIT h_203), ⟨ad, _, _, _, hR10, hM10⟩, (((hf1.trans hf4).trans hf8).trans hf10)⟩)
                    refine v_tableOut (tgt := 212) O dX3_line_138 (Or.inr (by rw [nI_toInt (by omega)]; omega)) (by decide) ?_
                    refine v_iload O dX3_line_212 0 rfl ?_
                    refine v_if_eqB (tgt := 241) O dX3_line_214 (by decide) (fun h_214 => ?_) (fun h_214 => ?_)
                    · refine v_iconst (v := nI 0) O dX3_line_241 (by decide) ?_
                      exact v_iret O rfl dX3_line_242 (by omega) (by omega) (by rw [show opLine S (nI a) (nI b) (nI j) = (0, lineV (sN S) a b (nI j), S) from by simp [opLine, h_11, h_19, h_38, h_47, cl, nI_clamp (show a < 2 ^ 31 by omega), nI_clamp (show b < 2 ^ 31 by omega), nI_eq (show a < 2 ^ 31 by omega) (show b < 2 ^ 31 by omega)]]; exact ⟨(by obtain rfl : j = 4 := (by omega); rw [lineV, if_neg (by decide), if_neg (by decide), if_neg (by decide), if_neg (by decide)]; exact bIF (by simp [h_214])), ⟨ad, _, _, _, hR10, hM10⟩, (((hf1.trans hf4).trans hf8).trans hf10)⟩)
                    · refine v_aload_n O dX3_line_217 rfl 3 rfl ?_
                      refine v_getf (C := RX3) (T := TX3) (N := 27) (v := .ref (ad 18)) O in_X3 hR10.ob rfl 18 (by decide) rfl q1510 rfl dX3_line_218 ?_
                      refine v_iload O dX3_line_221 1 rfl ?_
                      refine v_lald (f := L10 18) O (hR10.lg 18 rfl) (by omega) (by omega) dX3_line_223 ?_
                      refine v_topl (y := lN (dpN (sN S) (sd (sd (allN (sN S)) (2 ^ a)) (2 ^ b))).2.1) (hl10 _ (by first | omega | exact sall_lt | exact restN_lt)).2.1 ?_
                      refine v_aload_n O dX3_line_224 rfl 3 rfl ?_
                      refine v_getf (C := RX3) (T := TX3) (N := 27) (v := .ref (ad 18)) O in_X3 hR10.ob rfl 18 (by decide) rfl q1510 rfl dX3_line_225 ?_
                      refine v_aload_n O dX3_line_228 rfl 3 rfl ?_
                      refine v_callV (as := []) (rest := [.ref (ad 18), .long (lN (dpN (sN S) (sd (sd (allN (sN S)) (2 ^ a)) (2 ^ b))).2.1)]) O (c_X3_all hG hR10 hE10 (by first | omega | exact hn)) q1756 q1758 qs58 q77 q1759 hR10.ob (show vcl[2]? = some (RX3, TX3, 27) from rfl) rfl mdX3_all rfl (by decide) (by omega) (by omega) (by omega) (Nat.le_of_ble_eq_true rfl) rfl dX3_line_229 (fun v9 σ9 hp9 => ?_) (fun _ _ _ h => False.elim h)
                      obtain ⟨rfl, hs9⟩ := hp9
                      obtain rfl := hs9.symm
                      refine v_lald (f := L10 18) O (hR10.lg 18 rfl) (by omega) (by omega) dX3_line_232 ?_
                      refine v_topl (y := lN (dpN (sN S) (allN (sN S))).2.1) (hl10 _ (by first | omega | exact sall_lt | exact restN_lt)).2.1 ?_
                      refine v_lcmp (z := lg_cmp (lN (dpN (sN S) (restN (sN S) a b)).2.1) (lN (topN (sN S)).2.1)) O dX3_line_233 rfl ?_
                      have hw1 := (dp_small hS.2.2.2.2.w hn (restN_lt (N := sN S) (a := a) (b := b))).2.1
                      have hw2 := (dp_small hS.2.2.2.2.w hn hal).2.1
                      have hcm : lg_cmp (lN (dpN (sN S) (restN (sN S) a b)).2.1) (lN (topN (sN S)).2.1) = 0 ↔ (dpN (sN S) (restN (sN S) a b)).2.1 = (topN (sN S)).2.1 := lg_cmp0 hw1 hw2
                      refine v_if_ne (tgt := 241) O dX3_line_234 (by decide) (fun h_234 => ?_) (fun h_234 => ?_)
                      · rw [hcm] at h_234
                        refine v_iconst (v := nI 0) O dX3_line_241 (by decide) ?_
                        exact v_iret O rfl dX3_line_242 (by omega) (by omega) (by rw [show opLine S (nI a) (nI b) (nI j) = (0, lineV (sN S) a b (nI j), S) from by simp [opLine, h_11, h_19, h_38, h_47, cl, nI_clamp (show a < 2 ^ 31 by omega), nI_clamp (show b < 2 ^ 31 by omega), nI_eq (show a < 2 ^ 31 by omega) (show b < 2 ^ 31 by omega)]]; exact ⟨(by obtain rfl : j = 4 := (by omega); rw [lineV, if_neg (by decide), if_neg (by decide), if_neg (by decide), if_neg (by decide)]; exact bIF (by simp [h_214, h_234])), ⟨ad, _, _, _, hR10, hM10⟩, (((hf1.trans hf4).trans hf8).trans hf10)⟩)
                      · rw [hcm] at h_234
                        refine v_iconst (v := nI 1) O dX3_line_237 (by decide) ?_
                        refine v_goto (tgt := 242) O dX3_line_238 (by decide) ?_
                        exact v_iret O rfl dX3_line_242 (by omega) (by omega) (by rw [show opLine S (nI a) (nI b) (nI j) = (0, lineV (sN S) a b (nI j), S) from by simp [opLine, h_11, h_19, h_38, h_47, cl, nI_clamp (show a < 2 ^ 31 by omega), nI_clamp (show b < 2 ^ 31 by omega), nI_eq (show a < 2 ^ 31 by omega) (show b < 2 ^ 31 by omega)]]; exact ⟨(by obtain rfl : j = 4 := (by omega); rw [lineV, if_neg (by decide), if_neg (by decide), if_neg (by decide), if_neg (by decide)]; exact bIT (by simp [h_214, h_234])), ⟨ad, _, _, _, hR10, hM10⟩, (((hf1.trans hf4).trans hf8).trans hf10)⟩)
                  · refine v_iconst (v := nI 1) O dX3_line_130 (by decide) ?_
                    refine v_goto (tgt := 135) O dX3_line_131 (by decide) ?_
                    rw [bIT' (b := someN (sN S) a b) (by simp [someN, h_106, restN, h_127])]
                    refine v_istore (lv' := [(6, .int (bI (someN (sN S) a b))), (5, .int (nI (sd (sd (allN (sN S)) (2 ^ a)) (2 ^ b)))), (4, .int (bI (ln (sN S) a b))), (0, .ref m), (1, .int (nI a)), (2, .int (nI b)), (3, .int (nI j))]) O hN dX3_line_135 (by decide) rfl ?_
                    refine v_iload_n O dX3_line_137 rfl 6 rfl ?_
                    by_cases hs_0 : j = 0
                    · refine v_tableIn (off := 30) (tgt := 168) O dX3_line_138 (by rw [hs_0]; decide) (by rw [hs_0]; decide) (by rw [hs_0]; rfl) (by decide) ?_
                      refine v_iload O dX3_line_168 2 rfl ?_
                      refine v_if_eqB (tgt := 177) O dX3_line_170 (by decide) (fun h_170 => ?_) (fun h_170 => ?_)
                      · refine v_iconst (v := nI 0) O dX3_line_177 (by decide) ?_
                        exact v_iret O rfl dX3_line_178 (by omega) (by omega) (by rw [show opLine S (nI a) (nI b) (nI j) = (0, lineV (sN S) a b (nI j), S) from by simp [opLine, h_11, h_19, h_38, h_47, cl, nI_clamp (show a < 2 ^ 31 by omega), nI_clamp (show b < 2 ^ 31 by omega), nI_eq (show a < 2 ^ 31 by omega) (show b < 2 ^ 31 by omega)]]; exact ⟨(by subst hs_0; rw [lineV, if_pos rfl]; exact bIF h_170), ⟨ad, _, _, _, hR10, hM10⟩, (((hf1.trans hf4).trans hf8).trans hf10)⟩)
                      · refine v_iconst (v := nI 1) O dX3_line_173 (by decide) ?_
                        refine v_goto (tgt := 178) O dX3_line_174 (by decide) ?_
                        exact v_iret O rfl dX3_line_178 (by omega) (by omega) (by rw [show opLine S (nI a) (nI b) (nI j) = (0, lineV (sN S) a b (nI j), S) from by simp [opLine, h_11, h_19, h_38, h_47, cl, nI_clamp (show a < 2 ^ 31 by omega), nI_clamp (show b < 2 ^ 31 by omega), nI_eq (show a < 2 ^ 31 by omega) (show b < 2 ^ 31 by omega)]]; exact ⟨(by subst hs_0; rw [lineV, if_pos rfl]; exact bIT h_170), ⟨ad, _, _, _, hR10, hM10⟩, (((hf1.trans hf4).trans hf8).trans hf10)⟩)
                    by_cases hs_1 : j = 1
                    · refine v_tableIn (off := 41) (tgt := 179) O dX3_line_138 (by rw [hs_1]; decide) (by rw [hs_1]; decide) (by rw [hs_1]; rfl) (by decide) ?_
                      refine v_aload_n O dX3_line_179 rfl 3 rfl ?_
                      refine v_iload_n O dX3_line_180 rfl 4 rfl ?_
                      refine v_iload_n O dX3_line_181 rfl 5 rfl ?_
                      refine v_callV (as := [.int (nI a), .int (nI b)]) (rest := []) O (c_X3_weight hG hR10 hE10 (by first | omega | exact hn) (a := a) (b := b) (by omega) (by omega)) q1681 q1683 qs48 q77 q1684 hR10.ob (show vcl[2]? = some (RX3, TX3, 27) from rfl) rfl mdX3_weight rfl (by decide) (by omega) (by omega) (by omega) (Nat.le_of_ble_eq_true rfl) rfl dX3_line_182 (fun v9 σ9 hp9 => ?_) (fun _ _ _ h => False.elim h)
                      obtain ⟨rfl, hs9⟩ := hp9
                      obtain rfl := hs9.symm
                      exact v_iret O rfl dX3_line_185 (by omega) (by omega) (by rw [show opLine S (nI a) (nI b) (nI j) = (0, lineV (sN S) a b (nI j), S) from by simp [opLine, h_11, h_19, h_38, h_47, cl, nI_clamp (show a < 2 ^ 31 by omega), nI_clamp (show b < 2 ^ 31 by omega), nI_eq (show a < 2 ^ 31 by omega) (show b < 2 ^ 31 by omega)]]; exact ⟨(by subst hs_1; rw [lineV, if_neg (by decide), if_pos rfl]), ⟨ad, _, _, _, hR10, hM10⟩, (((hf1.trans hf4).trans hf8).trans hf10)⟩)
                    by_cases hs_2 : j = 2
                    · refine v_tableIn (off := 48) (tgt := 186) O dX3_line_138 (by rw [hs_2]; decide) (by rw [hs_2]; decide) (by rw [hs_2]; rfl) (by decide) ?_
                      refine v_aload_n O dX3_line_186 rfl 3 rfl ?_
                      refine v_iload_n O dX3_line_187 rfl 4 rfl ?_
                      refine v_callV (as := [.int (nI a)]) (rest := []) O (c_X3_mate hG hR10 hE10 (by first | omega | exact hn) (a := a) (by omega)) q1705 q1707 qs50 q77 q1708 hR10.ob (show vcl[2]? = some (RX3, TX3, 27) from rfl) rfl mdX3_mate rfl (by decide) (by omega) (by omega) (by omega) (Nat.le_of_ble_eq_true rfl) rfl dX3_line_188 (fun v9 σ9 hp9 => ?_) (fun _ _ _ h => False.elim h)
                      obtain ⟨rfl, hs9⟩ := hp9
                      obtain rfl := hs9.symm
                      refine v_iload_n O dX3_line_191 rfl 5 rfl ?_
                      refine v_icmp_ne (tgt := 199) O dX3_line_192 (by decide) (fun h_192 => ?_) (fun h_192 => ?_)
                      · refine v_iconst (v := nI 0) O dX3_line_199 (by decide) ?_
                        exact v_iret O rfl dX3_line_200 (by omega) (by omega) (by rw [show opLine S (nI a) (nI b) (nI j) = (0, lineV (sN S) a b (nI j), S) from by simp [opLine, h_11, h_19, h_38, h_47, cl, nI_clamp (show a < 2 ^ 31 by omega), nI_clamp (show b < 2 ^ 31 by omega), nI_eq (show a < 2 ^ 31 by omega) (show b < 2 ^ 31 by omega)]]; exact ⟨(by subst hs_2; rw [lineV, if_neg (by decide), if_neg (by decide), if_pos rfl]; exact bIF (by simp [h_192])), ⟨ad, _, _, _, hR10, hM10⟩, (((hf1.trans hf4).trans hf8).trans hf10)⟩)
                      · refine v_iconst (v := nI 1) O dX3_line_195 (by decide) ?_
                        refine v_goto (tgt := 200) O dX3_line_196 (by decide) ?_
                        exact v_iret O rfl dX3_line_200 (by omega) (by omega) (by rw [show opLine S (nI a) (nI b) (nI j) = (0, lineV (sN S) a b (nI j), S) from by simp [opLine, h_11, h_19, h_38, h_47, cl, nI_clamp (show a < 2 ^ 31 by omega), nI_clamp (show b < 2 ^ 31 by omega), nI_eq (show a < 2 ^ 31 by omega) (show b < 2 ^ 31 by omega)]]; exact ⟨(by subst hs_2; rw [lineV, if_neg (by decide), if_neg (by decide), if_pos rfl]; exact bIT (by simp [h_192])), ⟨ad, _, _, _, hR10, hM10⟩, (((hf1.trans hf4).trans hf8).trans hf10)⟩)
                    by_cases hs_3 : j = 3
                    · refine v_tableIn (off := 63) (tgt := 201) O dX3_line_138 (by rw [hs_3]; decide) (by rw [hs_3]; decide) (by rw [hs_3]; rfl) (by decide) ?_
                      refine v_iload O dX3_line_201 0 rfl ?_
                      refine v_if_eqB (tgt := 210) O dX3_line_203 (by decide) (fun h_203 => ?_) (fun h_203 => ?_)
                      · refine v_iconst (v := nI 0) O dX3_line_210 (by decide) ?_
                        exact v_iret O rfl dX3_line_211 (by omega) (by omega) (by rw [show opLine S (nI a) (nI b) (nI j) = (0, lineV (sN S) a b (nI j), S) from by simp [opLine, h_11, h_19, h_38, h_47, cl, nI_clamp (show a < 2 ^ 31 by omega), nI_clamp (show b < 2 ^ 31 by omega), nI_eq (show a < 2 ^ 31 by omega) (show b < 2 ^ 31 by omega)]]; exact ⟨(by subst hs_3; rw [lineV, if_neg (by decide), if_neg (by decide), if_neg (by decide), if_pos rfl]; exact bIF h_203), ⟨ad, _, _, _, hR10, hM10⟩, (((hf1.trans hf4).trans hf8).trans hf10)⟩)
                      · refine v_iconst (v := nI 1) O dX3_line_206 (by decide) ?_
                        refine v_goto (tgt := 211) O dX3_line_207 (by decide) ?_
                        exact v_iret O rfl dX3_line_211 (by omega) (by omega) (by rw [show opLine S (nI a) (nI b) (nI j) = (0, lineV (sN S) a b (nI j), S) from by simp [opLine, h_11, h_19, h_38, h_47, cl, nI_clamp (show a < 2 ^ 31 by omega), nI_clamp (show b < 2 ^ 31 by omega), nI_eq (show a < 2 ^ 31 by omega) (show b < 2 ^ 31 by omega)]]; exact ⟨(by subst hs_3; rw [lineV, if_neg (by decide), if_neg (by decide), if_neg (by decide), if_pos rfl]; exact bIT h_203), ⟨ad, _, _, _, hR10, hM10⟩, (((hf1.trans hf4).trans hf8).trans hf10)⟩)
                    refine v_tableOut (tgt := 212) O dX3_line_138 (Or.inr (by rw [nI_toInt (by omega)]; omega)) (by decide) ?_
                    refine v_iload O dX3_line_212 0 rfl ?_
                    refine v_if_eqB (tgt := 241) O dX3_line_214 (by decide) (fun h_214 => ?_) (fun h_214 => ?_)
                    · refine v_iconst (v := nI 0) O dX3_line_241 (by decide) ?_
                      exact v_iret O rfl dX3_line_242 (by omega) (by omega) (by rw [show opLine S (nI a) (nI b) (nI j) = (0, lineV (sN S) a b (nI j), S) from by simp [opLine, h_11, h_19, h_38, h_47, cl, nI_clamp (show a < 2 ^ 31 by omega), nI_clamp (show b < 2 ^ 31 by omega), nI_eq (show a < 2 ^ 31 by omega) (show b < 2 ^ 31 by omega)]]; exact ⟨(by obtain rfl : j = 4 := (by omega); rw [lineV, if_neg (by decide), if_neg (by decide), if_neg (by decide), if_neg (by decide)]; exact bIF (by simp [h_214])), ⟨ad, _, _, _, hR10, hM10⟩, (((hf1.trans hf4).trans hf8).trans hf10)⟩)
                    · refine v_aload_n O dX3_line_217 rfl 3 rfl ?_
                      refine v_getf (C := RX3) (T := TX3) (N := 27) (v := .ref (ad 18)) O in_X3 hR10.ob rfl 18 (by decide) rfl q1510 rfl dX3_line_218 ?_
                      refine v_iload O dX3_line_221 1 rfl ?_
                      refine v_lald (f := L10 18) O (hR10.lg 18 rfl) (by omega) (by omega) dX3_line_223 ?_
                      refine v_topl (y := lN (dpN (sN S) (sd (sd (allN (sN S)) (2 ^ a)) (2 ^ b))).2.1) (hl10 _ (by first | omega | exact sall_lt | exact restN_lt)).2.1 ?_
                      refine v_aload_n O dX3_line_224 rfl 3 rfl ?_
                      refine v_getf (C := RX3) (T := TX3) (N := 27) (v := .ref (ad 18)) O in_X3 hR10.ob rfl 18 (by decide) rfl q1510 rfl dX3_line_225 ?_
                      refine v_aload_n O dX3_line_228 rfl 3 rfl ?_
                      refine v_callV (as := []) (rest := [.ref (ad 18), .long (lN (dpN (sN S) (sd (sd (allN (sN S)) (2 ^ a)) (2 ^ b))).2.1)]) O (c_X3_all hG hR10 hE10 (by first | omega | exact hn)) q1756 q1758 qs58 q77 q1759 hR10.ob (show vcl[2]? = some (RX3, TX3, 27) from rfl) rfl mdX3_all rfl (by decide) (by omega) (by omega) (by omega) (Nat.le_of_ble_eq_true rfl) rfl dX3_line_229 (fun v9 σ9 hp9 => ?_) (fun _ _ _ h => False.elim h)
                      obtain ⟨rfl, hs9⟩ := hp9
                      obtain rfl := hs9.symm
                      refine v_lald (f := L10 18) O (hR10.lg 18 rfl) (by omega) (by omega) dX3_line_232 ?_
                      refine v_topl (y := lN (dpN (sN S) (allN (sN S))).2.1) (hl10 _ (by first | omega | exact sall_lt | exact restN_lt)).2.1 ?_
                      refine v_lcmp (z := lg_cmp (lN (dpN (sN S) (restN (sN S) a b)).2.1) (lN (topN (sN S)).2.1)) O dX3_line_233 rfl ?_
                      have hw1 := (dp_small hS.2.2.2.2.w hn (restN_lt (N := sN S) (a := a) (b := b))).2.1
                      have hw2 := (dp_small hS.2.2.2.2.w hn hal).2.1
                      have hcm : lg_cmp (lN (dpN (sN S) (restN (sN S) a b)).2.1) (lN (topN (sN S)).2.1) = 0 ↔ (dpN (sN S) (restN (sN S) a b)).2.1 = (topN (sN S)).2.1 := lg_cmp0 hw1 hw2
                      refine v_if_ne (tgt := 241) O dX3_line_234 (by decide) (fun h_234 => ?_) (fun h_234 => ?_)
                      · rw [hcm] at h_234
                        refine v_iconst (v := nI 0) O dX3_line_241 (by decide) ?_
                        exact v_iret O rfl dX3_line_242 (by omega) (by omega) (by rw [show opLine S (nI a) (nI b) (nI j) = (0, lineV (sN S) a b (nI j), S) from by simp [opLine, h_11, h_19, h_38, h_47, cl, nI_clamp (show a < 2 ^ 31 by omega), nI_clamp (show b < 2 ^ 31 by omega), nI_eq (show a < 2 ^ 31 by omega) (show b < 2 ^ 31 by omega)]]; exact ⟨(by obtain rfl : j = 4 := (by omega); rw [lineV, if_neg (by decide), if_neg (by decide), if_neg (by decide), if_neg (by decide)]; exact bIF (by simp [h_214, h_234])), ⟨ad, _, _, _, hR10, hM10⟩, (((hf1.trans hf4).trans hf8).trans hf10)⟩)
                      · rw [hcm] at h_234
                        refine v_iconst (v := nI 1) O dX3_line_237 (by decide) ?_
                        refine v_goto (tgt := 242) O dX3_line_238 (by decide) ?_
                        exact v_iret O rfl dX3_line_242 (by omega) (by omega) (by rw [show opLine S (nI a) (nI b) (nI j) = (0, lineV (sN S) a b (nI j), S) from by simp [opLine, h_11, h_19, h_38, h_47, cl, nI_clamp (show a < 2 ^ 31 by omega), nI_clamp (show b < 2 ^ 31 by omega), nI_eq (show a < 2 ^ 31 by omega) (show b < 2 ^ 31 by omega)]]; exact ⟨(by obtain rfl : j = 4 := (by omega); rw [lineV, if_neg (by decide), if_neg (by decide), if_neg (by decide), if_neg (by decide)]; exact bIT (by simp [h_214, h_234])), ⟨ad, _, _, _, hR10, hM10⟩, (((hf1.trans hf4).trans hf8).trans hf10)⟩)
              · refine v_iconst (v := nI 1) O dX3_line_79 (by decide) ?_
                refine v_goto (tgt := 84) O dX3_line_80 (by decide) ?_
                rw [bIT' (b := ln (sN S) a b) (by simp [ln, h_76])]
                refine v_istore (lv' := [(4, .int (bI (ln (sN S) a b))), (0, .ref m), (1, .int (nI a)), (2, .int (nI b)), (3, .int (nI j))]) O hN dX3_line_84 (by decide) rfl ?_
                have hr1 := sall_lt (N := sN S) (s := 2 ^ a)
                have hr2 : sd (sd (allN (sN S)) (2 ^ a)) (2 ^ b) < 2 ^ (sN S).1 := restN_lt (a := a) (b := b)
                have hb1 : (dpN (sN S) (sd (sd (allN (sN S)) (2 ^ a)) (2 ^ b))).1 ≤ 12 := (dp_small hS.2.2.2.2.w hn hr2).1
                have hb2 : (topN (sN S)).1 ≤ 12 := (dp_small hS.2.2.2.2.w hn hal).1
                have hb3 : (dpN (sN S) (allN (sN S))).1 ≤ 12 := hb2
                refine v_aload_n O dX3_line_86 rfl 1 rfl ?_
                refine v_callV (as := []) (rest := []) O (c_X3_all hG hR10 hE10 (by first | omega | exact hn)) q1756 q1758 qs58 q77 q1759 hR10.ob (show vcl[2]? = some (RX3, TX3, 27) from rfl) rfl mdX3_all rfl (by decide) (by omega) (by omega) (by omega) (Nat.le_of_ble_eq_true rfl) rfl dX3_line_87 (fun v9 σ9 hp9 => ?_) (fun _ _ _ h => False.elim h)
                obtain ⟨rfl, hs9⟩ := hp9
                obtain rfl := hs9.symm
                refine v_iconst (v := nI 1) O dX3_line_90 (by decide) ?_
                refine v_iload_n O dX3_line_91 rfl 2 rfl ?_
                refine v_ishl (z := nI (2 ^ a)) O dX3_line_92 (bx_shl1 (by omega)) ?_
                refine v_iconst (v := (-1)) O dX3_line_93 (by decide) ?_
                refine v_ixor (z := nI (2 ^ a) ^^^ -1) O dX3_line_94 rfl ?_
                refine v_iand (z := nI (sd (allN (sN S)) (2 ^ a))) O dX3_line_95 (bx_sd (by omega) (by first | omega | exact Nat.pow_lt_pow_right (by omega) (by omega))) ?_
                refine v_iconst (v := nI 1) O dX3_line_96 (by decide) ?_
                refine v_iload_n O dX3_line_97 rfl 3 rfl ?_
                refine v_ishl (z := nI (2 ^ b)) O dX3_line_98 (bx_shl1 (by omega)) ?_
                refine v_iconst (v := (-1)) O dX3_line_99 (by decide) ?_
                refine v_ixor (z := nI (2 ^ b) ^^^ -1) O dX3_line_100 rfl ?_
                refine v_iand (z := nI (sd (sd (allN (sN S)) (2 ^ a)) (2 ^ b))) O dX3_line_101 (bx_sd (by omega) (by first | omega | exact Nat.pow_lt_pow_right (by omega) (by omega))) ?_
                refine v_istore (lv' := [(5, .int (nI (sd (sd (allN (sN S)) (2 ^ a)) (2 ^ b)))), (4, .int (bI (ln (sN S) a b))), (0, .ref m), (1, .int (nI a)), (2, .int (nI b)), (3, .int (nI j))]) O hN dX3_line_102 (by decide) rfl ?_
                refine v_iload O dX3_line_104 1 rfl ?_
                refine v_if_eqB (tgt := 134) O dX3_line_106 (by decide) (fun h_106 => ?_) (fun h_106 => ?_)
                · refine v_iconst (v := nI 0) O dX3_line_134 (by decide) ?_
                  rw [bIF' (b := someN (sN S) a b) (by simp [someN, h_106])]
                  refine v_istore (lv' := [(6, .int (bI (someN (sN S) a b))), (5, .int (nI (sd (sd (allN (sN S)) (2 ^ a)) (2 ^ b)))), (4, .int (bI (ln (sN S) a b))), (0, .ref m), (1, .int (nI a)), (2, .int (nI b)), (3, .int (nI j))]) O hN dX3_line_135 (by decide) rfl ?_
                  refine v_iload_n O dX3_line_137 rfl 6 rfl ?_
                  by_cases hs_0 : j = 0
                  · refine v_tableIn (off := 30) (tgt := 168) O dX3_line_138 (by rw [hs_0]; decide) (by rw [hs_0]; decide) (by rw [hs_0]; rfl) (by decide) ?_
                    refine v_iload O dX3_line_168 2 rfl ?_
                    refine v_if_eqB (tgt := 177) O dX3_line_170 (by decide) (fun h_170 => ?_) (fun h_170 => ?_)
                    · refine v_iconst (v := nI 0) O dX3_line_177 (by decide) ?_
                      exact v_iret O rfl dX3_line_178 (by omega) (by omega) (by rw [show opLine S (nI a) (nI b) (nI j) = (0, lineV (sN S) a b (nI j), S) from by simp [opLine, h_11, h_19, h_38, h_47, cl, nI_clamp (show a < 2 ^ 31 by omega), nI_clamp (show b < 2 ^ 31 by omega), nI_eq (show a < 2 ^ 31 by omega) (show b < 2 ^ 31 by omega)]]; exact ⟨(by subst hs_0; rw [lineV, if_pos rfl]; exact bIF h_170), ⟨ad, _, _, _, hR10, hM10⟩, (((hf1.trans hf4).trans hf8).trans hf10)⟩)
                    · refine v_iconst (v := nI 1) O dX3_line_173 (by decide) ?_
                      refine v_goto (tgt := 178) O dX3_line_174 (by decide) ?_
                      exact v_iret O rfl dX3_line_178 (by omega) (by omega) (by rw [show opLine S (nI a) (nI b) (nI j) = (0, lineV (sN S) a b (nI j), S) from by simp [opLine, h_11, h_19, h_38, h_47, cl, nI_clamp (show a < 2 ^ 31 by omega), nI_clamp (show b < 2 ^ 31 by omega), nI_eq (show a < 2 ^ 31 by omega) (show b < 2 ^ 31 by omega)]]; exact ⟨(by subst hs_0; rw [lineV, if_pos rfl]; exact bIT h_170), ⟨ad, _, _, _, hR10, hM10⟩, (((hf1.trans hf4).trans hf8).trans hf10)⟩)
                  by_cases hs_1 : j = 1
                  · refine v_tableIn (off := 41) (tgt := 179) O dX3_line_138 (by rw [hs_1]; decide) (by rw [hs_1]; decide) (by rw [hs_1]; rfl) (by decide) ?_
                    refine v_aload_n O dX3_line_179 rfl 3 rfl ?_
                    refine v_iload_n O dX3_line_180 rfl 4 rfl ?_
                    refine v_iload_n O dX3_line_181 rfl 5 rfl ?_
                    refine v_callV (as := [.int (nI a), .int (nI b)]) (rest := []) O (c_X3_weight hG hR10 hE10 (by first | omega | exact hn) (a := a) (b := b) (by omega) (by omega)) q1681 q1683 qs48 q77 q1684 hR10.ob (show vcl[2]? = some (RX3, TX3, 27) from rfl) rfl mdX3_weight rfl (by decide) (by omega) (by omega) (by omega) (Nat.le_of_ble_eq_true rfl) rfl dX3_line_182 (fun v9 σ9 hp9 => ?_) (fun _ _ _ h => False.elim h)
                    obtain ⟨rfl, hs9⟩ := hp9
                    obtain rfl := hs9.symm
                    exact v_iret O rfl dX3_line_185 (by omega) (by omega) (by rw [show opLine S (nI a) (nI b) (nI j) = (0, lineV (sN S) a b (nI j), S) from by simp [opLine, h_11, h_19, h_38, h_47, cl, nI_clamp (show a < 2 ^ 31 by omega), nI_clamp (show b < 2 ^ 31 by omega), nI_eq (show a < 2 ^ 31 by omega) (show b < 2 ^ 31 by omega)]]; exact ⟨(by subst hs_1; rw [lineV, if_neg (by decide), if_pos rfl]), ⟨ad, _, _, _, hR10, hM10⟩, (((hf1.trans hf4).trans hf8).trans hf10)⟩)
                  by_cases hs_2 : j = 2
                  · refine v_tableIn (off := 48) (tgt := 186) O dX3_line_138 (by rw [hs_2]; decide) (by rw [hs_2]; decide) (by rw [hs_2]; rfl) (by decide) ?_
                    refine v_aload_n O dX3_line_186 rfl 3 rfl ?_
                    refine v_iload_n O dX3_line_187 rfl 4 rfl ?_
                    refine v_callV (as := [.int (nI a)]) (rest := []) O (c_X3_mate hG hR10 hE10 (by first | omega | exact hn) (a := a) (by omega)) q1705 q1707 qs50 q77 q1708 hR10.ob (show vcl[2]? = some (RX3, TX3, 27) from rfl) rfl mdX3_mate rfl (by decide) (by omega) (by omega) (by omega) (Nat.le_of_ble_eq_true rfl) rfl dX3_line_188 (fun v9 σ9 hp9 => ?_) (fun _ _ _ h => False.elim h)
                    obtain ⟨rfl, hs9⟩ := hp9
                    obtain rfl := hs9.symm
                    refine v_iload_n O dX3_line_191 rfl 5 rfl ?_
                    refine v_icmp_ne (tgt := 199) O dX3_line_192 (by decide) (fun h_192 => ?_) (fun h_192 => ?_)
                    · refine v_iconst (v := nI 0) O dX3_line_199 (by decide) ?_
                      exact v_iret O rfl dX3_line_200 (by omega) (by omega) (by rw [show opLine S (nI a) (nI b) (nI j) = (0, lineV (sN S) a b (nI j), S) from by simp [opLine, h_11, h_19, h_38, h_47, cl, nI_clamp (show a < 2 ^ 31 by omega), nI_clamp (show b < 2 ^ 31 by omega), nI_eq (show a < 2 ^ 31 by omega) (show b < 2 ^ 31 by omega)]]; exact ⟨(by subst hs_2; rw [lineV, if_neg (by decide), if_neg (by decide), if_pos rfl]; exact bIF (by simp [h_192])), ⟨ad, _, _, _, hR10, hM10⟩, (((hf1.trans hf4).trans hf8).trans hf10)⟩)
                    · refine v_iconst (v := nI 1) O dX3_line_195 (by decide) ?_
                      refine v_goto (tgt := 200) O dX3_line_196 (by decide) ?_
                      exact v_iret O rfl dX3_line_200 (by omega) (by omega) (by rw [show opLine S (nI a) (nI b) (nI j) = (0, lineV (sN S) a b (nI j), S) from by simp [opLine, h_11, h_19, h_38, h_47, cl, nI_clamp (show a < 2 ^ 31 by omega), nI_clamp (show b < 2 ^ 31 by omega), nI_eq (show a < 2 ^ 31 by omega) (show b < 2 ^ 31 by omega)]]; exact ⟨(by subst hs_2; rw [lineV, if_neg (by decide), if_neg (by decide), if_pos rfl]; exact bIT (by simp [h_192])), ⟨ad, _, _, _, hR10, hM10⟩, (((hf1.trans hf4).trans hf8).trans hf10)⟩)
                  by_cases hs_3 : j = 3
                  · refine v_tableIn (off := 63) (tgt := 201) O dX3_line_138 (by rw [hs_3]; decide) (by rw [hs_3]; decide) (by rw [hs_3]; rfl) (by decide) ?_
                    refine v_iload O dX3_line_201 0 rfl ?_
                    refine v_if_eqB (tgt := 210) O dX3_line_203 (by decide) (fun h_203 => ?_) (fun h_203 => ?_)
                    · refine v_iconst (v := nI 0) O dX3_line_210 (by decide) ?_
                      exact v_iret O rfl dX3_line_211 (by omega) (by omega) (by rw [show opLine S (nI a) (nI b) (nI j) = (0, lineV (sN S) a b (nI j), S) from by simp [opLine, h_11, h_19, h_38, h_47, cl, nI_clamp (show a < 2 ^ 31 by omega), nI_clamp (show b < 2 ^ 31 by omega), nI_eq (show a < 2 ^ 31 by omega) (show b < 2 ^ 31 by omega)]]; exact ⟨(by subst hs_3; rw [lineV, if_neg (by decide), if_neg (by decide), if_neg (by decide), if_pos rfl]; exact bIF h_203), ⟨ad, _, _, _, hR10, hM10⟩, (((hf1.trans hf4).trans hf8).trans hf10)⟩)
                    · refine v_iconst (v := nI 1) O dX3_line_206 (by decide) ?_
                      refine v_goto (tgt := 211) O dX3_line_207 (by decide) ?_
                      exact v_iret O rfl dX3_line_211 (by omega) (by omega) (by rw [show opLine S (nI a) (nI b) (nI j) = (0, lineV (sN S) a b (nI j), S) from by simp [opLine, h_11, h_19, h_38, h_47, cl, nI_clamp (show a < 2 ^ 31 by omega), nI_clamp (show b < 2 ^ 31 by omega), nI_eq (show a < 2 ^ 31 by omega) (show b < 2 ^ 31 by omega)]]; exact ⟨(by subst hs_3; rw [lineV, if_neg (by decide), if_neg (by decide), if_neg (by decide), if_pos rfl]; exact bIT h_203), ⟨ad, _, _, _, hR10, hM10⟩, (((hf1.trans hf4).trans hf8).trans hf10)⟩)
                  refine v_tableOut (tgt := 212) O dX3_line_138 (Or.inr (by rw [nI_toInt (by omega)]; omega)) (by decide) ?_
                  refine v_iload O dX3_line_212 0 rfl ?_
                  refine v_if_eqB (tgt := 241) O dX3_line_214 (by decide) (fun h_214 => ?_) (fun h_214 => ?_)
                  · refine v_iconst (v := nI 0) O dX3_line_241 (by decide) ?_
                    exact v_iret O rfl dX3_line_242 (by omega) (by omega) (by rw [show opLine S (nI a) (nI b) (nI j) = (0, lineV (sN S) a b (nI j), S) from by simp [opLine, h_11, h_19, h_38, h_47, cl, nI_clamp (show a < 2 ^ 31 by omega), nI_clamp (show b < 2 ^ 31 by omega), nI_eq (show a < 2 ^ 31 by omega) (show b < 2 ^ 31 by omega)]]; exact ⟨(by obtain rfl : j = 4 := (by omega); rw [lineV, if_neg (by decide), if_neg (by decide), if_neg (by decide), if_neg (by decide)]; exact bIF (by simp [h_214])), ⟨ad, _, _, _, hR10, hM10⟩, (((hf1.trans hf4).trans hf8).trans hf10)⟩)
                  · refine v_aload_n O dX3_line_217 rfl 3 rfl ?_
                    refine v_getf (C := RX3) (T := TX3) (N := 27) (v := .ref (ad 18)) O in_X3 hR10.ob rfl 18 (by decide) rfl q1510 rfl dX3_line_218 ?_
                    refine v_iload O dX3_line_221 1 rfl ?_
                    refine v_lald (f := L10 18) O (hR10.lg 18 rfl) (by omega) (by omega) dX3_line_223 ?_
                    refine v_topl (y := lN (dpN (sN S) (sd (sd (allN (sN S)) (2 ^ a)) (2 ^ b))).2.1) (hl10 _ (by first | omega | exact sall_lt | exact restN_lt)).2.1 ?_
                    refine v_aload_n O dX3_line_224 rfl 3 rfl ?_
                    refine v_getf (C := RX3) (T := TX3) (N := 27) (v := .ref (ad 18)) O in_X3 hR10.ob rfl 18 (by decide) rfl q1510 rfl dX3_line_225 ?_
                    refine v_aload_n O dX3_line_228 rfl 3 rfl ?_
                    refine v_callV (as := []) (rest := [.ref (ad 18), .long (lN (dpN (sN S) (sd (sd (allN (sN S)) (2 ^ a)) (2 ^ b))).2.1)]) O (c_X3_all hG hR10 hE10 (by first | omega | exact hn)) q1756 q1758 qs58 q77 q1759 hR10.ob (show vcl[2]? = some (RX3, TX3, 27) from rfl) rfl mdX3_all rfl (by decide) (by omega) (by omega) (by omega) (Nat.le_of_ble_eq_true rfl) rfl dX3_line_229 (fun v9 σ9 hp9 => ?_) (fun _ _ _ h => False.elim h)
                    obtain ⟨rfl, hs9⟩ := hp9
                    obtain rfl := hs9.symm
                    refine v_lald (f := L10 18) O (hR10.lg 18 rfl) (by omega) (by omega) dX3_line_232 ?_
                    refine v_topl (y := lN (dpN (sN S) (allN (sN S))).2.1) (hl10 _ (by first | omega | exact sall_lt | exact restN_lt)).2.1 ?_
                    refine v_lcmp (z := lg_cmp (lN (dpN (sN S) (restN (sN S) a b)).2.1) (lN (topN (sN S)).2.1)) O dX3_line_233 rfl ?_
                    have hw1 := (dp_small hS.2.2.2.2.w hn (restN_lt (N := sN S) (a := a) (b := b))).2.1
                    have hw2 := (dp_small hS.2.2.2.2.w hn hal).2.1
                    have hcm : lg_cmp (lN (dpN (sN S) (restN (sN S) a b)).2.1) (lN (topN (sN S)).2.1) = 0 ↔ (dpN (sN S) (restN (sN S) a b)).2.1 = (topN (sN S)).2.1 := lg_cmp0 hw1 hw2
                    refine v_if_ne (tgt := 241) O dX3_line_234 (by decide) (fun h_234 => ?_) (fun h_234 => ?_)
                    · rw [hcm] at h_234
                      refine v_iconst (v := nI 0) O dX3_line_241 (by decide) ?_
                      exact v_iret O rfl dX3_line_242 (by omega) (by omega) (by rw [show opLine S (nI a) (nI b) (nI j) = (0, lineV (sN S) a b (nI j), S) from by simp [opLine, h_11, h_19, h_38, h_47, cl, nI_clamp (show a < 2 ^ 31 by omega), nI_clamp (show b < 2 ^ 31 by omega), nI_eq (show a < 2 ^ 31 by omega) (show b < 2 ^ 31 by omega)]]; exact ⟨(by obtain rfl : j = 4 := (by omega); rw [lineV, if_neg (by decide), if_neg (by decide), if_neg (by decide), if_neg (by decide)]; exact bIF (by simp [h_214, h_234])), ⟨ad, _, _, _, hR10, hM10⟩, (((hf1.trans hf4).trans hf8).trans hf10)⟩)
                    · rw [hcm] at h_234
                      refine v_iconst (v := nI 1) O dX3_line_237 (by decide) ?_
                      refine v_goto (tgt := 242) O dX3_line_238 (by decide) ?_
                      exact v_iret O rfl dX3_line_242 (by omega) (by omega) (by rw [show opLine S (nI a) (nI b) (nI j) = (0, lineV (sN S) a b (nI j), S) from by simp [opLine, h_11, h_19, h_38, h_47, cl, nI_clamp (show a < 2 ^ 31 by omega), nI_clamp (show b < 2 ^ 31 by omega), nI_eq (show a < 2 ^ 31 by omega) (show b < 2 ^ 31 by omega)]]; exact ⟨(by obtain rfl : j = 4 := (by omega); rw [lineV, if_neg (by decide), if_neg (by decide), if_neg (by decide), if_neg (by decide)]; exact bIT (by simp [h_214, h_234])), ⟨ad, _, _, _, hR10, hM10⟩, (((hf1.trans hf4).trans hf8).trans hf10)⟩)
                · refine v_aload_n O dX3_line_109 rfl 2 rfl ?_
                  refine v_getf (C := RX3) (T := TX3) (N := 27) (v := .ref (ad 15)) O in_X3 hR10.ob rfl 15 (by decide) rfl q1507 rfl dX3_line_110 ?_
                  refine v_iload O dX3_line_113 0 rfl ?_
                  refine v_iald (f := F10 15) O (hR10.ar 15 rfl) (by omega) (by omega) dX3_line_115 ?_
                  refine v_top (y := nI ((dpN (sN S) (sd (sd (allN (sN S)) (2 ^ a)) (2 ^ b))).1)) (hl10 _ (by first | omega | exact sall_lt | exact restN_lt)).1 ?_
                  refine v_iconst (v := nI 1) O dX3_line_116 (by decide) ?_
                  refine v_iadd (z := nI (((dpN (sN S) (sd (sd (allN (sN S)) (2 ^ a)) (2 ^ b))).1) + 1)) O dX3_line_117 (nI_add ((dpN (sN S) (sd (sd (allN (sN S)) (2 ^ a)) (2 ^ b))).1) 1) ?_
                  refine v_aload_n O dX3_line_118 rfl 2 rfl ?_
                  refine v_getf (C := RX3) (T := TX3) (N := 27) (v := .ref (ad 15)) O in_X3 hR10.ob rfl 15 (by decide) rfl q1507 rfl dX3_line_119 ?_
                  refine v_aload_n O dX3_line_122 rfl 2 rfl ?_
                  refine v_callV (as := []) (rest := [.ref (ad 15), .int (nI (((dpN (sN S) (sd (sd (allN (sN S)) (2 ^ a)) (2 ^ b))).1) + 1))]) O (c_X3_all hG hR10 hE10 (by first | omega | exact hn)) q1756 q1758 qs58 q77 q1759 hR10.ob (show vcl[2]? = some (RX3, TX3, 27) from rfl) rfl mdX3_all rfl (by decide) (by omega) (by omega) (by omega) (Nat.le_of_ble_eq_true rfl) rfl dX3_line_123 (fun v9 σ9 hp9 => ?_) (fun _ _ _ h => False.elim h)
                  obtain ⟨rfl, hs9⟩ := hp9
                  obtain rfl := hs9.symm
                  refine v_iald (f := F10 15) O (hR10.ar 15 rfl) (by omega) (by omega) dX3_line_126 ?_
                  refine v_top (y := nI ((dpN (sN S) (allN (sN S))).1)) (hl10 _ (by first | omega | exact sall_lt | exact restN_lt)).1 ?_
                  refine v_icmp_neN (tgt := 134) O dX3_line_127 (by decide) (by omega) (by omega) (fun h_127 => ?_) (fun h_127 => ?_)
                  · refine v_iconst (v := nI 0) O dX3_line_134 (by decide) ?_
                    rw [bIF' (b := someN (sN S) a b) (by simp [someN, h_106, restN, h_127])]
                    refine v_istore (lv' := [(6, .int (bI (someN (sN S) a b))), (5, .int (nI (sd (sd (allN (sN S)) (2 ^ a)) (2 ^ b)))), (4, .int (bI (ln (sN S) a b))), (0, .ref m), (1, .int (nI a)), (2, .int (nI b)), (3, .int (nI j))]) O hN dX3_line_135 (by decide) rfl ?_
                    refine v_iload_n O dX3_line_137 rfl 6 rfl ?_
                    by_cases hs_0 : j = 0
                    · refine v_tableIn (off := 30) (tgt := 168) O dX3_line_138 (by rw [hs_0]; decide) (by rw [hs_0]; decide) (by rw [hs_0]; rfl) (by decide) ?_
                      refine v_iload O dX3_line_168 2 rfl ?_
                      refine v_if_eqB (tgt := 177) O dX3_line_170 (by decide) (fun h_170 => ?_) (fun h_170 => ?_)
                      · refine v_iconst (v := nI 0) O dX3_line_177 (by decide) ?_
                        exact v_iret O rfl dX3_line_178 (by omega) (by omega) (by rw [show opLine S (nI a) (nI b) (nI j) = (0, lineV (sN S) a b (nI j), S) from by simp [opLine, h_11, h_19, h_38, h_47, cl, nI_clamp (show a < 2 ^ 31 by omega), nI_clamp (show b < 2 ^ 31 by omega), nI_eq (show a < 2 ^ 31 by omega) (show b < 2 ^ 31 by omega)]]; exact ⟨(by subst hs_0; rw [lineV, if_pos rfl]; exact bIF h_170), ⟨ad, _, _, _, hR10, hM10⟩, (((hf1.trans hf4).trans hf8).trans hf10)⟩)
                      · refine v_iconst (v := nI 1) O dX3_line_173 (by decide) ?_
                        refine v_goto (tgt := 178) O dX3_line_174 (by decide) ?_
                        exact v_iret O rfl dX3_line_178 (by omega) (by omega) (by rw [show opLine S (nI a) (nI b) (nI j) = (0, lineV (sN S) a b (nI j), S) from by simp [opLine, h_11, h_19, h_38, h_47, cl, nI_clamp (show a < 2 ^ 31 by omega), nI_clamp (show b < 2 ^ 31 by omega), nI_eq (show a < 2 ^ 31 by omega) (show b < 2 ^ 31 by omega)]]; exact ⟨(by subst hs_0; rw [lineV, if_pos rfl]; exact bIT h_170), ⟨ad, _, _, _, hR10, hM10⟩, (((hf1.trans hf4).trans hf8).trans hf10)⟩)
                    by_cases hs_1 : j = 1
                    · refine v_tableIn (off := 41) (tgt := 179) O dX3_line_138 (by rw [hs_1]; decide) (by rw [hs_1]; decide) (by rw [hs_1]; rfl) (by decide) ?_
                      refine v_aload_n O dX3_line_179 rfl 3 rfl ?_
                      refine v_iload_n O dX3_line_180 rfl 4 rfl ?_
                      refine v_iload_n O dX3_line_181 rfl 5 rfl ?_
                      refine v_callV (as := [.int (nI a), .int (nI b)]) (rest := []) O (c_X3_weight hG hR10 hE10 (by first | omega | exact hn) (a := a) (b := b) (by omega) (by omega)) q1681 q1683 qs48 q77 q1684 hR10.ob (show vcl[2]? = some (RX3, TX3, 27) from rfl) rfl mdX3_weight rfl (by decide) (by omega) (by omega) (by omega) (Nat.le_of_ble_eq_true rfl) rfl dX3_line_182 (fun v9 σ9 hp9 => ?_) (fun _ _ _ h => False.elim h)
                      obtain ⟨rfl, hs9⟩ := hp9
                      obtain rfl := hs9.symm
                      exact v_iret O rfl dX3_line_185 (by omega) (by omega) (by rw [show opLine S (nI a) (nI b) (nI j) = (0, lineV (sN S) a b (nI j), S) from by simp [opLine, h_11, h_19, h_38, h_47, cl, nI_clamp (show a < 2 ^ 31 by omega), nI_clamp (show b < 2 ^ 31 by omega), nI_eq (show a < 2 ^ 31 by omega) (show b < 2 ^ 31 by omega)]]; exact ⟨(by subst hs_1; rw [lineV, if_neg (by decide), if_pos rfl]), ⟨ad, _, _, _, hR10, hM10⟩, (((hf1.trans hf4).trans hf8).trans hf10)⟩)
                    by_cases hs_2 : j = 2
                    · refine v_tableIn (off := 48) (tgt := 186) O dX3_line_138 (by rw [hs_2]; decide) (by rw [hs_2]; decide) (by rw [hs_2]; rfl) (by decide) ?_
                      refine v_aload_n O dX3_line_186 rfl 3 rfl ?_
                      refine v_iload_n O dX3_line_187 rfl 4 rfl ?_
                      refine v_callV (as := [.int (nI a)]) (rest := []) O (c_X3_mate hG hR10 hE10 (by first | omega | exact hn) (a := a) (by omega)) q1705 q1707 qs50 q77 q1708 hR10.ob (show vcl[2]? = some (RX3, TX3, 27) from rfl) rfl mdX3_mate rfl (by decide) (by omega) (by omega) (by omega) (Nat.le_of_ble_eq_true rfl) rfl dX3_line_188 (fun v9 σ9 hp9 => ?_) (fun _ _ _ h => False.elim h)
                      obtain ⟨rfl, hs9⟩ := hp9
                      obtain rfl := hs9.symm
                      refine v_iload_n O dX3_line_191 rfl 5 rfl ?_
                      refine v_icmp_ne (tgt := 199) O dX3_line_192 (by decide) (fun h_192 => ?_) (fun h_192 => ?_)
                      · refine v_iconst (v := nI 0) O dX3_line_199 (by decide) ?_
                        exact v_iret O rfl dX3_line_200 (by omega) (by omega) (by rw [show opLine S (nI a) (nI b) (nI j) = (0, lineV (sN S) a b (nI j), S) from by simp [opLine, h_11, h_19, h_38, h_47, cl, nI_clamp (show a < 2 ^ 31 by omega), nI_clamp (show b < 2 ^ 31 by omega), nI_eq (show a < 2 ^ 31 by omega) (show b < 2 ^ 31 by omega)]]; exact ⟨(by subst hs_2; rw [lineV, if_neg (by decide), if_neg (by decide), if_pos rfl]; exact bIF (by simp [h_192])), ⟨ad, _, _, _, hR10, hM10⟩, (((hf1.trans hf4).trans hf8).trans hf10)⟩)
                      · refine v_iconst (v := nI 1) O dX3_line_195 (by decide) ?_
                        refine v_goto (tgt := 200) O dX3_line_196 (by decide) ?_
                        exact v_iret O rfl dX3_line_200 (by omega) (by omega) (by rw [show opLine S (nI a) (nI b) (nI j) = (0, lineV (sN S) a b (nI j), S) from by simp [opLine, h_11, h_19, h_38, h_47, cl, nI_clamp (show a < 2 ^ 31 by omega), nI_clamp (show b < 2 ^ 31 by omega), nI_eq (show a < 2 ^ 31 by omega) (show b < 2 ^ 31 by omega)]]; exact ⟨(by subst hs_2; rw [lineV, if_neg (by decide), if_neg (by decide), if_pos rfl]; exact bIT (by simp [h_192])), ⟨ad, _, _, _, hR10, hM10⟩, (((hf1.trans hf4).trans hf8).trans hf10)⟩)
                    by_cases hs_3 : j = 3
                    · refine v_tableIn (off := 63) (tgt := 201) O dX3_line_138 (by rw [hs_3]; decide) (by rw [hs_3]; decide) (by rw [hs_3]; rfl) (by decide) ?_
                      refine v_iload O dX3_line_201 0 rfl ?_
                      refine v_if_eqB (tgt := 210) O dX3_line_203 (by decide) (fun h_203 => ?_) (fun h_203 => ?_)
                      · refine v_iconst (v := nI 0) O dX3_line_210 (by decide) ?_
                        exact v_iret O rfl dX3_line_211 (by omega) (by omega) (by rw [show opLine S (nI a) (nI b) (nI j) = (0, lineV (sN S) a b (nI j), S) from by simp [opLine, h_11, h_19, h_38, h_47, cl, nI_clamp (show a < 2 ^ 31 by omega), nI_clamp (show b < 2 ^ 31 by omega), nI_eq (show a < 2 ^ 31 by omega) (show b < 2 ^ 31 by omega)]]; exact ⟨(by subst hs_3; rw [lineV, if_neg (by decide), if_neg (by decide), if_neg (by decide), if_pos rfl]; exact bIF h_203), ⟨ad, _, _, _, hR10, hM10⟩, (((hf1.trans hf4).trans hf8).trans hf10)⟩)
                      · refine v_iconst (v := nI 1) O dX3_line_206 (by decide) ?_
                        refine v_goto (tgt := 211) O dX3_line_207 (by decide) ?_
                        exact v_iret O rfl dX3_line_211 (by omega) (by omega) (by rw [show opLine S (nI a) (nI b) (nI j) = (0, lineV (sN S) a b (nI j), S) from by simp [opLine, h_11, h_19, h_38, h_47, cl, nI_clamp (show a < 2 ^ 31 by omega), nI_clamp (show b < 2 ^ 31 by omega), nI_eq (show a < 2 ^ 31 by omega) (show b < 2 ^ 31 by omega)]]; exact ⟨(by subst hs_3; rw [lineV, if_neg (by decide), if_neg (by decide), if_neg (by decide), if_pos rfl]; exact bIT h_203), ⟨ad, _, _, _, hR10, hM10⟩, (((hf1.trans hf4).trans hf8).trans hf10)⟩)
                    refine v_tableOut (tgt := 212) O dX3_line_138 (Or.inr (by rw [nI_toInt (by omega)]; omega)) (by decide) ?_
                    refine v_iload O dX3_line_212 0 rfl ?_
                    refine v_if_eqB (tgt := 241) O dX3_line_214 (by decide) (fun h_214 => ?_) (fun h_214 => ?_)
                    · refine v_iconst (v := nI 0) O dX3_line_241 (by decide) ?_
                      exact v_iret O rfl dX3_line_242 (by omega) (by omega) (by rw [show opLine S (nI a) (nI b) (nI j) = (0, lineV (sN S) a b (nI j), S) from by simp [opLine, h_11, h_19, h_38, h_47, cl, nI_clamp (show a < 2 ^ 31 by omega), nI_clamp (show b < 2 ^ 31 by omega), nI_eq (show a < 2 ^ 31 by omega) (show b < 2 ^ 31 by omega)]]; exact ⟨(by obtain rfl : j = 4 := (by omega); rw [lineV, if_neg (by decide), if_neg (by decide), if_neg (by decide), if_neg (by decide)]; exact bIF (by simp [h_214])), ⟨ad, _, _, _, hR10, hM10⟩, (((hf1.trans hf4).trans hf8).trans hf10)⟩)
                    · refine v_aload_n O dX3_line_217 rfl 3 rfl ?_
                      refine v_getf (C := RX3) (T := TX3) (N := 27) (v := .ref (ad 18)) O in_X3 hR10.ob rfl 18 (by decide) rfl q1510 rfl dX3_line_218 ?_
                      refine v_iload O dX3_line_221 1 rfl ?_
                      refine v_lald (f := L10 18) O (hR10.lg 18 rfl) (by omega) (by omega) dX3_line_223 ?_
                      refine v_topl (y := lN (dpN (sN S) (sd (sd (allN (sN S)) (2 ^ a)) (2 ^ b))).2.1) (hl10 _ (by first | omega | exact sall_lt | exact restN_lt)).2.1 ?_
                      refine v_aload_n O dX3_line_224 rfl 3 rfl ?_
                      refine v_getf (C := RX3) (T := TX3) (N := 27) (v := .ref (ad 18)) O in_X3 hR10.ob rfl 18 (by decide) rfl q1510 rfl dX3_line_225 ?_
                      refine v_aload_n O dX3_line_228 rfl 3 rfl ?_
                      refine v_callV (as := []) (rest := [.ref (ad 18), .long (lN (dpN (sN S) (sd (sd (allN (sN S)) (2 ^ a)) (2 ^ b))).2.1)]) O (c_X3_all hG hR10 hE10 (by first | omega | exact hn)) q1756 q1758 qs58 q77 q1759 hR10.ob (show vcl[2]? = some (RX3, TX3, 27) from rfl) rfl mdX3_all rfl (by decide) (by omega) (by omega) (by omega) (Nat.le_of_ble_eq_true rfl) rfl dX3_line_229 (fun v9 σ9 hp9 => ?_) (fun _ _ _ h => False.elim h)
                      obtain ⟨rfl, hs9⟩ := hp9
                      obtain rfl := hs9.symm
                      refine v_lald (f := L10 18) O (hR10.lg 18 rfl) (by omega) (by omega) dX3_line_232 ?_
                      refine v_topl (y := lN (dpN (sN S) (allN (sN S))).2.1) (hl10 _ (by first | omega | exact sall_lt | exact restN_lt)).2.1 ?_
                      refine v_lcmp (z := lg_cmp (lN (dpN (sN S) (restN (sN S) a b)).2.1) (lN (topN (sN S)).2.1)) O dX3_line_233 rfl ?_
                      have hw1 := (dp_small hS.2.2.2.2.w hn (restN_lt (N := sN S) (a := a) (b := b))).2.1
                      have hw2 := (dp_small hS.2.2.2.2.w hn hal).2.1
                      have hcm : lg_cmp (lN (dpN (sN S) (restN (sN S) a b)).2.1) (lN (topN (sN S)).2.1) = 0 ↔ (dpN (sN S) (restN (sN S) a b)).2.1 = (topN (sN S)).2.1 := lg_cmp0 hw1 hw2
                      refine v_if_ne (tgt := 241) O dX3_line_234 (by decide) (fun h_234 => ?_) (fun h_234 => ?_)
                      · rw [hcm] at h_234
                        refine v_iconst (v := nI 0) O dX3_line_241 (by decide) ?_
                        exact v_iret O rfl dX3_line_242 (by omega) (by omega) (by rw [show opLine S (nI a) (nI b) (nI j) = (0, lineV (sN S) a b (nI j), S) from by simp [opLine, h_11, h_19, h_38, h_47, cl, nI_clamp (show a < 2 ^ 31 by omega), nI_clamp (show b < 2 ^ 31 by omega), nI_eq (show a < 2 ^ 31 by omega) (show b < 2 ^ 31 by omega)]]; exact ⟨(by obtain rfl : j = 4 := (by omega); rw [lineV, if_neg (by decide), if_neg (by decide), if_neg (by decide), if_neg (by decide)]; exact bIF (by simp [h_214, h_234])), ⟨ad, _, _, _, hR10, hM10⟩, (((hf1.trans hf4).trans hf8).trans hf10)⟩)
                      · rw [hcm] at h_234
                        refine v_iconst (v := nI 1) O dX3_line_237 (by decide) ?_
                        refine v_goto (tgt := 242) O dX3_line_238 (by decide) ?_
                        exact v_iret O rfl dX3_line_242 (by omega) (by omega) (by rw [show opLine S (nI a) (nI b) (nI j) = (0, lineV (sN S) a b (nI j), S) from by simp [opLine, h_11, h_19, h_38, h_47, cl, nI_clamp (show a < 2 ^ 31 by omega), nI_clamp (show b < 2 ^ 31 by omega), nI_eq (show a < 2 ^ 31 by omega) (show b < 2 ^ 31 by omega)]]; exact ⟨(by obtain rfl : j = 4 := (by omega); rw [lineV, if_neg (by decide), if_neg (by decide), if_neg (by decide), if_neg (by decide)]; exact bIT (by simp [h_214, h_234])), ⟨ad, _, _, _, hR10, hM10⟩, (((hf1.trans hf4).trans hf8).trans hf10)⟩)
                  · refine v_iconst (v := nI 1) O dX3_line_130 (by decide) ?_
                    refine v_goto (tgt := 135) O dX3_line_131 (by decide) ?_
                    rw [bIT' (b := someN (sN S) a b) (by simp [someN, h_106, restN, h_127])]
                    refine v_istore (lv' := [(6, .int (bI (someN (sN S) a b))), (5, .int (nI (sd (sd (allN (sN S)) (2 ^ a)) (2 ^ b)))), (4, .int (bI (ln (sN S) a b))), (0, .ref m), (1, .int (nI a)), (2, .int (nI b)), (3, .int (nI j))]) O hN dX3_line_135 (by decide) rfl ?_
                    refine v_iload_n O dX3_line_137 rfl 6 rfl ?_
                    by_cases hs_0 : j = 0
                    · refine v_tableIn (off := 30) (tgt := 168) O dX3_line_138 (by rw [hs_0]; decide) (by rw [hs_0]; decide) (by rw [hs_0]; rfl) (by decide) ?_
                      refine v_iload O dX3_line_168 2 rfl ?_
                      refine v_if_eqB (tgt := 177) O dX3_line_170 (by decide) (fun h_170 => ?_) (fun h_170 => ?_)
                      · refine v_iconst (v := nI 0) O dX3_line_177 (by decide) ?_
                        exact v_iret O rfl dX3_line_178 (by omega) (by omega) (by rw [show opLine S (nI a) (nI b) (nI j) = (0, lineV (sN S) a b (nI j), S) from by simp [opLine, h_11, h_19, h_38, h_47, cl, nI_clamp (show a < 2 ^ 31 by omega), nI_clamp (show b < 2 ^ 31 by omega), nI_eq (show a < 2 ^ 31 by omega) (show b < 2 ^ 31 by omega)]]; exact ⟨(by subst hs_0; rw [lineV, if_pos rfl]; exact bIF h_170), ⟨ad, _, _, _, hR10, hM10⟩, (((hf1.trans hf4).trans hf8).trans hf10)⟩)
                      · refine v_iconst (v := nI 1) O dX3_line_173 (by decide) ?_
                        refine v_goto (tgt := 178) O dX3_line_174 (by decide) ?_
                        exact v_iret O rfl dX3_line_178 (by omega) (by omega) (by rw [show opLine S (nI a) (nI b) (nI j) = (0, lineV (sN S) a b (nI j), S) from by simp [opLine, h_11, h_19, h_38, h_47, cl, nI_clamp (show a < 2 ^ 31 by omega), nI_clamp (show b < 2 ^ 31 by omega), nI_eq (show a < 2 ^ 31 by omega) (show b < 2 ^ 31 by omega)]]; exact ⟨(by subst hs_0; rw [lineV, if_pos rfl]; exact bIT h_170), ⟨ad, _, _, _, hR10, hM10⟩, (((hf1.trans hf4).trans hf8).trans hf10)⟩)
                    by_cases hs_1 : j = 1
                    · refine v_tableIn (off := 41) (tgt := 179) O dX3_line_138 (by rw [hs_1]; decide) (by rw [hs_1]; decide) (by rw [hs_1]; rfl) (by decide) ?_
                      refine v_aload_n O dX3_line_179 rfl 3 rfl ?_
                      refine v_iload_n O dX3_line_180 rfl 4 rfl ?_
                      refine v_iload_n O dX3_line_181 rfl 5 rfl ?_
                      refine v_callV (as := [.int (nI a), .int (nI b)]) (rest := []) O (c_X3_weight hG hR10 hE10 (by first | omega | exact hn) (a := a) (b := b) (by omega) (by omega)) q1681 q1683 qs48 q77 q1684 hR10.ob (show vcl[2]? = some (RX3, TX3, 27) from rfl) rfl mdX3_weight rfl (by decide) (by omega) (by omega) (by omega) (Nat.le_of_ble_eq_true rfl) rfl dX3_line_182 (fun v9 σ9 hp9 => ?_) (fun _ _ _ h => False.elim h)
                      obtain ⟨rfl, hs9⟩ := hp9
                      obtain rfl := hs9.symm
                      exact v_iret O rfl dX3_line_185 (by omega) (by omega) (by rw [show opLine S (nI a) (nI b) (nI j) = (0, lineV (sN S) a b (nI j), S) from by simp [opLine, h_11, h_19, h_38, h_47, cl, nI_clamp (show a < 2 ^ 31 by omega), nI_clamp (show b < 2 ^ 31 by omega), nI_eq (show a < 2 ^ 31 by omega) (show b < 2 ^ 31 by omega)]]; exact ⟨(by subst hs_1; rw [lineV, if_neg (by decide), if_pos rfl]), ⟨ad, _, _, _, hR10, hM10⟩, (((hf1.trans hf4).trans hf8).trans hf10)⟩)
                    by_cases hs_2 : j = 2
                    · refine v_tableIn (off := 48) (tgt := 186) O dX3_line_138 (by rw [hs_2]; decide) (by rw [hs_2]; decide) (by rw [hs_2]; rfl) (by decide) ?_
                      refine v_aload_n O dX3_line_186 rfl 3 rfl ?_
                      refine v_iload_n O dX3_line_187 rfl 4 rfl ?_
                      refine v_callV (as := [.int (nI a)]) (rest := []) O (c_X3_mate hG hR10 hE10 (by first | omega | exact hn) (a := a) (by omega)) q1705 q1707 qs50 q77 q1708 hR10.ob (show vcl[2]? = some (RX3, TX3, 27) from rfl) rfl mdX3_mate rfl (by decide) (by omega) (by omega) (by omega) (Nat.le_of_ble_eq_true rfl) rfl dX3_line_188 (fun v9 σ9 hp9 => ?_) (fun _ _ _ h => False.elim h)
                      obtain ⟨rfl, hs9⟩ := hp9
                      obtain rfl := hs9.symm
                      refine v_iload_n O dX3_line_191 rfl 5 rfl ?_
                      refine v_icmp_ne (tgt := 199) O dX3_line_192 (by decide) (fun h_192 => ?_) (fun h_192 => ?_)
                      · refine v_iconst (v := nI 0) O dX3_line_199 (by decide) ?_
                        exact v_iret O rfl dX3_line_200 (by omega) (by omega) (by rw [show opLine S (nI a) (nI b) (nI j) = (0, lineV (sN S) a b (nI j), S) from by simp [opLine, h_11, h_19, h_38, h_47, cl, nI_clamp (show a < 2 ^ 31 by omega), nI_clamp (show b < 2 ^ 31 by omega), nI_eq (show a < 2 ^ 31 by omega) (show b < 2 ^ 31 by omega)]]; exact ⟨(by subst hs_2; rw [lineV, if_neg (by decide), if_neg (by decide), if_pos rfl]; exact bIF (by simp [h_192])), ⟨ad, _, _, _, hR10, hM10⟩, (((hf1.trans hf4).trans hf8).trans hf10)⟩)
                      · refine v_iconst (v := nI 1) O dX3_line_195 (by decide) ?_
                        refine v_goto (tgt := 200) O dX3_line_196 (by decide) ?_
                        exact v_iret O rfl dX3_line_200 (by omega) (by omega) (by rw [show opLine S (nI a) (nI b) (nI j) = (0, lineV (sN S) a b (nI j), S) from by simp [opLine, h_11, h_19, h_38, h_47, cl, nI_clamp (show a < 2 ^ 31 by omega), nI_clamp (show b < 2 ^ 31 by omega), nI_eq (show a < 2 ^ 31 by omega) (show b < 2 ^ 31 by omega)]]; exact ⟨(by subst hs_2; rw [lineV, if_neg (by decide), if_neg (by decide), if_pos rfl]; exact bIT (by simp [h_192])), ⟨ad, _, _, _, hR10, hM10⟩, (((hf1.trans hf4).trans hf8).trans hf10)⟩)
                    by_cases hs_3 : j = 3
                    · refine v_tableIn (off := 63) (tgt := 201) O dX3_line_138 (by rw [hs_3]; decide) (by rw [hs_3]; decide) (by rw [hs_3]; rfl) (by decide) ?_
                      refine v_iload O dX3_line_201 0 rfl ?_
                      refine v_if_eqB (tgt := 210) O dX3_line_203 (by decide) (fun h_203 => ?_) (fun h_203 => ?_)
                      · refine v_iconst (v := nI 0) O dX3_line_210 (by decide) ?_
                        exact v_iret O rfl dX3_line_211 (by omega) (by omega) (by rw [show opLine S (nI a) (nI b) (nI j) = (0, lineV (sN S) a b (nI j), S) from by simp [opLine, h_11, h_19, h_38, h_47, cl, nI_clamp (show a < 2 ^ 31 by omega), nI_clamp (show b < 2 ^ 31 by omega), nI_eq (show a < 2 ^ 31 by omega) (show b < 2 ^ 31 by omega)]]; exact ⟨(by subst hs_3; rw [lineV, if_neg (by decide), if_neg (by decide), if_neg (by decide), if_pos rfl]; exact bIF h_203), ⟨ad, _, _, _, hR10, hM10⟩, (((hf1.trans hf4).trans hf8).trans hf10)⟩)
                      · refine v_iconst (v := nI 1) O dX3_line_206 (by decide) ?_
                        refine v_goto (tgt := 211) O dX3_line_207 (by decide) ?_
                        exact v_iret O rfl dX3_line_211 (by omega) (by omega) (by rw [show opLine S (nI a) (nI b) (nI j) = (0, lineV (sN S) a b (nI j), S) from by simp [opLine, h_11, h_19, h_38, h_47, cl, nI_clamp (show a < 2 ^ 31 by omega), nI_clamp (show b < 2 ^ 31 by omega), nI_eq (show a < 2 ^ 31 by omega) (show b < 2 ^ 31 by omega)]]; exact ⟨(by subst hs_3; rw [lineV, if_neg (by decide), if_neg (by decide), if_neg (by decide), if_pos rfl]; exact bIT h_203), ⟨ad, _, _, _, hR10, hM10⟩, (((hf1.trans hf4).trans hf8).trans hf10)⟩)
                    refine v_tableOut (tgt := 212) O dX3_line_138 (Or.inr (by rw [nI_toInt (by omega)]; omega)) (by decide) ?_
                    refine v_iload O dX3_line_212 0 rfl ?_
                    refine v_if_eqB (tgt := 241) O dX3_line_214 (by decide) (fun h_214 => ?_) (fun h_214 => ?_)
                    · refine v_iconst (v := nI 0) O dX3_line_241 (by decide) ?_
                      exact v_iret O rfl dX3_line_242 (by omega) (by omega) (by rw [show opLine S (nI a) (nI b) (nI j) = (0, lineV (sN S) a b (nI j), S) from by simp [opLine, h_11, h_19, h_38, h_47, cl, nI_clamp (show a < 2 ^ 31 by omega), nI_clamp (show b < 2 ^ 31 by omega), nI_eq (show a < 2 ^ 31 by omega) (show b < 2 ^ 31 by omega)]]; exact ⟨(by obtain rfl : j = 4 := (by omega); rw [lineV, if_neg (by decide), if_neg (by decide), if_neg (by decide), if_neg (by decide)]; exact bIF (by simp [h_214])), ⟨ad, _, _, _, hR10, hM10⟩, (((hf1.trans hf4).trans hf8).trans hf10)⟩)
                    · refine v_aload_n O dX3_line_217 rfl 3 rfl ?_
                      refine v_getf (C := RX3) (T := TX3) (N := 27) (v := .ref (ad 18)) O in_X3 hR10.ob rfl 18 (by decide) rfl q1510 rfl dX3_line_218 ?_
                      refine v_iload O dX3_line_221 1 rfl ?_
                      refine v_lald (f := L10 18) O (hR10.lg 18 rfl) (by omega) (by omega) dX3_line_223 ?_
                      refine v_topl (y := lN (dpN (sN S) (sd (sd (allN (sN S)) (2 ^ a)) (2 ^ b))).2.1) (hl10 _ (by first | omega | exact sall_lt | exact restN_lt)).2.1 ?_
                      refine v_aload_n O dX3_line_224 rfl 3 rfl ?_
                      refine v_getf (C := RX3) (T := TX3) (N := 27) (v := .ref (ad 18)) O in_X3 hR10.ob rfl 18 (by decide) rfl q1510 rfl dX3_line_225 ?_
                      refine v_aload_n O dX3_line_228 rfl 3 rfl ?_
                      refine v_callV (as := []) (rest := [.ref (ad 18), .long (lN (dpN (sN S) (sd (sd (allN (sN S)) (2 ^ a)) (2 ^ b))).2.1)]) O (c_X3_all hG hR10 hE10 (by first | omega | exact hn)) q1756 q1758 qs58 q77 q1759 hR10.ob (show vcl[2]? = some (RX3, TX3, 27) from rfl) rfl mdX3_all rfl (by decide) (by omega) (by omega) (by omega) (Nat.le_of_ble_eq_true rfl) rfl dX3_line_229 (fun v9 σ9 hp9 => ?_) (fun _ _ _ h => False.elim h)
                      obtain ⟨rfl, hs9⟩ := hp9
                      obtain rfl := hs9.symm
                      refine v_lald (f := L10 18) O (hR10.lg 18 rfl) (by omega) (by omega) dX3_line_232 ?_
                      refine v_topl (y := lN (dpN (sN S) (allN (sN S))).2.1) (hl10 _ (by first | omega | exact sall_lt | exact restN_lt)).2.1 ?_
                      refine v_lcmp (z := lg_cmp (lN (dpN (sN S) (restN (sN S) a b)).2.1) (lN (topN (sN S)).2.1)) O dX3_line_233 rfl ?_
                      have hw1 := (dp_small hS.2.2.2.2.w hn (restN_lt (N := sN S) (a := a) (b := b))).2.1
                      have hw2 := (dp_small hS.2.2.2.2.w hn hal).2.1
                      have hcm : lg_cmp (lN (dpN (sN S) (restN (sN S) a b)).2.1) (lN (topN (sN S)).2.1) = 0 ↔ (dpN (sN S) (restN (sN S) a b)).2.1 = (topN (sN S)).2.1 := lg_cmp0 hw1 hw2
                      refine v_if_ne (tgt := 241) O dX3_line_234 (by decide) (fun h_234 => ?_) (fun h_234 => ?_)
                      · rw [hcm] at h_234
                        refine v_iconst (v := nI 0) O dX3_line_241 (by decide) ?_
                        exact v_iret O rfl dX3_line_242 (by omega) (by omega) (by rw [show opLine S (nI a) (nI b) (nI j) = (0, lineV (sN S) a b (nI j), S) from by simp [opLine, h_11, h_19, h_38, h_47, cl, nI_clamp (show a < 2 ^ 31 by omega), nI_clamp (show b < 2 ^ 31 by omega), nI_eq (show a < 2 ^ 31 by omega) (show b < 2 ^ 31 by omega)]]; exact ⟨(by obtain rfl : j = 4 := (by omega); rw [lineV, if_neg (by decide), if_neg (by decide), if_neg (by decide), if_neg (by decide)]; exact bIF (by simp [h_214, h_234])), ⟨ad, _, _, _, hR10, hM10⟩, (((hf1.trans hf4).trans hf8).trans hf10)⟩)
                      · rw [hcm] at h_234
                        refine v_iconst (v := nI 1) O dX3_line_237 (by decide) ?_
                        refine v_goto (tgt := 242) O dX3_line_238 (by decide) ?_
                        exact v_iret O rfl dX3_line_242 (by omega) (by omega) (by rw [show opLine S (nI a) (nI b) (nI j) = (0, lineV (sN S) a b (nI j), S) from by simp [opLine, h_11, h_19, h_38, h_47, cl, nI_clamp (show a < 2 ^ 31 by omega), nI_clamp (show b < 2 ^ 31 by omega), nI_eq (show a < 2 ^ 31 by omega) (show b < 2 ^ 31 by omega)]]; exact ⟨(by obtain rfl : j = 4 := (by omega); rw [lineV, if_neg (by decide), if_neg (by decide), if_neg (by decide), if_neg (by decide)]; exact bIT (by simp [h_214, h_234])), ⟨ad, _, _, _, hR10, hM10⟩, (((hf1.trans hf4).trans hf8).trans hf10)⟩)
            · exact absurd h_60 (by decide)
          · refine v_iconst (v := nI 1) O dX3_line_50 (by decide) ?_
            refine v_goto (tgt := 55) O dX3_line_51 (by decide) ?_
            refine v_iconst (v := nI 2) O dX3_line_55 (by decide) ?_
            refine v_iconst (v := nI 1) O dX3_line_56 (by decide) ?_
            refine v_callV (as := [.int (nI 1), .int (nI 2), .int (nI 1)]) (rest := []) O (c_X3_bad hG (p := true) (w := 2) (r := 1) hR4 (by omega) (by omega) rfl) q1590 q1592 qs32 q77 q1593 hR4.ob (show vcl[2]? = some (RX3, TX3, 27) from rfl) rfl mdX3_bad rfl (by decide) (by omega) (by omega) (by omega) (Nat.le_of_ble_eq_true rfl) rfl dX3_line_57 (fun v9 σ13 hp9 => ?_) (fun _ _ _ h => False.elim h)
            obtain ⟨rfl, hR12, hf12⟩ := hp9
            replace hR12 : RecAt layM σ13 m ad (va_up (va_up I 0 (nI 0)) 0 (nI 2)) (va_up F 1 (va_up (F 1) 1 ((F 1) 1 + nI 1))) L := hR12
            refine v_if_eqB (tgt := 65) O dX3_line_60 (by decide) (fun h_60 => ?_) (fun h_60 => ?_)
            · exact absurd h_60 (by decide)
            · refine v_iconst (v := nI 0) O dX3_line_63 (by decide) ?_
              exact v_iret O rfl dX3_line_64 (by omega) (by omega) (by rw [show opLine S (nI a) (nI b) q = (2, nI 0, refS S 1) from by simp [opLine, h_11, h_19, h_38, h_47, cl, nI_clamp (show a < 2 ^ 31 by omega), nI_clamp (show b < 2 ^ 31 by omega), nI_eq (show a < 2 ^ 31 by omega) (show b < 2 ^ 31 by omega)]]; exact ⟨rfl, ⟨ad, _, _, _, hR12, (((hM.thr 0).rf (r := 1) (by omega)).thr 2)⟩, ((hf1.trans hf4).trans hf12)⟩)
    · refine v_iconst (v := nI 1) O dX3_line_22 (by decide) ?_
      refine v_goto (tgt := 27) O dX3_line_23 (by decide) ?_
      refine v_iconst (v := nI 1) O dX3_line_27 (by decide) ?_
      refine v_iconst (v := nI 0) O dX3_line_28 (by decide) ?_
      refine v_callV (as := [.int (nI 1), .int (nI 1), .int (nI 0)]) (rest := []) O (c_X3_bad hG (p := true) (w := 1) (r := 0) hR1 (by omega) (by omega) rfl) q1590 q1592 qs32 q77 q1593 hR1.ob (show vcl[2]? = some (RX3, TX3, 27) from rfl) rfl mdX3_bad rfl (by decide) (by omega) (by omega) (by omega) (Nat.le_of_ble_eq_true rfl) rfl dX3_line_29 (fun v9 σ15 hp9 => ?_) (fun _ _ _ h => False.elim h)
      obtain ⟨rfl, hR14, hf14⟩ := hp9
      replace hR14 : RecAt layM σ15 m ad (va_up (va_up I 0 (nI 0)) 0 (nI 1)) (va_up F 1 (va_up (F 1) 0 ((F 1) 0 + nI 1))) L := hR14
      refine v_if_neB (tgt := 63) O dX3_line_32 (by decide) (fun h_32 => ?_) (fun h_32 => ?_)
      · refine v_iconst (v := nI 0) O dX3_line_63 (by decide) ?_
        exact v_iret O rfl dX3_line_64 (by omega) (by omega) (by rw [show opLine S (nI a) y q = (1, nI 0, refS S 0) from by simp [opLine, h_11, h_19]]; exact ⟨rfl, ⟨ad, _, _, _, hR14, (((hM.thr 0).rf (r := 0) (by omega)).thr 1)⟩, (hf1.trans hf14)⟩)
      · exact absurd h_32 (by decide)
