theorem mdX2_odd : vMd yX2_odd 1 := ⟨by decide +kernel, by decide +kernel, by decide +kernel⟩
theorem mdX7_missing : vMd yX7_missing 0 := ⟨by decide +kernel, by decide +kernel, by decide +kernel⟩
theorem l_X7_barrier {G : vGC} (hG : vGok G) {X : vCX} {Q : State → Prop} {c0 n0 : Nat} (O : vOk G X yX7_barrier.cls cX7_barrier (some .int) 6 0 0) (hN : xn X = 6) (hcm0 : c0 ≤ 0) (hsm0 : n0 ≤ 0) {σ : vSt} {g t h : Nat} {N : NetM} (hOk : okN N) (hGr : GreAt σ g t h N) {j : Nat} (hj : j ≤ 1) (kx : V G X Q c0 n0 σ 89 [(0, .ref g), (1, .int (nI j)), (2, .int (optI (barF N (nI j) (2 ^ N.1))))] []) : ∀ (k : Nat) (s : Nat), (2 ^ N.1 < s + k) → (s ≤ 2 ^ N.1) → V G X Q c0 n0 σ 4 [(0, .ref g), (1, .int (nI j)), (2, .int (optI (barF N (nI j) s))), (3, .int (nI s))] [] := by
  intro k
  induction k with
  | zero => intro s h0 h1; exact absurd h0 (by omega)
  | succ k ih =>
    intro s h0 h1
    obtain ⟨hg, hT, hN0, hht, hgt⟩ := id hGr
    obtain ⟨adt, It, Ft, Lt, hRt, had0⟩ := id hT
    obtain ⟨wa, ma, hob⟩ := hN0.ob
    have hn := hOk.2.1
    have hal := all_lt (N := N)
    have hp12 := p12 hn
    have htop := dp_top hOk hal
    have htop2 : (dp N.1 N.2.1 (allN N)).1 ≤ 12 := htop
    have htop3 : (topN N).1 ≤ 12 := htop
    have hal2 : allN N = 2 ^ N.1 - 1 := rfl
    have hp1 : 1 ≤ 2 ^ N.1 := Nat.one_le_two_pow
    have hbl := fun b => barF_lt (N := N) (x := nI j) (b := b) s
    have hps := pcn_le s
    refine v_iload_n O dX7_barrier_4 rfl 3 rfl ?_
    refine v_aload_n O dX7_barrier_5 rfl 0 rfl ?_
    refine v_getf (C := RX7) (T := TX7) (N := 3) (v := .ref h) O in_X7 hg rfl 0 (by decide) rfl q300 rfl dX7_barrier_6 ?_
    refine v_callV (as := []) (rest := [.int (nI s)]) O (c_X2_all hG hN0 (by omega) ) q261 q262 q263 q75 q264 hob (show vcl[1]? = some (RX2, TX2, 3) from rfl) rfl mdX2_all rfl (by decide) (by omega) (by omega) (by omega) (Nat.le_of_ble_eq_true rfl) rfl dX7_barrier_9 (fun v9 σ9 hp9 => ?_) (fun _ _ _ h => False.elim h)
    obtain ⟨rfl, hs9⟩ := hp9
    obtain rfl := hs9.symm
    refine v_icmp_gtN (tgt := 89) O dX7_barrier_12 (by decide) (by omega) (by omega) (fun h_12 => ?_) (fun h_12 => ?_)
    · obtain rfl : s = 2 ^ N.1 := by omega
      exact v_lv [0, 1, 2] rfl kx
    · have hs4 : s < 4096 := by omega
      refine v_iload_n O dX7_barrier_15 rfl 3 rfl ?_
      refine v_callS (as := [.int (nI s)]) (rest := []) O (c_J17_bitCount hG (s := s) (by omega)) q520 q521 q95 q522 mdJ17_bitCount rfl (by decide) (by omega) (by omega) (by omega) (Nat.le_of_ble_eq_true rfl) rfl dX7_barrier_16 (fun v9 σ9 hp9 => ?_) (fun _ _ _ h => False.elim h)
      obtain ⟨rfl, hs9⟩ := hp9
      obtain rfl := hs9.symm
      refine v_istore (lv' := [(4, .int (nI (pcn s))), (0, .ref g), (1, .int (nI j)), (2, .int (optI (barF N (nI j) s))), (3, .int (nI s))]) O hN dX7_barrier_19 (by decide) rfl ?_
      refine v_iload_n O dX7_barrier_21 rfl 3 rfl ?_
      refine v_iconst (v := (-1)) O dX7_barrier_22 (by decide) ?_
      refine v_icmp_eq (tgt := 55) O dX7_barrier_23 (by decide) (fun h_23 => ?_) (fun h_23 => ?_)
      · have ho := optI_none (fun b h => by have := hbl b h; omega) h_23
        refine v_iconst (v := nI 0) O dX7_barrier_55 (by decide) ?_
        refine v_istore (lv' := [(5, .int (nI 0)), (4, .int (nI (pcn s))), (0, .ref g), (1, .int (nI j)), (2, .int (optI (barF N (nI j) s))), (3, .int (nI s))]) O hN dX7_barrier_56 (by decide) rfl ?_
        refine v_iload O dX7_barrier_58 0 rfl ?_
        refine v_if_neN (tgt := 83) O dX7_barrier_60 (by decide) (by omega) (fun h_60 => ?_) (fun h_60 => ?_)
        · exact absurd h_60 (by decide)
        · refine v_aload_n O dX7_barrier_63 rfl 2 rfl ?_
          refine v_getf (C := RX7) (T := TX7) (N := 3) (v := .ref h) O in_X7 hg rfl 0 (by decide) rfl q300 rfl dX7_barrier_64 ?_
          refine v_iload_n O dX7_barrier_67 rfl 5 rfl ?_
          refine v_callV (as := [.int (nI s)]) (rest := []) O (c_X2_odd hG hN0 (by omega) (set := s) (by omega)) q1432 q1416 q1417 q75 q1418 hob (show vcl[1]? = some (RX2, TX2, 3) from rfl) rfl mdX2_odd rfl (by decide) (by omega) (by omega) (by omega) (Nat.le_of_ble_eq_true rfl) rfl dX7_barrier_68 (fun v9 σ9 hp9 => ?_) (fun _ _ _ h => False.elim h)
          obtain ⟨rfl, hs9⟩ := hp9
          obtain rfl := hs9.symm
          refine v_iload O dX7_barrier_71 1 rfl ?_
          refine v_isub (z := (nI (oddN N s) - nI (pcn s))) O dX7_barrier_73 rfl ?_
          refine v_aload_n O dX7_barrier_74 rfl 2 rfl ?_
          refine v_callV (as := []) (rest := [.int (nI (oddN N s) - nI (pcn s))]) O (c_X7_missing hG hOk ⟨hg, ⟨_, _, _, _, hRt, had0⟩, hN0, hht, hgt⟩) q1433 q1268 q1269 q101 q1270 hg (show vcl[6]? = some (RX7, TX7, 3) from rfl) rfl mdX7_missing rfl (by decide) (by omega) (by omega) (by omega) (Nat.le_of_ble_eq_true rfl) rfl dX7_barrier_75 (fun v9 σ9 hp9 => ?_) (fun _ _ _ h => False.elim h)
          obtain ⟨rfl, hs9⟩ := hp9
          obtain rfl := hs9.symm
          refine v_icmp_ne (tgt := 83) O dX7_barrier_78 (by decide) (fun h_78 => ?_) (fun h_78 => ?_)
          · refine v_iinc (v := nI (s + 1)) (lv' := [(3, .int (nI (s + 1))), (5, .int (nI 0)), (4, .int (nI (pcn s))), (0, .ref g), (1, .int (nI j)), (2, .int (optI (barF N (nI j) s)))]) O hN dX7_barrier_83 5 rfl (nI_add s 1) (by decide) rfl ?_
            refine v_goto (tgt := 4) O dX7_barrier_86 (by decide) ?_
            have e9 : optI (barF N (nI j) (s + 1)) = (optI (barF N (nI j) s)) := by rw [ho]; simp only [barF, ho]; rw [if_neg (by simp [barG, h_78])]
            rw [← e9]
            refine v_lv [3, 4, 5, 0] rfl ?_
            exact ih (s + 1) (by omega) (by omega)
          · refine v_iload_n O dX7_barrier_81 rfl 5 rfl ?_
            refine v_istore_n (lv' := [(2, .int (nI s)), (5, .int (nI 0)), (4, .int (nI (pcn s))), (0, .ref g), (1, .int (nI j)), (3, .int (nI s))]) O hN dX7_barrier_82 rfl (by decide) rfl ?_
            refine v_iinc (v := nI (s + 1)) (lv' := [(3, .int (nI (s + 1))), (2, .int (nI s)), (5, .int (nI 0)), (4, .int (nI (pcn s))), (0, .ref g), (1, .int (nI j))]) O hN dX7_barrier_83 5 rfl (nI_add s 1) (by decide) rfl ?_
            refine v_goto (tgt := 4) O dX7_barrier_86 (by decide) ?_
            have e9 : optI (barF N (nI j) (s + 1)) = nI s := by simp only [barF, ho]; rw [if_pos (show barG N s = true from decide_eq_true h_78)]; rfl
            rw [← e9]
            refine v_lv [4, 5, 1, 0] rfl ?_
            exact ih (s + 1) (by omega) (by omega)
      · obtain ⟨b, ho⟩ := optI_some h_23
        have hbb := hbl b ho
        have hbe : optI (barF N (nI j) s) = nI b := by rw [ho]; rfl
        have hpb := pcn_le b
        refine v_iload_n O dX7_barrier_26 rfl 2 rfl ?_
        refine v_if_eqN (tgt := 42) O dX7_barrier_27 (by decide) (by omega) (fun h_27 => ?_) (fun h_27 => ?_)
        · 
          refine v_iload O dX7_barrier_42 0 rfl ?_
          refine v_iload_n O dX7_barrier_44 rfl 3 rfl ?_
          rw [hbe]
          refine v_callS (as := [.int (nI b)]) (rest := [.int (nI (pcn s))]) O (c_J17_bitCount hG (s := b) (by omega)) q520 q521 q95 q522 mdJ17_bitCount rfl (by decide) (by omega) (by omega) (by omega) (Nat.le_of_ble_eq_true rfl) rfl dX7_barrier_45 (fun v9 σ9 hp9 => ?_) (fun _ _ _ h => False.elim h)
          obtain ⟨rfl, hs9⟩ := hp9
          obtain rfl := hs9.symm
          refine v_icmp_ltN (tgt := 55) O dX7_barrier_48 (by decide) (by omega) (by omega) (fun h_48 => ?_) (fun h_48 => ?_)
          · refine v_iconst (v := nI 0) O dX7_barrier_55 (by decide) ?_
            refine v_istore (lv' := [(5, .int (nI 0)), (4, .int (nI (pcn s))), (0, .ref g), (1, .int (nI j)), (2, .int (nI b)), (3, .int (nI s))]) O hN dX7_barrier_56 (by decide) rfl ?_
            refine v_iload O dX7_barrier_58 0 rfl ?_
            refine v_if_neN (tgt := 83) O dX7_barrier_60 (by decide) (by omega) (fun h_60 => ?_) (fun h_60 => ?_)
            · exact absurd h_60 (by decide)
            · refine v_aload_n O dX7_barrier_63 rfl 2 rfl ?_
              refine v_getf (C := RX7) (T := TX7) (N := 3) (v := .ref h) O in_X7 hg rfl 0 (by decide) rfl q300 rfl dX7_barrier_64 ?_
              refine v_iload_n O dX7_barrier_67 rfl 5 rfl ?_
              refine v_callV (as := [.int (nI s)]) (rest := []) O (c_X2_odd hG hN0 (by omega) (set := s) (by omega)) q1432 q1416 q1417 q75 q1418 hob (show vcl[1]? = some (RX2, TX2, 3) from rfl) rfl mdX2_odd rfl (by decide) (by omega) (by omega) (by omega) (Nat.le_of_ble_eq_true rfl) rfl dX7_barrier_68 (fun v9 σ9 hp9 => ?_) (fun _ _ _ h => False.elim h)
              obtain ⟨rfl, hs9⟩ := hp9
              obtain rfl := hs9.symm
              refine v_iload O dX7_barrier_71 1 rfl ?_
              refine v_isub (z := (nI (oddN N s) - nI (pcn s))) O dX7_barrier_73 rfl ?_
              refine v_aload_n O dX7_barrier_74 rfl 2 rfl ?_
              refine v_callV (as := []) (rest := [.int (nI (oddN N s) - nI (pcn s))]) O (c_X7_missing hG hOk ⟨hg, ⟨_, _, _, _, hRt, had0⟩, hN0, hht, hgt⟩) q1433 q1268 q1269 q101 q1270 hg (show vcl[6]? = some (RX7, TX7, 3) from rfl) rfl mdX7_missing rfl (by decide) (by omega) (by omega) (by omega) (Nat.le_of_ble_eq_true rfl) rfl dX7_barrier_75 (fun v9 σ9 hp9 => ?_) (fun _ _ _ h => False.elim h)
              obtain ⟨rfl, hs9⟩ := hp9
              obtain rfl := hs9.symm
              refine v_icmp_ne (tgt := 83) O dX7_barrier_78 (by decide) (fun h_78 => ?_) (fun h_78 => ?_)
              · refine v_iinc (v := nI (s + 1)) (lv' := [(3, .int (nI (s + 1))), (5, .int (nI 0)), (4, .int (nI (pcn s))), (0, .ref g), (1, .int (nI j)), (2, .int (nI b))]) O hN dX7_barrier_83 5 rfl (nI_add s 1) (by decide) rfl ?_
                refine v_goto (tgt := 4) O dX7_barrier_86 (by decide) ?_
                have e9 : optI (barF N (nI j) (s + 1)) = nI b := by simp only [barF, ho]; rw [if_neg (show ¬ (if nI j = nI 0 then pcn b ≤ pcn s else pcn s ≤ pcn b) from by rw [if_pos (congrArg nI h_27)]; omega), if_neg (by simp [barG, h_78])]; rfl
                rw [← e9]
                refine v_lv [3, 4, 5, 0] rfl ?_
                exact ih (s + 1) (by omega) (by omega)
              · refine v_iload_n O dX7_barrier_81 rfl 5 rfl ?_
                refine v_istore_n (lv' := [(2, .int (nI s)), (5, .int (nI 0)), (4, .int (nI (pcn s))), (0, .ref g), (1, .int (nI j)), (3, .int (nI s))]) O hN dX7_barrier_82 rfl (by decide) rfl ?_
                refine v_iinc (v := nI (s + 1)) (lv' := [(3, .int (nI (s + 1))), (2, .int (nI s)), (5, .int (nI 0)), (4, .int (nI (pcn s))), (0, .ref g), (1, .int (nI j))]) O hN dX7_barrier_83 5 rfl (nI_add s 1) (by decide) rfl ?_
                refine v_goto (tgt := 4) O dX7_barrier_86 (by decide) ?_
                have e9 : optI (barF N (nI j) (s + 1)) = nI s := by simp only [barF, ho]; rw [if_neg (show ¬ (if nI j = nI 0 then pcn b ≤ pcn s else pcn s ≤ pcn b) from by rw [if_pos (congrArg nI h_27)]; omega), if_pos (show barG N s = true from decide_eq_true h_78)]; rfl
                rw [← e9]
                refine v_lv [4, 5, 1, 0] rfl ?_
                exact ih (s + 1) (by omega) (by omega)
          · refine v_iconst (v := nI 1) O dX7_barrier_51 (by decide) ?_
            refine v_goto (tgt := 56) O dX7_barrier_52 (by decide) ?_
            refine v_istore (lv' := [(5, .int (nI 1)), (4, .int (nI (pcn s))), (0, .ref g), (1, .int (nI j)), (2, .int (nI b)), (3, .int (nI s))]) O hN dX7_barrier_56 (by decide) rfl ?_
            refine v_iload O dX7_barrier_58 0 rfl ?_
            refine v_if_neN (tgt := 83) O dX7_barrier_60 (by decide) (by omega) (fun h_60 => ?_) (fun h_60 => ?_)
            · refine v_iinc (v := nI (s + 1)) (lv' := [(3, .int (nI (s + 1))), (5, .int (nI 1)), (4, .int (nI (pcn s))), (0, .ref g), (1, .int (nI j)), (2, .int (nI b))]) O hN dX7_barrier_83 5 rfl (nI_add s 1) (by decide) rfl ?_
              refine v_goto (tgt := 4) O dX7_barrier_86 (by decide) ?_
              have e9 : optI (barF N (nI j) (s + 1)) = nI b := by simp only [barF, ho]; rw [if_pos (show (if nI j = nI 0 then pcn b ≤ pcn s else pcn s ≤ pcn b) from by rw [if_pos (congrArg nI h_27)]; omega)]; rfl
              rw [← e9]
              refine v_lv [3, 4, 5, 0] rfl ?_
              exact ih (s + 1) (by omega) (by omega)
            · exact absurd h_60 (by decide)
        · refine v_iload O dX7_barrier_30 0 rfl ?_
          refine v_iload_n O dX7_barrier_32 rfl 3 rfl ?_
          rw [hbe]
          refine v_callS (as := [.int (nI b)]) (rest := [.int (nI (pcn s))]) O (c_J17_bitCount hG (s := b) (by omega)) q520 q521 q95 q522 mdJ17_bitCount rfl (by decide) (by omega) (by omega) (by omega) (Nat.le_of_ble_eq_true rfl) rfl dX7_barrier_33 (fun v9 σ9 hp9 => ?_) (fun _ _ _ h => False.elim h)
          obtain ⟨rfl, hs9⟩ := hp9
          obtain rfl := hs9.symm
          refine v_icmp_gtN (tgt := 55) O dX7_barrier_36 (by decide) (by omega) (by omega) (fun h_36 => ?_) (fun h_36 => ?_)
          · refine v_iconst (v := nI 0) O dX7_barrier_55 (by decide) ?_
            refine v_istore (lv' := [(5, .int (nI 0)), (4, .int (nI (pcn s))), (0, .ref g), (1, .int (nI j)), (2, .int (nI b)), (3, .int (nI s))]) O hN dX7_barrier_56 (by decide) rfl ?_
            refine v_iload O dX7_barrier_58 0 rfl ?_
            refine v_if_neN (tgt := 83) O dX7_barrier_60 (by decide) (by omega) (fun h_60 => ?_) (fun h_60 => ?_)
            · exact absurd h_60 (by decide)
            · refine v_aload_n O dX7_barrier_63 rfl 2 rfl ?_
              refine v_getf (C := RX7) (T := TX7) (N := 3) (v := .ref h) O in_X7 hg rfl 0 (by decide) rfl q300 rfl dX7_barrier_64 ?_
              refine v_iload_n O dX7_barrier_67 rfl 5 rfl ?_
              refine v_callV (as := [.int (nI s)]) (rest := []) O (c_X2_odd hG hN0 (by omega) (set := s) (by omega)) q1432 q1416 q1417 q75 q1418 hob (show vcl[1]? = some (RX2, TX2, 3) from rfl) rfl mdX2_odd rfl (by decide) (by omega) (by omega) (by omega) (Nat.le_of_ble_eq_true rfl) rfl dX7_barrier_68 (fun v9 σ9 hp9 => ?_) (fun _ _ _ h => False.elim h)
              obtain ⟨rfl, hs9⟩ := hp9
              obtain rfl := hs9.symm
              refine v_iload O dX7_barrier_71 1 rfl ?_
              refine v_isub (z := (nI (oddN N s) - nI (pcn s))) O dX7_barrier_73 rfl ?_
              refine v_aload_n O dX7_barrier_74 rfl 2 rfl ?_
              refine v_callV (as := []) (rest := [.int (nI (oddN N s) - nI (pcn s))]) O (c_X7_missing hG hOk ⟨hg, ⟨_, _, _, _, hRt, had0⟩, hN0, hht, hgt⟩) q1433 q1268 q1269 q101 q1270 hg (show vcl[6]? = some (RX7, TX7, 3) from rfl) rfl mdX7_missing rfl (by decide) (by omega) (by omega) (by omega) (Nat.le_of_ble_eq_true rfl) rfl dX7_barrier_75 (fun v9 σ9 hp9 => ?_) (fun _ _ _ h => False.elim h)
              obtain ⟨rfl, hs9⟩ := hp9
              obtain rfl := hs9.symm
              refine v_icmp_ne (tgt := 83) O dX7_barrier_78 (by decide) (fun h_78 => ?_) (fun h_78 => ?_)
              · refine v_iinc (v := nI (s + 1)) (lv' := [(3, .int (nI (s + 1))), (5, .int (nI 0)), (4, .int (nI (pcn s))), (0, .ref g), (1, .int (nI j)), (2, .int (nI b))]) O hN dX7_barrier_83 5 rfl (nI_add s 1) (by decide) rfl ?_
                refine v_goto (tgt := 4) O dX7_barrier_86 (by decide) ?_
                have e9 : optI (barF N (nI j) (s + 1)) = nI b := by simp only [barF, ho]; rw [if_neg (show ¬ (if nI j = nI 0 then pcn b ≤ pcn s else pcn s ≤ pcn b) from by rw [if_neg (fun e => h_27 (nI_inj (by omega) (by omega) e))]; omega), if_neg (by simp [barG, h_78])]; rfl
                rw [← e9]
                refine v_lv [3, 4, 5, 0] rfl ?_
                exact ih (s + 1) (by omega) (by omega)
              · refine v_iload_n O dX7_barrier_81 rfl 5 rfl ?_
                refine v_istore_n (lv' := [(2, .int (nI s)), (5, .int (nI 0)), (4, .int (nI (pcn s))), (0, .ref g), (1, .int (nI j)), (3, .int (nI s))]) O hN dX7_barrier_82 rfl (by decide) rfl ?_
                refine v_iinc (v := nI (s + 1)) (lv' := [(3, .int (nI (s + 1))), (2, .int (nI s)), (5, .int (nI 0)), (4, .int (nI (pcn s))), (0, .ref g), (1, .int (nI j))]) O hN dX7_barrier_83 5 rfl (nI_add s 1) (by decide) rfl ?_
                refine v_goto (tgt := 4) O dX7_barrier_86 (by decide) ?_
                have e9 : optI (barF N (nI j) (s + 1)) = nI s := by simp only [barF, ho]; rw [if_neg (show ¬ (if nI j = nI 0 then pcn b ≤ pcn s else pcn s ≤ pcn b) from by rw [if_neg (fun e => h_27 (nI_inj (by omega) (by omega) e))]; omega), if_pos (show barG N s = true from decide_eq_true h_78)]; rfl
                rw [← e9]
                refine v_lv [4, 5, 1, 0] rfl ?_
                exact ih (s + 1) (by omega) (by omega)
          · refine v_goto (tgt := 51) O dX7_barrier_39 (by decide) ?_
            refine v_iconst (v := nI 1) O dX7_barrier_51 (by decide) ?_
            refine v_goto (tgt := 56) O dX7_barrier_52 (by decide) ?_
            refine v_istore (lv' := [(5, .int (nI 1)), (4, .int (nI (pcn s))), (0, .ref g), (1, .int (nI j)), (2, .int (nI b)), (3, .int (nI s))]) O hN dX7_barrier_56 (by decide) rfl ?_
            refine v_iload O dX7_barrier_58 0 rfl ?_
            refine v_if_neN (tgt := 83) O dX7_barrier_60 (by decide) (by omega) (fun h_60 => ?_) (fun h_60 => ?_)
            · refine v_iinc (v := nI (s + 1)) (lv' := [(3, .int (nI (s + 1))), (5, .int (nI 1)), (4, .int (nI (pcn s))), (0, .ref g), (1, .int (nI j)), (2, .int (nI b))]) O hN dX7_barrier_83 5 rfl (nI_add s 1) (by decide) rfl ?_
              refine v_goto (tgt := 4) O dX7_barrier_86 (by decide) ?_
              have e9 : optI (barF N (nI j) (s + 1)) = nI b := by simp only [barF, ho]; rw [if_pos (show (if nI j = nI 0 then pcn b ≤ pcn s else pcn s ≤ pcn b) from by rw [if_neg (fun e => h_27 (nI_inj (by omega) (by omega) e))]; omega)]; rfl
              rw [← e9]
              refine v_lv [3, 4, 5, 0] rfl ?_
              exact ih (s + 1) (by omega) (by omega)
            · exact absurd h_60 (by decide)
theorem c_X7_barrier {G : vGC} (hG : vGok G) {σ : vSt} {g t h : Nat} {N : NetM} (hOk : okN N) (hGr : GreAt σ g t h N) {j : Nat} (hj : j ≤ 1) : Ct G yX7_barrier (ws_ yX7_barrier cX7_barrier 6 (some .int)) 6 0 0 σ [.ref g, .int (nI j)] (fun v σ9 => v = some (.int (optI (barF N (nI j) (2 ^ N.1)))) ∧ σ9 = σ) vNo := by
  refine ct_of hG (by decide) (Nat.le_of_ble_eq_true rfl) fun X hN O hnm htb => ?_
  show V G X _ 0 0 σ 0 [(0, .ref g), (1, .int (nI j))] []
  obtain ⟨hg, hT, hN0, hht, hgt⟩ := id hGr
  obtain ⟨adt, It, Ft, Lt, hRt, had0⟩ := id hT
  obtain ⟨wa, ma, hob⟩ := hN0.ob
  have hn := hOk.2.1
  have hal := all_lt (N := N)
  have hp12 := p12 hn
  have htop := dp_top hOk hal
  have htop2 : (dp N.1 N.2.1 (allN N)).1 ≤ 12 := htop
  have htop3 : (topN N).1 ≤ 12 := htop
  have hal2 : allN N = 2 ^ N.1 - 1 := rfl
  have hp1 : 1 ≤ 2 ^ N.1 := Nat.one_le_two_pow
  refine v_iconst (v := (-1)) O dX7_barrier_0 (by decide) ?_
  refine v_istore_n (lv' := [(2, .int (-1)), (0, .ref g), (1, .int (nI j))]) O hN dX7_barrier_1 rfl (by decide) rfl ?_
  refine v_iconst (v := nI 0) O dX7_barrier_2 (by decide) ?_
  refine v_istore_n (lv' := [(3, .int (nI 0)), (2, .int (-1)), (0, .ref g), (1, .int (nI j))]) O hN dX7_barrier_3 rfl (by decide) rfl ?_
  refine v_lv [2, 3, 1, 0] rfl ?_
  refine l_X7_barrier hG O hN (by omega) (by omega) hOk hGr hj ?_ (2 ^ N.1 + 1) 0 (by omega) (by omega)
  refine v_iload_n O dX7_barrier_89 rfl 2 rfl ?_
  exact v_iret O rfl dX7_barrier_90 (by omega) (by omega) ⟨rfl, rfl⟩
