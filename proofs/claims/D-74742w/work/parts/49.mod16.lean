theorem mdX3_rings : vMd yX3_rings 3 := ⟨by decide +kernel, by decide +kernel, by decide +kernel⟩
theorem l_X3_rings {G : vGC} (hG : vGok G) {X : vCX} {Q : State → Prop} {c0 n0 k9 : Nat} (O : vOk G X yX3_rings.cls cX3_rings (some .boolean) (2 + (k9 + 1)) 0 0) (hN : xn X = 6) (hcm0 : c0 ≤ 0) (hsm0 : n0 ≤ 0) {σ0 : vSt} {m : Nat} {ad : Nat → Nat} {I : Nat → Int32} {F : Nat → Nat → Int32} {L : Nat → Nat → Int64} {N : NetM} (hE0 : Enc (F 9) N) (hN0 : okN N) {a due base : Nat} {l : List Nat} {r0 : Option (List Nat)} (hrec : RinC G k9) (hk9 : 13 ≤ (k9 + 1) + (l.length + 1)) (hrg : RgL N (a :: l)) (hrow : RowIs (F 24) (a :: l)) (hbs : base < N.1) (h00 : F 24 0 = nI base) (hdue : due ≤ 12) (kx : r0 = none → ∀ (σ : vSt) (F' : Nat → Nat → Int32), RecAt layM σ m ad I F' L → FrL [m] σ0 σ → (∀ j, j ≠ 24 → F' j = F j) → (∀ j, j < l.length + 1 → F' 24 j = F 24 j) → V G X Q c0 n0 σ 152 [(0, .ref m)] []) (kt : ∀ r, r0 = some r → ∀ (σ : vSt) (F' : Nat → Nat → Int32), RecAt layM σ m ad I F' L → FrL [m] σ0 σ → (∀ j, j ≠ 24 → F' j = F j) → (∀ j, j < l.length + 1 → F' 24 j = F 24 j) → RowIs (F' 24) r → V G X Q c0 n0 σ 144 [(0, .ref m)] []) : ∀ (k : Nat) (b : Nat) (σ : vSt) (F' : Nat → Nat → Int32), (N.1 < b + k) → (b ≤ N.1) → (RecAt layM σ m ad I F' L) → (FrL [m] σ0 σ) → (∀ j, j ≠ 24 → F' j = F j) → (∀ j, j < l.length + 1 → F' 24 j = F 24 j) → (fsm (fun b => if ringB N (a :: l) b then ringF N due base k9 (cl (N.2.2 b) :: b :: a :: l) else none) (N.1 - b) b = r0) → V G X Q c0 n0 σ 40 [(0, .ref m), (1, .int (nI (l.length + 1))), (2, .int (nI due)), (3, .int (nI (msk (a :: l)))), (4, .int (nI a)), (5, .int (nI b))] [] := by
  intro k
  induction k with
  | zero => intro b σ F' h0 h1 hR hf ho hk24 h2; exact absurd h0 (by omega)
  | succ k ih =>
    intro b σ F' h0 h1 hR hf ho hk24 h2
    have hn := hN0.2.1
    obtain ⟨hmk, hll⟩ := hrg.lt hn
    have hll2 : l.length + 1 ≤ 12 := hll
    have ha : a < N.1 := hrg.1 a (List.mem_cons_self ..)
    have hE : Enc (F' 9) N := by rw [ho 9 (by omega)]; exact hE0
    refine v_iload O dX3_rings_40 5 rfl ?_
    refine v_aload_n O dX3_rings_42 rfl 0 rfl ?_
    refine v_callV (as := []) (rest := [.int (nI b)]) O (c_X3_nodes hG hR hE (by first | omega | exact hn)) q1677 q1679 qs47 q77 q1680 hR.ob (show vcl[2]? = some (RX3, TX3, 27) from rfl) rfl mdX3_nodes rfl (by decide) (by omega) (by omega) (by omega) (Nat.le_of_ble_eq_true rfl) rfl dX3_rings_43 (fun v9 σ9 hp9 => ?_) (fun _ _ _ h => False.elim h)
    obtain ⟨rfl, hs9⟩ := hp9
    obtain rfl := hs9.symm
    refine v_icmp_geN (tgt := 152) O dX3_rings_46 (by decide) (by omega) (by omega) (fun h_46 => ?_) (fun h_46 => ?_)
    · obtain rfl : b = N.1 := by omega
      rw [Nat.sub_self] at h2
      exact v_lv [0] rfl (kx h2.symm σ F' hR hf ho hk24)
    · refine v_iload_n O dX3_rings_49 rfl 3 rfl ?_
      refine v_iload O dX3_rings_50 5 rfl ?_
      refine v_callS (as := [.int (nI (msk (a :: l))), .int (nI b)]) (rest := []) O (c_X3_has hG (s := msk (a :: l)) (k := b) (by omega) (by omega)) q1741 q1742 q77 q1743 mdX3_has rfl (by decide) (by omega) (by omega) (by omega) (Nat.le_of_ble_eq_true rfl) rfl dX3_rings_52 (fun v9 σ9 hp9 => ?_) (fun _ _ _ h => False.elim h)
      obtain ⟨rfl, hs9⟩ := hp9
      obtain rfl := hs9.symm
      refine v_if_neB (tgt := 146) O dX3_rings_55 (by decide) (fun h_55 => ?_) (fun h_55 => ?_)
      · refine v_iinc (v := nI (b + 1)) (lv' := [(5, .int (nI (b + 1))), (0, .ref m), (1, .int (nI (l.length + 1))), (2, .int (nI due)), (3, .int (nI (msk (a :: l)))), (4, .int (nI a))]) O hN dX3_rings_146 5 rfl (nI_add b 1) (by decide) rfl ?_
        refine v_goto (tgt := 40) O dX3_rings_149 (by decide) ?_
        refine v_lv [1, 2, 3, 4, 5, 0] rfl ?_
        exact ih (b + 1) σ F' (by omega) (by omega) hR hf ho hk24 (by have e0 : N.1 - b = (N.1 - (b + 1)) + 1 := (by omega); rw [e0] at h2; rw [fsm_none (show (fun b => if ringB N (a :: l) b then ringF N due base k9 (cl (N.2.2 b) :: b :: a :: l) else none) b = none from if_neg (fun h => by rw [ringB_m] at h; rw [h_55] at h; cases h.1))] at h2; exact h2)
      · refine v_aload_n O dX3_rings_58 rfl 0 rfl ?_
        refine v_iload O dX3_rings_59 4 rfl ?_
        refine v_iload O dX3_rings_61 5 rfl ?_
        refine v_callV (as := [.int (nI a), .int (nI b)]) (rest := []) O (c_X3_weight hG hR hE (by first | omega | exact hn) (a := a) (b := b) (by omega) (by omega)) q1681 q1683 qs48 q77 q1684 hR.ob (show vcl[2]? = some (RX3, TX3, 27) from rfl) rfl mdX3_weight rfl (by decide) (by omega) (by omega) (by omega) (Nat.le_of_ble_eq_true rfl) rfl dX3_rings_63 (fun v9 σ9 hp9 => ?_) (fun _ _ _ h => False.elim h)
        obtain ⟨rfl, hs9⟩ := hp9
        obtain rfl := hs9.symm
        refine v_iconst (v := (-1)) O dX3_rings_66 (by decide) ?_
        refine v_icmp_eq (tgt := 146) O dX3_rings_67 (by decide) (fun h_67 => ?_) (fun h_67 => ?_)
        · refine v_iinc (v := nI (b + 1)) (lv' := [(5, .int (nI (b + 1))), (0, .ref m), (1, .int (nI (l.length + 1))), (2, .int (nI due)), (3, .int (nI (msk (a :: l)))), (4, .int (nI a))]) O hN dX3_rings_146 5 rfl (nI_add b 1) (by decide) rfl ?_
          refine v_goto (tgt := 40) O dX3_rings_149 (by decide) ?_
          refine v_lv [1, 2, 3, 4, 5, 0] rfl ?_
          exact ih (b + 1) σ F' (by omega) (by omega) hR hf ho hk24 (by have e0 : N.1 - b = (N.1 - (b + 1)) + 1 := (by omega); rw [e0] at h2; rw [fsm_none (show (fun b => if ringB N (a :: l) b then ringF N due base k9 (cl (N.2.2 b) :: b :: a :: l) else none) b = none from if_neg (fun h => by rw [ringB_m] at h; exact absurd h.2.1 (by simp [ln, h_67])))] at h2; exact h2)
        · refine v_aload_n O dX3_rings_70 rfl 0 rfl ?_
          refine v_iload O dX3_rings_71 5 rfl ?_
          refine v_callV (as := [.int (nI b)]) (rest := []) O (c_X3_mate hG hR hE (by first | omega | exact hn) (a := b) (by omega)) q1705 q1707 qs50 q77 q1708 hR.ob (show vcl[2]? = some (RX3, TX3, 27) from rfl) rfl mdX3_mate rfl (by decide) (by omega) (by omega) (by omega) (Nat.le_of_ble_eq_true rfl) rfl dX3_rings_73 (fun v9 σ9 hp9 => ?_) (fun _ _ _ h => False.elim h)
          obtain ⟨rfl, hs9⟩ := hp9
          obtain rfl := hs9.symm
          refine v_iconst (v := (-1)) O dX3_rings_76 (by decide) ?_
          refine v_icmp_eq (tgt := 146) O dX3_rings_77 (by decide) (fun h_77 => ?_) (fun h_77 => ?_)
          · refine v_iinc (v := nI (b + 1)) (lv' := [(5, .int (nI (b + 1))), (0, .ref m), (1, .int (nI (l.length + 1))), (2, .int (nI due)), (3, .int (nI (msk (a :: l)))), (4, .int (nI a))]) O hN dX3_rings_146 5 rfl (nI_add b 1) (by decide) rfl ?_
            refine v_goto (tgt := 40) O dX3_rings_149 (by decide) ?_
            refine v_lv [1, 2, 3, 4, 5, 0] rfl ?_
            exact ih (b + 1) σ F' (by omega) (by omega) hR hf ho hk24 (by have e0 : N.1 - b = (N.1 - (b + 1)) + 1 := (by omega); rw [e0] at h2; rw [fsm_none (show (fun b => if ringB N (a :: l) b then ringF N due base k9 (cl (N.2.2 b) :: b :: a :: l) else none) b = none from if_neg (fun h => by rw [ringB_m] at h; exact h.2.2.1 h_77))] at h2; exact h2)
          · obtain ⟨c, hc, hbc, hcb, hwc⟩ := hN0.mate (a := b) (by omega) h_77
            have hcl : cl (N.2.2 b) = c := by rw [hbc]; exact nI_clamp (by omega)
            have hne : b ≠ c := fun e => by
              have h9 := hN0.2.2.2.1 b (by omega)
              rw [← e] at hwc
              exact hwc h9
            refine v_iload_n O dX3_rings_80 rfl 3 rfl ?_
            refine v_aload_n O dX3_rings_81 rfl 0 rfl ?_
            refine v_iload O dX3_rings_82 5 rfl ?_
            refine v_callV (as := [.int (nI b)]) (rest := [.int (nI (msk (a :: l)))]) O (c_X3_mate hG hR hE (by first | omega | exact hn) (a := b) (by omega)) q1705 q1707 qs50 q77 q1708 hR.ob (show vcl[2]? = some (RX3, TX3, 27) from rfl) rfl mdX3_mate rfl (by decide) (by omega) (by omega) (by omega) (Nat.le_of_ble_eq_true rfl) rfl dX3_rings_84 (fun v9 σ9 hp9 => ?_) (fun _ _ _ h => False.elim h)
            obtain ⟨rfl, hs9⟩ := hp9
            obtain rfl := hs9.symm
            rw [hbc]
            refine v_callS (as := [.int (nI (msk (a :: l))), .int (nI c)]) (rest := []) O (c_X3_has hG (s := msk (a :: l)) (k := c) (by omega) (by omega)) q1741 q1742 q77 q1743 mdX3_has rfl (by decide) (by omega) (by omega) (by omega) (Nat.le_of_ble_eq_true rfl) rfl dX3_rings_87 (fun v9 σ9 hp9 => ?_) (fun _ _ _ h => False.elim h)
            obtain ⟨rfl, hs9⟩ := hp9
            obtain rfl := hs9.symm
            refine v_if_eqB (tgt := 96) O dX3_rings_90 (by decide) (fun h_90 => ?_) (fun h_90 => ?_)
            · have h90 : (msk (a :: l)).testBit (cl (N.2.2 b)) = false := by rw [hcl]; exact h_90
              have hrg2 : RgL N (c :: b :: a :: l) := (hrg.add hn (by omega) h_55).add hn hc (by rw [msk, Nat.testBit_or, h_90, Nat.testBit_two_pow, decide_eq_false hne]; rfl)
              have hll3 : l.length + 1 + 1 + 1 ≤ 12 := (hrg2.lt hn).2
              refine v_aload_n O dX3_rings_96 rfl 0 rfl ?_
              refine v_getf (C := RX3) (T := TX3) (N := 27) (v := .ref (ad 24)) O in_X3 hR.ob rfl 24 (by decide) rfl q1516 rfl dX3_rings_97 ?_
              refine v_iload_n O dX3_rings_100 rfl 1 rfl ?_
              refine v_iload O dX3_rings_101 5 rfl ?_
              refine r_iast (K := layM) O hR 24 rfl (by omega) (by omega) dX3_rings_103 (fun σ1 hR1 hf1 => ?_)
              refine v_aload_n O dX3_rings_104 rfl 0 rfl ?_
              refine v_getf (C := RX3) (T := TX3) (N := 27) (v := .ref (ad 24)) O in_X3 hR1.ob rfl 24 (by decide) rfl q1516 rfl dX3_rings_105 ?_
              refine v_iload_n O dX3_rings_108 rfl 1 rfl ?_
              refine v_iconst (v := nI 1) O dX3_rings_109 (by decide) ?_
              refine v_iadd (z := nI ((l.length + 1) + 1)) O dX3_rings_110 (nI_add (l.length + 1) 1) ?_
              refine v_aload_n O dX3_rings_111 rfl 0 rfl ?_
              refine v_iload O dX3_rings_112 5 rfl ?_
              refine v_callV (as := [.int (nI b)]) (rest := [.int (nI ((l.length + 1) + 1)), .ref (ad 24)]) O (c_X3_mate hG hR1 hE (by first | omega | exact hn) (a := b) (by omega)) q1705 q1707 qs50 q77 q1708 hR1.ob (show vcl[2]? = some (RX3, TX3, 27) from rfl) rfl mdX3_mate rfl (by decide) (by omega) (by omega) (by omega) (Nat.le_of_ble_eq_true rfl) rfl dX3_rings_114 (fun v9 σ9 hp9 => ?_) (fun _ _ _ h => False.elim h)
              obtain ⟨rfl, hs9⟩ := hp9
              obtain rfl := hs9.symm
              rw [hbc]
              refine r_iast (K := layM) O hR1 24 rfl (by omega) (by omega) dX3_rings_117 (fun σ2 hR2 hf2 => ?_)
              refine v_aload_n O dX3_rings_118 rfl 0 rfl ?_
              refine v_iload_n O dX3_rings_119 rfl 1 rfl ?_
              refine v_iconst (v := nI 2) O dX3_rings_120 (by decide) ?_
              refine v_iadd (z := nI ((l.length + 1) + 2)) O dX3_rings_121 (nI_add (l.length + 1) 2) ?_
              refine v_iload_n O dX3_rings_122 rfl 2 rfl ?_
              refine v_iload_n O dX3_rings_123 rfl 3 rfl ?_
              refine v_iconst (v := nI 1) O dX3_rings_124 (by decide) ?_
              refine v_iload O dX3_rings_125 5 rfl ?_
              refine v_ishl (z := nI (2 ^ b)) O dX3_rings_127 (bx_shl1 (by omega)) ?_
              refine v_ior (z := nI ((msk (a :: l)) ||| (2 ^ b))) O dX3_rings_128 (bx_or (msk (a :: l)) (2 ^ b)) ?_
              refine v_iconst (v := nI 1) O dX3_rings_129 (by decide) ?_
              refine v_aload_n O dX3_rings_130 rfl 0 rfl ?_
              refine v_iload O dX3_rings_131 5 rfl ?_
              refine v_callV (as := [.int (nI b)]) (rest := [.int (nI 1), .int (nI ((msk (a :: l)) ||| (2 ^ b))), .int (nI due), .int (nI ((l.length + 1) + 2)), .ref m]) O (c_X3_mate hG hR2 hE (by first | omega | exact hn) (a := b) (by omega)) q1705 q1707 qs50 q77 q1708 hR2.ob (show vcl[2]? = some (RX3, TX3, 27) from rfl) rfl mdX3_mate rfl (by decide) (by omega) (by omega) (by omega) (Nat.le_of_ble_eq_true rfl) rfl dX3_rings_133 (fun v9 σ9 hp9 => ?_) (fun _ _ _ h => False.elim h)
              obtain ⟨rfl, hs9⟩ := hp9
              obtain rfl := hs9.symm
              rw [hbc]
              refine v_ishl (z := nI (2 ^ c)) O dX3_rings_136 (bx_shl1 (by omega)) ?_
              refine v_ior (z := nI (((msk (a :: l)) ||| (2 ^ b)) ||| (2 ^ c))) O dX3_rings_137 (bx_or ((msk (a :: l)) ||| (2 ^ b)) (2 ^ c)) ?_
              refine v_callV (as := [.int (nI ((l.length + 1) + 2)), .int (nI due), .int (nI (((msk (a :: l)) ||| (2 ^ b)) ||| (2 ^ c)))]) (rest := []) O (hrec hR2 hE hN0 hbs (show (va_up (va_up F' 24 (va_up (F' 24) (l.length + 1) (nI b))) 24 (va_up ((va_up (F' 24) (l.length + 1) (nI b))) ((l.length + 1) + 1) (nI c))) 24 0 = nI base from by rw [← h00, ← hk24 0 (by omega)]; simp [va_up, show ¬ 0 = l.length + 1 + 1 by omega]) (a := c) (l := b :: a :: l) (due := due) hrg2 (RowIs.congr (RowIs.put (l := b :: a :: l) (b := c) (RowIs.put (l := a :: l) (b := b) (hrow.congr hk24))) (fun j hj => by simp [va_up])) hdue (by simp only [List.length_cons]; omega)) q1776 q1778 qs61 q77 q1779 hR2.ob (show vcl[2]? = some (RX3, TX3, 27) from rfl) rfl mdX3_rings rfl (by decide) (by omega) (by omega) (by omega) (Nat.le_of_ble_eq_true rfl) rfl dX3_rings_138 (fun v9 σ4 hp9 => ?_) (fun _ _ _ h => False.elim h)
              obtain ⟨rfl, F3, hR3, hf3, ho3, hw3, hs3⟩ := hp9
              refine v_if_eqB (tgt := 146) O dX3_rings_141 (by decide) (fun h_141 => ?_) (fun h_141 => ?_)
              · refine v_iinc (v := nI (b + 1)) (lv' := [(5, .int (nI (b + 1))), (0, .ref m), (1, .int (nI (l.length + 1))), (2, .int (nI due)), (3, .int (nI (msk (a :: l)))), (4, .int (nI a))]) O hN dX3_rings_146 5 rfl (nI_add b 1) (by decide) rfl ?_
                refine v_goto (tgt := 40) O dX3_rings_149 (by decide) ?_
                refine v_lv [1, 2, 3, 4, 5, 0] rfl ?_
                exact ih (b + 1) _ _ (by omega) (by omega) hR3 (hf.trans ((hf1.trans hf2).trans hf3)) (fun j hj => by rw [ho3 j hj, ← ho j hj]; funext z; simp [va_up, hj]) (fun j hj => by rw [hw3 j (by simp only [List.length_cons]; omega), ← hk24 j hj]; simp [va_up, show ¬ j = l.length + 1 by omega, show ¬ j = l.length + 1 + 1 by omega]) (by have e0 : N.1 - b = (N.1 - (b + 1)) + 1 := (by omega); rw [e0] at h2; rw [fsm_none (show (fun b => if ringB N (a :: l) b then ringF N due base k9 (cl (N.2.2 b) :: b :: a :: l) else none) b = none from by simp only [if_pos (ringB_m.mpr ⟨h_55, decide_eq_true h_67, h_77, h90⟩), hcl]; exact isSome_f h_141)] at h2; exact h2)
              · obtain ⟨r, hr⟩ := isSome_t h_141
                have hr0 : r0 = some r := by
                  have e0 : N.1 - b = (N.1 - (b + 1)) + 1 := (by omega)
                  rw [e0, fsm_some (show (fun b => if ringB N (a :: l) b then ringF N due base k9 (cl (N.2.2 b) :: b :: a :: l) else none) b = some r from by simp only [if_pos (ringB_m.mpr ⟨h_55, decide_eq_true h_67, h_77, h90⟩), hcl]; exact hr)] at h2
                  exact h2.symm
                exact v_lv [0] rfl (kt r hr0 _ _ hR3 (hf.trans ((hf1.trans hf2).trans hf3)) (fun j hj => by rw [ho3 j hj, ← ho j hj]; funext z; simp [va_up, hj]) (fun j hj => by rw [hw3 j (by simp only [List.length_cons]; omega), ← hk24 j hj]; simp [va_up, show ¬ j = l.length + 1 by omega, show ¬ j = l.length + 1 + 1 by omega]) (hs3 r hr))
            · refine v_goto (tgt := 146) O dX3_rings_93 (by decide) ?_
              refine v_iinc (v := nI (b + 1)) (lv' := [(5, .int (nI (b + 1))), (0, .ref m), (1, .int (nI (l.length + 1))), (2, .int (nI due)), (3, .int (nI (msk (a :: l)))), (4, .int (nI a))]) O hN dX3_rings_146 5 rfl (nI_add b 1) (by decide) rfl ?_
              refine v_goto (tgt := 40) O dX3_rings_149 (by decide) ?_
              refine v_lv [1, 2, 3, 4, 5, 0] rfl ?_
              exact ih (b + 1) σ F' (by omega) (by omega) hR hf ho hk24 (by have e0 : N.1 - b = (N.1 - (b + 1)) + 1 := (by omega); rw [e0] at h2; rw [fsm_none (show (fun b => if ringB N (a :: l) b then ringF N due base k9 (cl (N.2.2 b) :: b :: a :: l) else none) b = none from if_neg (fun h => by rw [ringB_m] at h; rw [hcl, h_90] at h; cases h.2.2.2))] at h2; exact h2)
theorem s_X3_rings {G : vGC} (hG : vGok G) {k9 : Nat} (hrec : RinC G k9) {σ : vSt} {m : Nat} {ad : Nat → Nat} {I : Nat → Int32} {F : Nat → Nat → Int32} {L : Nat → Nat → Int64} (hR : RecAt layM σ m ad I F L) {N : NetM} (hE : Enc (F 9) N) (hN0 : okN N) {base : Nat} (hbs : base < N.1) (h00 : F 24 0 = nI base) {a due : Nat} {l : List Nat} (hrg : RgL N (a :: l)) (hrow : RowIs (F 24) (a :: l)) (hdue : due ≤ 12) (hk9 : 13 ≤ (k9 + 1) + (l.length + 1)) : Ct G yX3_rings (ws_ yX3_rings cX3_rings 6 (some .boolean)) (2 + (k9 + 1)) 0 0 σ [.ref m, .int (nI (l.length + 1)), .int (nI due), .int (nI (msk (a :: l)))] (fun v σ9 => v = some (.int (bI (ringF N due base (k9 + 1) (a :: l)).isSome)) ∧ ∃ F' : Nat → Nat → Int32, RecAt layM σ9 m ad I F' L ∧ FrL [m] σ σ9 ∧ (∀ j, j ≠ 24 → F' j = F j) ∧ (∀ j, j < l.length + 1 → F' 24 j = F 24 j) ∧ ∀ r, ringF N due base (k9 + 1) (a :: l) = some r → RowIs (F' 24) r) vNo := by
  refine ct_of hG (by decide) (Nat.le_of_ble_eq_true rfl) fun X hN O hnm htb => ?_
  show V G X _ 0 0 σ 0 [(0, .ref m), (1, .int (nI (l.length + 1))), (2, .int (nI due)), (3, .int (nI (msk (a :: l))))] []
  have hn := hN0.2.1
  obtain ⟨hmk, hll⟩ := hrg.lt hn
  have hll2 : l.length + 1 ≤ 12 := hll
  have ha : a < N.1 := hrg.1 a (List.mem_cons_self ..)
  refine v_aload_n O dX3_rings_0 rfl 0 rfl ?_
  refine v_getf (C := RX3) (T := TX3) (N := 27) (v := .ref (ad 24)) O in_X3 hR.ob rfl 24 (by decide) rfl q1516 rfl dX3_rings_1 ?_
  refine v_iload_n O dX3_rings_4 rfl 1 rfl ?_
  refine v_iconst (v := nI 1) O dX3_rings_5 (by decide) ?_
  refine v_isub (z := nI ((l.length + 1) - 1)) O dX3_rings_6 (pk_sub (by omega)) ?_
  refine v_iald (f := F 24) O (hR.ar 24 rfl) (by omega) (by omega) dX3_rings_7 ?_
  refine v_top (y := nI a) (by rw [Nat.add_sub_cancel]; exact hrow.1) ?_
  refine v_istore (lv' := [(4, .int (nI a)), (0, .ref m), (1, .int (nI (l.length + 1))), (2, .int (nI due)), (3, .int (nI (msk (a :: l))))]) O hN dX3_rings_8 (by decide) rfl ?_
  refine v_iload_n O dX3_rings_10 rfl 2 rfl ?_
  refine v_iload_n O dX3_rings_11 rfl 3 rfl ?_
  refine v_icmp_neN (tgt := 37) O dX3_rings_12 (by decide) (by omega) (by omega) (fun h_12 => ?_) (fun h_12 => ?_)
  · refine v_iconst (v := nI 0) O dX3_rings_37 (by decide) ?_
    refine v_istore (lv' := [(5, .int (nI 0)), (4, .int (nI a)), (0, .ref m), (1, .int (nI (l.length + 1))), (2, .int (nI due)), (3, .int (nI (msk (a :: l))))]) O hN dX3_rings_38 (by decide) rfl ?_
    refine v_lv [2, 3, 4, 5, 1, 0] rfl ?_
    refine l_X3_rings hG O hN (by omega) (by omega) (I := I) (F := F) (N := N) hE hN0 (r0 := ringF N due base (k9 + 1) (a :: l)) hrec hk9 hrg hrow hbs h00 hdue (fun hr σ6 F6 hR6 hf6 ho6 hk6 => ?_) (fun r hr σ6 F6 hR6 hf6 ho6 hk6 hw6 => ?_) (N.1 + 1) 0 _ F (by omega) (by omega) hR FrL.rf (fun _ _ => rfl) (fun _ _ => rfl) (by rw [ringF, if_neg (by simp only [List.length_cons]; omega)]; rfl)
    · refine v_iconst (v := nI 0) O dX3_rings_152 (by decide) ?_
      exact v_zret O rfl rfl dX3_rings_153 (by omega) (by omega) ⟨by rw [hr]; rfl, F6, hR6, hf6, ho6, hk6, fun r h9 => by rw [hr] at h9; cases h9⟩
    · refine v_iconst (v := nI 1) O dX3_rings_144 (by decide) ?_
      exact v_zret O rfl rfl dX3_rings_145 (by omega) (by omega) ⟨by rw [hr]; rfl, F6, hR6, hf6, ho6, hk6, fun r' h9 => by rw [hr] at h9; cases h9; exact hw6⟩
  · refine v_aload_n O dX3_rings_15 rfl 1 rfl ?_
    refine v_iload O dX3_rings_16 0 rfl ?_
    refine v_aload_n O dX3_rings_18 rfl 1 rfl ?_
    refine v_getf (C := RX3) (T := TX3) (N := 27) (v := .ref (ad 24)) O in_X3 hR.ob rfl 24 (by decide) rfl q1516 rfl dX3_rings_19 ?_
    refine v_iconst (v := nI 0) O dX3_rings_22 (by decide) ?_
    refine v_iald (f := F 24) O (hR.ar 24 rfl) (by omega) (by omega) dX3_rings_23 ?_
    refine v_top (y := nI base) h00 ?_
    refine v_callV (as := [.int (nI a), .int (nI base)]) (rest := []) O (c_X3_weight hG hR hE (by first | omega | exact hn) (a := a) (b := base) (by omega) (by omega)) q1681 q1683 qs48 q77 q1684 hR.ob (show vcl[2]? = some (RX3, TX3, 27) from rfl) rfl mdX3_weight rfl (by decide) (by omega) (by omega) (by omega) (Nat.le_of_ble_eq_true rfl) rfl dX3_rings_24 (fun v9 σ9 hp9 => ?_) (fun _ _ _ h => False.elim h)
    obtain ⟨rfl, hs9⟩ := hp9
    obtain rfl := hs9.symm
    refine v_iconst (v := (-1)) O dX3_rings_27 (by decide) ?_
    refine v_icmp_eq (tgt := 35) O dX3_rings_28 (by decide) (fun h_28 => ?_) (fun h_28 => ?_)
    · refine v_iconst (v := nI 0) O dX3_rings_35 (by decide) ?_
      exact v_zret (ty := .boolean) O rfl rfl dX3_rings_36 (by omega) (by omega) (by have e : ringF N due base (k9 + 1) (a :: l) = none := (by rw [ringF, if_pos (by simp only [List.length_cons]; omega)]; exact if_neg (by simp [hd0, ln, h_28])); rw [e]; exact ⟨rfl, F, hR, FrL.rf, fun _ _ => rfl, fun _ _ => rfl, fun r h => by cases h⟩)
    · refine v_iconst (v := nI 1) O dX3_rings_31 (by decide) ?_
      refine v_goto (tgt := 36) O dX3_rings_32 (by decide) ?_
      exact v_zret (ty := .boolean) O rfl rfl dX3_rings_36 (by omega) (by omega) (by have e : ringF N due base (k9 + 1) (a :: l) = some (a :: l) := (by rw [ringF, if_pos (by simp only [List.length_cons]; omega)]; exact if_pos (decide_eq_true h_28)); rw [e]; exact ⟨rfl, F, hR, FrL.rf, fun _ _ => rfl, fun _ _ => rfl, fun r h => by cases h; exact hrow⟩)
theorem c_X3_rings {G : vGC} (hG : vGok G) (k : Nat) : RinC G k := by
  induction k with
  | zero =>
    intro σ m ad I F L hR N hE hN0 base hbs h00 a due l hrg hrow hdue hk
    have h : l.length + 1 ≤ 12 := (hrg.lt hN0.2.1).2
    omega
  | succ k ih =>
    intro σ m ad I F L hR N hE hN0 base hbs h00 a due l hrg hrow hdue hk
    exact s_X3_rings hG ih hR hE hN0 hbs h00 hrg hrow hdue hk
theorem l_X3_findsPath {G : vGC} (hG : vGok G) {X : vCX} {Q : State → Prop} {c0 n0 : Nat} (O : vOk G X yX3_findsPath.cls cX3_findsPath (some .boolean) 15 0 0) (hN : xn X = 2) (hcm0 : c0 ≤ 0) (hsm0 : n0 ≤ 0) {σ0 : vSt} {m : Nat} {ad : Nat → Nat} {I : Nat → Int32} {F : Nat → Nat → Int32} {L : Nat → Nat → Int64} {N : NetM} (hE0 : Enc (F 9) N) (hN0 : okN N) {a : Nat} (ha : a < N.1) {r0 : Option (List Nat)} (kx : r0 = none → ∀ (σ : vSt) (I' : Nat → Int32) (F' : Nat → Nat → Int32), RecAt layM σ m ad I' F' L → FrL [m] σ0 σ → (∀ j, j ≠ 25 → I' j = I j) → (∀ j, j ≠ 24 → F' j = F j) → V G X Q c0 n0 σ 64 [(0, .ref m)] []) (kt : ∀ r, r0 = some r → ∀ (σ : vSt) (I' : Nat → Int32) (F' : Nat → Nat → Int32), RecAt layM σ m ad I' F' L → FrL [m] σ0 σ → (∀ j, j ≠ 25 → I' j = I j) → (∀ j, j ≠ 24 → F' j = F j) → I' 25 = nI r.length → RowIs (F' 24) r → V G X Q c0 n0 σ 49 [(0, .ref m)] []) : ∀ (k : Nat) (d : Nat) (σ : vSt) (I' : Nat → Int32) (F' : Nat → Nat → Int32), (d + 2 * k = 16) → (2 ≤ d) → (d ≤ 14) → (RecAt layM σ m ad I' F' L) → (FrL [m] σ0 σ) → (∀ j, j ≠ 25 → I' j = I j) → (∀ j, j ≠ 24 → F' j = F j) → (I' 25 = nI d) → (F' 24 0 = nI a) → (pthF N a k d = r0) → V G X Q c0 n0 σ 23 [(0, .ref m), (1, .int (nI a))] [] := by
  intro k
  induction k with
  | zero => intro d σ I' F' h0 h1 h1b hR hf hI ho hI25 h24 h2; exact absurd h0 (by omega)
  | succ k ih =>
    intro d σ I' F' h0 h1 h1b hR hf hI ho hI25 h24 h2
    have hn := hN0.2.1
    have hE : Enc (F' 9) N := by rw [ho 9 (by omega)]; exact hE0
    refine v_aload_n O dX3_findsPath_23 rfl 0 rfl ?_
    refine v_getf (C := RX3) (T := TX3) (N := 27) (v := .int (nI d)) O in_X3 hR.ob rfl 25 (by decide) rfl q1517 (congrArg (fun z => some (Value.int z)) hI25) dX3_findsPath_24 ?_
    refine v_aload_n O dX3_findsPath_27 rfl 0 rfl ?_
    refine v_callV (as := []) (rest := [.int (nI d)]) O (c_X3_nodes hG hR hE (by first | omega | exact hn)) q1677 q1679 qs47 q77 q1680 hR.ob (show vcl[2]? = some (RX3, TX3, 27) from rfl) rfl mdX3_nodes rfl (by decide) (by omega) (by omega) (by omega) (Nat.le_of_ble_eq_true rfl) rfl dX3_findsPath_28 (fun v9 σ9 hp9 => ?_) (fun _ _ _ h => False.elim h)
    obtain ⟨rfl, hs9⟩ := hp9
    obtain rfl := hs9.symm
    refine v_icmp_gtN (tgt := 64) O dX3_findsPath_31 (by decide) (by omega) (by omega) (fun h_31 => ?_) (fun h_31 => ?_)
    · rw [pthF, if_pos (by omega)] at h2
      exact v_lv [0] rfl (kx h2.symm σ I' F' hR hf hI ho)
    · refine v_aload_n O dX3_findsPath_34 rfl 0 rfl ?_
      refine v_iconst (v := nI 1) O dX3_findsPath_35 (by decide) ?_
      refine v_aload_n O dX3_findsPath_36 rfl 0 rfl ?_
      refine v_getf (C := RX3) (T := TX3) (N := 27) (v := .int (nI d)) O in_X3 hR.ob rfl 25 (by decide) rfl q1517 (congrArg (fun z => some (Value.int z)) hI25) dX3_findsPath_37 ?_
      refine v_iconst (v := nI 1) O dX3_findsPath_40 (by decide) ?_
      refine v_iload_n O dX3_findsPath_41 rfl 1 rfl ?_
      refine v_ishl (z := nI (2 ^ a)) O dX3_findsPath_42 (bx_shl1 (by omega)) ?_
      rw [← show msk [a] = 2 ^ a from by rw [msk, msk, Nat.zero_or]]
      refine v_callV (as := [.int (nI 1), .int (nI d), .int (nI (msk [a]))]) (rest := []) O (c_X3_betters hG 12 hR hE hn (a := a) (l := []) (due := d) (RgL.one hn ha) ⟨h24, trivial⟩ (by omega) (by simp)) q1737 q1739 qs55 q77 q1740 hR.ob (show vcl[2]? = some (RX3, TX3, 27) from rfl) rfl mdX3_betters rfl (by decide) (by omega) (by omega) (by omega) (Nat.le_of_ble_eq_true rfl) rfl dX3_findsPath_43 (fun v9 σ2 hp9 => ?_) (fun _ _ _ h => False.elim h)
      obtain ⟨rfl, F1, hR1, hf1, ho1, hw1, hs1⟩ := hp9
      refine v_if_eqB (tgt := 51) O dX3_findsPath_46 (by decide) (fun h_46 => ?_) (fun h_46 => ?_)
      · refine v_aload_n O dX3_findsPath_51 rfl 0 rfl ?_
        refine v_dup O dX3_findsPath_52 rfl ?_
        refine v_getf (C := RX3) (T := TX3) (N := 27) (v := .int (nI d)) O in_X3 hR1.ob rfl 25 (by decide) rfl q1517 (congrArg (fun z => some (Value.int z)) hI25) dX3_findsPath_53 ?_
        refine v_iconst (v := nI 2) O dX3_findsPath_56 (by decide) ?_
        refine v_iadd (z := nI (d + 2)) O dX3_findsPath_57 (nI_add d 2) ?_
        refine r_puti (K := layM) (I' := (va_up I' 25 (nI (d + 2)))) (ty0 := tyX3) O hR1 in_X3 tyX3_ok nmX3 (show vcl[2]? = some (RX3, TX3, 27) from rfl) 25 (by decide) rfl q1517 rfl (tyX3_ok 25 (by decide)) rfl rfl (Nat.le_of_ble_eq_true rfl) rfl dX3_findsPath_58 (fun σ3 hR3 hf3 => ?_)
        refine v_goto (tgt := 23) O dX3_findsPath_61 (by decide) ?_
        exact ih (d + 2) _ _ _ (by omega) (by omega) (by omega) hR3 (hf.trans (hf1.trans hf3)) (fun j hj => by rw [← hI j hj]; simp [va_up, hj]) (fun j hj => (ho1 j hj).trans (ho j hj)) (by simp [va_up]) ((hw1 0 (by simp)).trans h24) (by rw [pthF, if_neg (by omega), isSome_f h_46] at h2; exact h2)
      · obtain ⟨r, hr⟩ := isSome_t h_46
        have hr0 : r0 = some r := by
          rw [pthF, if_neg (by omega), hr] at h2
          exact h2.symm
        have hlr := (betF_len hn 12 [a] r (RgL.one hn ha) hr).1
        exact v_lv [0] rfl (kt r hr0 _ _ _ hR1 (hf.trans hf1) hI (fun j hj => (ho1 j hj).trans (ho j hj)) (by rw [hlr]; exact hI25) (hs1 r hr))
theorem c_X3_findsPath {G : vGC} (hG : vGok G) {σ : vSt} {m : Nat} {ad : Nat → Nat} {I : Nat → Int32} {F : Nat → Nat → Int32} {L : Nat → Nat → Int64} (hR : RecAt layM σ m ad I F L) {N : NetM} (hE : Enc (F 9) N) (hN0 : okN N) {a : Nat} (ha : a < N.1) : Ct G yX3_findsPath (ws_ yX3_findsPath cX3_findsPath 2 (some .boolean)) 15 0 0 σ [.ref m, .int (nI a)] (fun v σ9 => v = some (.int (bI (pathN N a).isSome)) ∧ ∃ (I' : Nat → Int32) (F' : Nat → Nat → Int32), RecAt layM σ9 m ad I' F' L ∧ FrL [m] σ σ9 ∧ (∀ j, j ≠ 25 → I' j = I j) ∧ (∀ j, j ≠ 24 → F' j = F j) ∧ ∀ r, pathN N a = some r → I' 25 = nI r.length ∧ RowIs (F' 24) r) vNo := by
  refine ct_of hG (by decide) (Nat.le_of_ble_eq_true rfl) fun X hN O hnm htb => ?_
  show V G X _ 0 0 σ 0 [(0, .ref m), (1, .int (nI a))] []
  have hn := hN0.2.1
  refine v_aload_n O dX3_findsPath_0 rfl 0 rfl ?_
  refine v_getf (C := RX3) (T := TX3) (N := 27) (v := .ref (ad 24)) O in_X3 hR.ob rfl 24 (by decide) rfl q1516 rfl dX3_findsPath_1 ?_
  refine v_iconst (v := nI 0) O dX3_findsPath_4 (by decide) ?_
  refine v_iload_n O dX3_findsPath_5 rfl 1 rfl ?_
  refine r_iast (K := layM) O hR 24 rfl (by omega) (by omega) dX3_findsPath_6 (fun σ1 hR1 hf1 => ?_)
  refine v_aload_n O dX3_findsPath_7 rfl 0 rfl ?_
  refine v_iload_n O dX3_findsPath_8 rfl 1 rfl ?_
  refine v_callV (as := [.int (nI a)]) (rest := []) O (c_X3_mate hG hR1 hE (by first | omega | exact hn) (a := a) (by omega)) q1705 q1707 qs50 q77 q1708 hR1.ob (show vcl[2]? = some (RX3, TX3, 27) from rfl) rfl mdX3_mate rfl (by decide) (by omega) (by omega) (by omega) (Nat.le_of_ble_eq_true rfl) rfl dX3_findsPath_9 (fun v9 σ9 hp9 => ?_) (fun _ _ _ h => False.elim h)
  obtain ⟨rfl, hs9⟩ := hp9
  obtain rfl := hs9.symm
  refine v_iconst (v := (-1)) O dX3_findsPath_12 (by decide) ?_
  refine v_icmp_eq (tgt := 18) O dX3_findsPath_13 (by decide) (fun h_13 => ?_) (fun h_13 => ?_)
  · refine v_aload_n O dX3_findsPath_18 rfl 0 rfl ?_
    refine v_iconst (v := nI 2) O dX3_findsPath_19 (by decide) ?_
    refine r_puti (K := layM) (I' := (va_up I 25 (nI 2))) (ty0 := tyX3) O hR1 in_X3 tyX3_ok nmX3 (show vcl[2]? = some (RX3, TX3, 27) from rfl) 25 (by decide) rfl q1517 rfl (tyX3_ok 25 (by decide)) rfl rfl (Nat.le_of_ble_eq_true rfl) rfl dX3_findsPath_20 (fun σ2 hR2 hf2 => ?_)
    have e0 : pathN N a = pthF N a 7 2 := if_pos h_13
    rw [e0]
    refine l_X3_findsPath hG O hN (by omega) (by omega) (I := I) (F := F) hE hN0 ha (fun hr σ6 I6 F6 hR6 hf6 hI6 ho6 => ?_) (fun r hr σ6 I6 F6 hR6 hf6 hI6 ho6 h625 hw6 => ?_) 7 2 _ _ _ (by omega) (by omega) (by omega) hR2 (hf1.trans hf2) (fun j hj => by simp [va_up, hj]) (fun j hj => by funext z; simp [va_up, hj]) (by simp [va_up]) (by simp [va_up]) rfl
    · refine v_iconst (v := nI 0) O dX3_findsPath_64 (by decide) ?_
      exact v_zret O rfl rfl dX3_findsPath_65 (by omega) (by omega) ⟨by rw [hr]; rfl, I6, F6, hR6, hf6, hI6, ho6, fun r h9 => by rw [hr] at h9; cases h9⟩
    · refine v_iconst (v := nI 1) O dX3_findsPath_49 (by decide) ?_
      exact v_zret O rfl rfl dX3_findsPath_50 (by omega) (by omega) ⟨by rw [hr]; rfl, I6, F6, hR6, hf6, hI6, ho6, fun r' h9 => by rw [hr] at h9; cases h9; exact ⟨h625, hw6⟩⟩
  · refine v_iconst (v := nI 0) O dX3_findsPath_16 (by decide) ?_
    exact v_zret (ty := .boolean) O rfl rfl dX3_findsPath_17 (by omega) (by omega) (by have e : pathN N a = none := if_neg h_13; rw [e]; exact ⟨rfl, I, _, hR1, hf1, fun _ _ => rfl, (fun j hj => by funext z; simp [va_up, hj]), fun r h => by cases h⟩)
theorem l_X3_findsFlower {G : vGC} (hG : vGok G) {X : vCX} {Q : State → Prop} {c0 n0 : Nat} (O : vOk G X yX3_findsFlower.cls cX3_findsFlower (some .boolean) 15 0 0) (hN : xn X = 2) (hcm0 : c0 ≤ 0) (hsm0 : n0 ≤ 0) {σ0 : vSt} {m : Nat} {ad : Nat → Nat} {I : Nat → Int32} {F : Nat → Nat → Int32} {L : Nat → Nat → Int64} {N : NetM} (hE0 : Enc (F 9) N) (hN0 : okN N) {a : Nat} (ha : a < N.1) {r0 : Option (List Nat)} (kx : r0 = none → ∀ (σ : vSt) (I' : Nat → Int32) (F' : Nat → Nat → Int32), RecAt layM σ m ad I' F' L → FrL [m] σ0 σ → (∀ j, j ≠ 25 → I' j = I j) → (∀ j, j ≠ 24 → F' j = F j) → V G X Q c0 n0 σ 53 [(0, .ref m)] []) (kt : ∀ r, r0 = some r → ∀ (σ : vSt) (I' : Nat → Int32) (F' : Nat → Nat → Int32), RecAt layM σ m ad I' F' L → FrL [m] σ0 σ → (∀ j, j ≠ 25 → I' j = I j) → (∀ j, j ≠ 24 → F' j = F j) → I' 25 = nI r.length → RowIs (F' 24) r → V G X Q c0 n0 σ 38 [(0, .ref m)] []) : ∀ (k : Nat) (d : Nat) (σ : vSt) (I' : Nat → Int32) (F' : Nat → Nat → Int32), (d + 2 * k = 17) → (3 ≤ d) → (d ≤ 14) → (RecAt layM σ m ad I' F' L) → (FrL [m] σ0 σ) → (∀ j, j ≠ 25 → I' j = I j) → (∀ j, j ≠ 24 → F' j = F j) → (I' 25 = nI d) → (F' 24 0 = nI a) → (flwF N a k d = r0) → V G X Q c0 n0 σ 12 [(0, .ref m), (1, .int (nI a))] [] := by
  intro k
  induction k with
  | zero => intro d σ I' F' h0 h1 h1b hR hf hI ho hI25 h24 h2; exact absurd h0 (by omega)
  | succ k ih =>
    intro d σ I' F' h0 h1 h1b hR hf hI ho hI25 h24 h2
    have hn := hN0.2.1
    have hE : Enc (F' 9) N := by rw [ho 9 (by omega)]; exact hE0
    refine v_aload_n O dX3_findsFlower_12 rfl 0 rfl ?_
    refine v_getf (C := RX3) (T := TX3) (N := 27) (v := .int (nI d)) O in_X3 hR.ob rfl 25 (by decide) rfl q1517 (congrArg (fun z => some (Value.int z)) hI25) dX3_findsFlower_13 ?_
    refine v_aload_n O dX3_findsFlower_16 rfl 0 rfl ?_
    refine v_callV (as := []) (rest := [.int (nI d)]) O (c_X3_nodes hG hR hE (by first | omega | exact hn)) q1677 q1679 qs47 q77 q1680 hR.ob (show vcl[2]? = some (RX3, TX3, 27) from rfl) rfl mdX3_nodes rfl (by decide) (by omega) (by omega) (by omega) (Nat.le_of_ble_eq_true rfl) rfl dX3_findsFlower_17 (fun v9 σ9 hp9 => ?_) (fun _ _ _ h => False.elim h)
    obtain ⟨rfl, hs9⟩ := hp9
    obtain rfl := hs9.symm
    refine v_icmp_gtN (tgt := 53) O dX3_findsFlower_20 (by decide) (by omega) (by omega) (fun h_20 => ?_) (fun h_20 => ?_)
    · rw [flwF, if_pos (by omega)] at h2
      exact v_lv [0] rfl (kx h2.symm σ I' F' hR hf hI ho)
    · refine v_aload_n O dX3_findsFlower_23 rfl 0 rfl ?_
      refine v_iconst (v := nI 1) O dX3_findsFlower_24 (by decide) ?_
      refine v_aload_n O dX3_findsFlower_25 rfl 0 rfl ?_
      refine v_getf (C := RX3) (T := TX3) (N := 27) (v := .int (nI d)) O in_X3 hR.ob rfl 25 (by decide) rfl q1517 (congrArg (fun z => some (Value.int z)) hI25) dX3_findsFlower_26 ?_
      refine v_iconst (v := nI 1) O dX3_findsFlower_29 (by decide) ?_
      refine v_iload_n O dX3_findsFlower_30 rfl 1 rfl ?_
      refine v_ishl (z := nI (2 ^ a)) O dX3_findsFlower_31 (bx_shl1 (by omega)) ?_
      rw [← show msk [a] = 2 ^ a from by rw [msk, msk, Nat.zero_or]]
      refine v_callV (as := [.int (nI 1), .int (nI d), .int (nI (msk [a]))]) (rest := []) O (c_X3_rings hG 12 hR hE hN0 ha h24 (a := a) (l := []) (due := d) (RgL.one hn ha) ⟨h24, trivial⟩ (by omega) (by simp)) q1776 q1778 qs61 q77 q1779 hR.ob (show vcl[2]? = some (RX3, TX3, 27) from rfl) rfl mdX3_rings rfl (by decide) (by omega) (by omega) (by omega) (Nat.le_of_ble_eq_true rfl) rfl dX3_findsFlower_32 (fun v9 σ2 hp9 => ?_) (fun _ _ _ h => False.elim h)
      obtain ⟨rfl, F1, hR1, hf1, ho1, hw1, hs1⟩ := hp9
      refine v_if_eqB (tgt := 40) O dX3_findsFlower_35 (by decide) (fun h_35 => ?_) (fun h_35 => ?_)
      · refine v_aload_n O dX3_findsFlower_40 rfl 0 rfl ?_
        refine v_dup O dX3_findsFlower_41 rfl ?_
        refine v_getf (C := RX3) (T := TX3) (N := 27) (v := .int (nI d)) O in_X3 hR1.ob rfl 25 (by decide) rfl q1517 (congrArg (fun z => some (Value.int z)) hI25) dX3_findsFlower_42 ?_
        refine v_iconst (v := nI 2) O dX3_findsFlower_45 (by decide) ?_
        refine v_iadd (z := nI (d + 2)) O dX3_findsFlower_46 (nI_add d 2) ?_
        refine r_puti (K := layM) (I' := (va_up I' 25 (nI (d + 2)))) (ty0 := tyX3) O hR1 in_X3 tyX3_ok nmX3 (show vcl[2]? = some (RX3, TX3, 27) from rfl) 25 (by decide) rfl q1517 rfl (tyX3_ok 25 (by decide)) rfl rfl (Nat.le_of_ble_eq_true rfl) rfl dX3_findsFlower_47 (fun σ3 hR3 hf3 => ?_)
        refine v_goto (tgt := 12) O dX3_findsFlower_50 (by decide) ?_
        exact ih (d + 2) _ _ _ (by omega) (by omega) (by omega) hR3 (hf.trans (hf1.trans hf3)) (fun j hj => by rw [← hI j hj]; simp [va_up, hj]) (fun j hj => (ho1 j hj).trans (ho j hj)) (by simp [va_up]) ((hw1 0 (by simp)).trans h24) (by rw [flwF, if_neg (by omega), isSome_f h_35] at h2; exact h2)
      · obtain ⟨r, hr⟩ := isSome_t h_35
        have hr0 : r0 = some r := by
          rw [flwF, if_neg (by omega), hr] at h2
          exact h2.symm
        have hlr := (ringF_len hN0 12 [a] r (RgL.one hn ha) hr).1
        exact v_lv [0] rfl (kt r hr0 _ _ _ hR1 (hf.trans hf1) hI (fun j hj => (ho1 j hj).trans (ho j hj)) (by rw [hlr]; exact hI25) (hs1 r hr))
theorem c_X3_findsFlower {G : vGC} (hG : vGok G) {σ : vSt} {m : Nat} {ad : Nat → Nat} {I : Nat → Int32} {F : Nat → Nat → Int32} {L : Nat → Nat → Int64} (hR : RecAt layM σ m ad I F L) {N : NetM} (hE : Enc (F 9) N) (hN0 : okN N) {a : Nat} (ha : a < N.1) : Ct G yX3_findsFlower (ws_ yX3_findsFlower cX3_findsFlower 2 (some .boolean)) 15 0 0 σ [.ref m, .int (nI a)] (fun v σ9 => v = some (.int (bI (flowN N a).isSome)) ∧ ∃ (I' : Nat → Int32) (F' : Nat → Nat → Int32), RecAt layM σ9 m ad I' F' L ∧ FrL [m] σ σ9 ∧ (∀ j, j ≠ 25 → I' j = I j) ∧ (∀ j, j ≠ 24 → F' j = F j) ∧ ∀ r, flowN N a = some r → I' 25 = nI r.length ∧ RowIs (F' 24) r) vNo := by
  refine ct_of hG (by decide) (Nat.le_of_ble_eq_true rfl) fun X hN O hnm htb => ?_
  show V G X _ 0 0 σ 0 [(0, .ref m), (1, .int (nI a))] []
  have hn := hN0.2.1
  refine v_aload_n O dX3_findsFlower_0 rfl 0 rfl ?_
  refine v_getf (C := RX3) (T := TX3) (N := 27) (v := .ref (ad 24)) O in_X3 hR.ob rfl 24 (by decide) rfl q1516 rfl dX3_findsFlower_1 ?_
  refine v_iconst (v := nI 0) O dX3_findsFlower_4 (by decide) ?_
  refine v_iload_n O dX3_findsFlower_5 rfl 1 rfl ?_
  refine r_iast (K := layM) O hR 24 rfl (by omega) (by omega) dX3_findsFlower_6 (fun σ1 hR1 hf1 => ?_)
  refine v_aload_n O dX3_findsFlower_7 rfl 0 rfl ?_
  refine v_iconst (v := nI 3) O dX3_findsFlower_8 (by decide) ?_
  refine r_puti (K := layM) (I' := (va_up I 25 (nI 3))) (ty0 := tyX3) O hR1 in_X3 tyX3_ok nmX3 (show vcl[2]? = some (RX3, TX3, 27) from rfl) 25 (by decide) rfl q1517 rfl (tyX3_ok 25 (by decide)) rfl rfl (Nat.le_of_ble_eq_true rfl) rfl dX3_findsFlower_9 (fun σ2 hR2 hf2 => ?_)
  have e0 : flowN N a = flwF N a 7 3 := rfl
  rw [e0]
  refine l_X3_findsFlower hG O hN (by omega) (by omega) (I := I) (F := F) hE hN0 ha (fun hr σ6 I6 F6 hR6 hf6 hI6 ho6 => ?_) (fun r hr σ6 I6 F6 hR6 hf6 hI6 ho6 h625 hw6 => ?_) 7 3 _ _ _ (by omega) (by omega) (by omega) hR2 (hf1.trans hf2) (fun j hj => by simp [va_up, hj]) (fun j hj => by funext z; simp [va_up, hj]) (by simp [va_up]) (by simp [va_up]) rfl
  · refine v_iconst (v := nI 0) O dX3_findsFlower_53 (by decide) ?_
    exact v_zret O rfl rfl dX3_findsFlower_54 (by omega) (by omega) ⟨by rw [hr]; rfl, I6, F6, hR6, hf6, hI6, ho6, fun r h9 => by rw [hr] at h9; cases h9⟩
  · refine v_iconst (v := nI 1) O dX3_findsFlower_38 (by decide) ?_
    exact v_zret O rfl rfl dX3_findsFlower_39 (by omega) (by omega) ⟨by rw [hr]; rfl, I6, F6, hR6, hf6, hI6, ho6, fun r' h9 => by rw [hr] at h9; cases h9; exact ⟨h625, hw6⟩⟩
