theorem besW_eq {N : NetM} {w x : Nat} : mk (fun y => w.testBit y && ln N x y) N.1 = besN N x &&& w := bits_ext fun i => by
  rw [mk_bit, Nat.testBit_and, besN_bit]
  cases decide (i < N.1) <;> cases w.testBit i <;> cases ln N x i <;> rfl
theorem l_X3_partOf_y {G : vGC} (hG : vGok G) {X : vCX} {Q : State → Prop} {c0 n0 : Nat} (O : vOk G X yX3_partOf.cls cX3_partOf (some .int) 2 0 0) (hN : xn X = 7) (hcm0 : c0 ≤ 0) (hsm0 : n0 ≤ 0) {σ : vSt} {m : Nat} {ad : Nat → Nat} {I : Nat → Int32} {F : Nat → Nat → Int32} {L : Nat → Nat → Int64} (hR : RecAt layM σ m ad I F L) {N : NetM} (hE : Enc (F 9) N) (hn : N.1 ≤ 12) {f w : Nat} (hw : w < 4096) {a p0 was : Nat} (ha : a < N.1) (hp : p0 < 4096) (hws : was < 4096) (hwx : was.testBit a = true) (kx : V G X Q c0 n0 σ 84 [(0, .ref m), (1, .int (nI f)), (2, .int (nI w)), (3, .int (nI (p0 ||| (besN N a &&& w)))), (4, .int (nI was)), (5, .int (nI a))] []) : ∀ (k : Nat) (y : Nat), (N.1 < y + k) → (y ≤ N.1) → V G X Q c0 n0 σ 31 [(0, .ref m), (1, .int (nI f)), (2, .int (nI w)), (3, .int (nI (p0 ||| mk (fun y => w.testBit y && ln N a y) y))), (4, .int (nI was)), (5, .int (nI a)), (6, .int (nI y))] [] := by
  intro k
  induction k with
  | zero => intro y h0 h1; exact absurd h0 (by omega)
  | succ k ih =>
    intro y h0 h1
    refine v_iload O dX3_partOf_31 6 rfl ?_
    refine v_aload_n O dX3_partOf_33 rfl 0 rfl ?_
    refine v_callV (as := []) (rest := [.int (nI y)]) O (c_X3_nodes hG hR hE (by first | omega | exact hn)) q1677 q1679 qs47 q77 q1680 hR.ob (show vcl[2]? = some (RX3, TX3, 27) from rfl) rfl mdX3_nodes rfl (by decide) (by omega) (by omega) (by omega) (Nat.le_of_ble_eq_true rfl) rfl dX3_partOf_34 (fun v9 σ9 hp9 => ?_) (fun _ _ _ h => False.elim h)
    obtain ⟨rfl, hs9⟩ := hp9
    obtain rfl := hs9.symm
    refine v_icmp_geN (tgt := 84) O dX3_partOf_37 (by decide) (by omega) (by omega) (fun h_37 => ?_) (fun h_37 => ?_)
    · obtain rfl : y = N.1 := by omega
      rw [besW_eq]
      exact v_lv [0, 1, 2, 3, 4, 5] rfl kx
    · refine v_iload O dX3_partOf_40 4 rfl ?_
      refine v_iload O dX3_partOf_42 5 rfl ?_
      refine v_callS (as := [.int (nI was), .int (nI a)]) (rest := []) O (c_X3_has hG (s := was) (k := a) (by omega) (by omega)) q1741 q1742 q77 q1743 mdX3_has rfl (by decide) (by omega) (by omega) (by omega) (Nat.le_of_ble_eq_true rfl) rfl dX3_partOf_44 (fun v9 σ9 hp9 => ?_) (fun _ _ _ h => False.elim h)
      obtain ⟨rfl, hs9⟩ := hp9
      obtain rfl := hs9.symm
      refine v_if_eqB (tgt := 84) O dX3_partOf_47 (by decide) (fun h_47 => ?_) (fun h_47 => ?_)
      · exact absurd h_47 (by rw [hwx]; decide)
      · refine v_iload_n O dX3_partOf_50 rfl 2 rfl ?_
        refine v_iload O dX3_partOf_51 6 rfl ?_
        refine v_callS (as := [.int (nI w), .int (nI y)]) (rest := []) O (c_X3_has hG (s := w) (k := y) (by omega) (by omega)) q1741 q1742 q77 q1743 mdX3_has rfl (by decide) (by omega) (by omega) (by omega) (Nat.le_of_ble_eq_true rfl) rfl dX3_partOf_53 (fun v9 σ9 hp9 => ?_) (fun _ _ _ h => False.elim h)
        obtain ⟨rfl, hs9⟩ := hp9
        obtain rfl := hs9.symm
        refine v_if_eqB (tgt := 78) O dX3_partOf_56 (by decide) (fun h_56 => ?_) (fun h_56 => ?_)
        · rw [mk_or1 (p := (fun y => w.testBit y && ln N a y)) (a := y) (by simp [h_56])]
          refine v_iinc (v := nI (y + 1)) (lv' := [(6, .int (nI (y + 1))), (0, .ref m), (1, .int (nI f)), (2, .int (nI w)), (3, .int (nI (p0 ||| mk (fun y => w.testBit y && ln N a y) (y + 1)))), (4, .int (nI was)), (5, .int (nI a))]) O hN dX3_partOf_78 6 rfl (nI_add y 1) (by decide) rfl ?_
          refine v_goto (tgt := 31) O dX3_partOf_81 (by decide) ?_
          refine v_lv [1, 2, 3, 4, 5, 6, 0] rfl ?_
          exact ih (y + 1) (by omega) (by omega)
        · refine v_aload_n O dX3_partOf_59 rfl 0 rfl ?_
          refine v_iload O dX3_partOf_60 5 rfl ?_
          refine v_iload O dX3_partOf_62 6 rfl ?_
          refine v_callV (as := [.int (nI a), .int (nI y)]) (rest := []) O (c_X3_weight hG hR hE (by first | omega | exact hn) (a := a) (b := y) (by omega) (by omega)) q1681 q1683 qs48 q77 q1684 hR.ob (show vcl[2]? = some (RX3, TX3, 27) from rfl) rfl mdX3_weight rfl (by decide) (by omega) (by omega) (by omega) (Nat.le_of_ble_eq_true rfl) rfl dX3_partOf_64 (fun v9 σ9 hp9 => ?_) (fun _ _ _ h => False.elim h)
          obtain ⟨rfl, hs9⟩ := hp9
          obtain rfl := hs9.symm
          refine v_iconst (v := (-1)) O dX3_partOf_67 (by decide) ?_
          refine v_icmp_eq (tgt := 78) O dX3_partOf_68 (by decide) (fun h_68 => ?_) (fun h_68 => ?_)
          · rw [mk_or1 (p := (fun y => w.testBit y && ln N a y)) (a := y) (by simp [h_56, h_68, ln])]
            refine v_iinc (v := nI (y + 1)) (lv' := [(6, .int (nI (y + 1))), (0, .ref m), (1, .int (nI f)), (2, .int (nI w)), (3, .int (nI (p0 ||| mk (fun y => w.testBit y && ln N a y) (y + 1)))), (4, .int (nI was)), (5, .int (nI a))]) O hN dX3_partOf_78 6 rfl (nI_add y 1) (by decide) rfl ?_
            refine v_goto (tgt := 31) O dX3_partOf_81 (by decide) ?_
            refine v_lv [1, 2, 3, 4, 5, 6, 0] rfl ?_
            exact ih (y + 1) (by omega) (by omega)
          · refine v_iload_n O dX3_partOf_71 rfl 3 rfl ?_
            refine v_iconst (v := nI 1) O dX3_partOf_72 (by decide) ?_
            refine v_iload O dX3_partOf_73 6 rfl ?_
            refine v_ishl (z := nI (2 ^ y)) O dX3_partOf_75 (bx_shl1 (by omega)) ?_
            refine v_ior (z := nI (p0 ||| mk (fun y => w.testBit y && ln N a y) (y + 1))) O dX3_partOf_76 ((bx_or _ _).trans (congrArg nI (by rw [Nat.or_assoc, mk_or (by simp [h_56, ln, h_68])]))) ?_
            refine v_istore_n (lv' := [(3, .int (nI (p0 ||| mk (fun y => w.testBit y && ln N a y) (y + 1)))), (0, .ref m), (1, .int (nI f)), (2, .int (nI w)), (4, .int (nI was)), (5, .int (nI a)), (6, .int (nI y))]) O hN dX3_partOf_77 rfl (by decide) rfl ?_
            refine v_iinc (v := nI (y + 1)) (lv' := [(6, .int (nI (y + 1))), (3, .int (nI (p0 ||| mk (fun y => w.testBit y && ln N a y) (y + 1)))), (0, .ref m), (1, .int (nI f)), (2, .int (nI w)), (4, .int (nI was)), (5, .int (nI a))]) O hN dX3_partOf_78 6 rfl (nI_add y 1) (by decide) rfl ?_
            refine v_goto (tgt := 31) O dX3_partOf_81 (by decide) ?_
            refine v_lv [2, 3, 4, 1, 5, 6, 0] rfl ?_
            exact ih (y + 1) (by omega) (by omega)
theorem l_X3_partOf_x {G : vGC} (hG : vGok G) {X : vCX} {Q : State → Prop} {c0 n0 : Nat} (O : vOk G X yX3_partOf.cls cX3_partOf (some .int) 2 0 0) (hN : xn X = 7) (hcm0 : c0 ≤ 0) (hsm0 : n0 ≤ 0) {σ : vSt} {m : Nat} {ad : Nat → Nat} {I : Nat → Int32} {F : Nat → Nat → Int32} {L : Nat → Nat → Int64} (hR : RecAt layM σ m ad I F L) {N : NetM} (hE : Enc (F 9) N) (hn : N.1 ≤ 12) {f w : Nat} (hw : w < 4096) {p0 was : Nat} (hp : p0 < 4096) (hws : was < 4096) (kx : V G X Q c0 n0 σ 90 [(0, .ref m), (1, .int (nI f)), (2, .int (nI w)), (3, .int (nI (p0 ||| nbr N was w N.1))), (4, .int (nI was))] []) : ∀ (k : Nat) (a : Nat) (part : Nat), (N.1 < a + k) → (a ≤ N.1) → (part = p0 ||| nbr N was w a) → V G X Q c0 n0 σ 19 [(0, .ref m), (1, .int (nI f)), (2, .int (nI w)), (3, .int (nI part)), (4, .int (nI was)), (5, .int (nI a))] [] := by
  intro k
  induction k with
  | zero => intro a part h0 h1 h2; exact absurd h0 (by omega)
  | succ k ih =>
    intro a part h0 h1 h2
    subst h2
    refine v_iload O dX3_partOf_19 5 rfl ?_
    refine v_aload_n O dX3_partOf_21 rfl 0 rfl ?_
    refine v_callV (as := []) (rest := [.int (nI a)]) O (c_X3_nodes hG hR hE (by first | omega | exact hn)) q1677 q1679 qs47 q77 q1680 hR.ob (show vcl[2]? = some (RX3, TX3, 27) from rfl) rfl mdX3_nodes rfl (by decide) (by omega) (by omega) (by omega) (Nat.le_of_ble_eq_true rfl) rfl dX3_partOf_22 (fun v9 σ9 hp9 => ?_) (fun _ _ _ h => False.elim h)
    obtain ⟨rfl, hs9⟩ := hp9
    obtain rfl := hs9.symm
    refine v_icmp_geN (tgt := 90) O dX3_partOf_25 (by decide) (by omega) (by omega) (fun h_25 => ?_) (fun h_25 => ?_)
    · obtain rfl : a = N.1 := by omega
      exact v_lv [0, 1, 2, 3, 4] rfl kx
    · refine v_iconst (v := nI 0) O dX3_partOf_28 (by decide) ?_
      refine v_istore (lv' := [(6, .int (nI 0)), (0, .ref m), (1, .int (nI f)), (2, .int (nI w)), (3, .int (nI (p0 ||| nbr N was w a))), (4, .int (nI was)), (5, .int (nI a))]) O hN dX3_partOf_29 (by decide) rfl ?_
      refine v_lv [1, 2, 3, 4, 5, 6, 0] rfl ?_
      by_cases hwx : was.testBit a = true
      · have e0 : p0 ||| nbr N was w a ||| mk (fun y => w.testBit y && ln N a y) 0 = p0 ||| nbr N was w a := by rw [mk, Nat.or_zero]
        rw [← e0]
        refine l_X3_partOf_y hG O hN hcm0 hsm0 hR hE hn hw (p0 := p0 ||| nbr N was w a) (by omega) (or_lt hp (nbr_lt hw _)) hws hwx ?_ (N.1 + 1) 0 (by omega) (by omega)
        refine v_iinc (v := nI (a + 1)) (lv' := [(5, .int (nI (a + 1))), (0, .ref m), (1, .int (nI f)), (2, .int (nI w)), (3, .int (nI (p0 ||| nbr N was w a ||| (besN N a &&& w)))), (4, .int (nI was))]) O hN dX3_partOf_84 5 rfl (nI_add a 1) (by decide) rfl ?_
        refine v_goto (tgt := 19) O dX3_partOf_87 (by decide) ?_
        refine v_lv [1, 2, 3, 4, 5, 0] rfl ?_
        exact ih (a + 1) _ (by omega) (by omega) (by rw [nbr, if_pos hwx, Nat.or_assoc])
      · have hwx : was.testBit a = false := by simpa using hwx
        refine v_iload O dX3_partOf_31 6 rfl ?_
        refine v_aload_n O dX3_partOf_33 rfl 0 rfl ?_
        refine v_callV (as := []) (rest := [.int (nI 0)]) O (c_X3_nodes hG hR hE (by first | omega | exact hn)) q1677 q1679 qs47 q77 q1680 hR.ob (show vcl[2]? = some (RX3, TX3, 27) from rfl) rfl mdX3_nodes rfl (by decide) (by omega) (by omega) (by omega) (Nat.le_of_ble_eq_true rfl) rfl dX3_partOf_34 (fun v9 σ9 hp9 => ?_) (fun _ _ _ h => False.elim h)
        obtain ⟨rfl, hs9⟩ := hp9
        obtain rfl := hs9.symm
        refine v_icmp_geN (tgt := 84) O dX3_partOf_37 (by decide) (by omega) (by omega) (fun h_37 => ?_) (fun h_37 => ?_)
        · exact absurd h_37 (by omega)
        · refine v_iload O dX3_partOf_40 4 rfl ?_
          refine v_iload O dX3_partOf_42 5 rfl ?_
          refine v_callS (as := [.int (nI was), .int (nI a)]) (rest := []) O (c_X3_has hG (s := was) (k := a) (by omega) (by omega)) q1741 q1742 q77 q1743 mdX3_has rfl (by decide) (by omega) (by omega) (by omega) (Nat.le_of_ble_eq_true rfl) rfl dX3_partOf_44 (fun v9 σ9 hp9 => ?_) (fun _ _ _ h => False.elim h)
          obtain ⟨rfl, hs9⟩ := hp9
          obtain rfl := hs9.symm
          refine v_if_eqB (tgt := 84) O dX3_partOf_47 (by decide) (fun h_47 => ?_) (fun h_47 => ?_)
          · refine v_iinc (v := nI (a + 1)) (lv' := [(5, .int (nI (a + 1))), (0, .ref m), (1, .int (nI f)), (2, .int (nI w)), (3, .int (nI (p0 ||| nbr N was w a))), (4, .int (nI was)), (6, .int (nI 0))]) O hN dX3_partOf_84 5 rfl (nI_add a 1) (by decide) rfl ?_
            refine v_goto (tgt := 19) O dX3_partOf_87 (by decide) ?_
            refine v_lv [1, 2, 3, 4, 5, 0] rfl ?_
            exact ih (a + 1) _ (by omega) (by omega) (by rw [nbr, hwx]; simp)
          · exact absurd h_47 (by rw [hwx]; decide)
theorem l_X3_partOf_m {G : vGC} (hG : vGok G) {X : vCX} {Q : State → Prop} {c0 n0 : Nat} (O : vOk G X yX3_partOf.cls cX3_partOf (some .int) 2 0 0) (hN : xn X = 7) (hcm0 : c0 ≤ 0) (hsm0 : n0 ≤ 0) {σ : vSt} {m : Nat} {ad : Nat → Nat} {I : Nat → Int32} {F : Nat → Nat → Int32} {L : Nat → Nat → Int64} (hR : RecAt layM σ m ad I F L) {N : NetM} (hE : Enc (F 9) N) (hn : N.1 ≤ 12) {f w : Nat} (hw : w < 4096) {p9 : Nat} (kx : V G X Q c0 n0 σ 93 [(0, .ref m), (1, .int (nI f)), (2, .int (nI w)), (3, .int (nI p9)), (4, .int (nI p9))] []) : ∀ (k : Nat) (part : Nat) (was : Nat), (12 < pcn part + k) → (part < 4096) → (was < 4096) → (was ≠ part) → (clo N w k part = p9) → V G X Q c0 n0 σ 7 [(0, .ref m), (1, .int (nI f)), (2, .int (nI w)), (3, .int (nI part)), (4, .int (nI was))] [] := by
  intro k
  induction k with
  | zero => intro part was h0 h1 h5 h2 h3; have := pcn_le part; omega
  | succ k ih =>
    intro part was h0 h1 h5 h2 h3
    have hpl := pcn_le part
    refine v_iload_n O dX3_partOf_7 rfl 3 rfl ?_
    refine v_iload O dX3_partOf_8 4 rfl ?_
    refine v_icmp_eqN (tgt := 93) O dX3_partOf_10 (by decide) (by omega) (by omega) (fun h_10 => ?_) (fun h_10 => ?_)
    · exact absurd h_10 h2.symm
    · refine v_iload_n O dX3_partOf_13 rfl 3 rfl ?_
      refine v_istore (lv' := [(4, .int (nI part)), (0, .ref m), (1, .int (nI f)), (2, .int (nI w)), (3, .int (nI part))]) O hN dX3_partOf_14 (by decide) rfl ?_
      refine v_iconst (v := nI 0) O dX3_partOf_16 (by decide) ?_
      refine v_istore (lv' := [(5, .int (nI 0)), (4, .int (nI part)), (0, .ref m), (1, .int (nI f)), (2, .int (nI w)), (3, .int (nI part))]) O hN dX3_partOf_17 (by decide) rfl ?_
      refine v_lv [2, 3, 4, 5, 1, 0] rfl ?_
      refine l_X3_partOf_x hG O hN hcm0 hsm0 hR hE hn hw h1 h1 ?_ (N.1 + 1) 0 part (by omega) (by omega) (by simp [nbr])
      refine v_goto (tgt := 7) O dX3_partOf_90 (by decide) ?_
      have h6 : part ||| nbr N part w N.1 < 4096 := or_lt h1 (nbr_lt hw _)
      by_cases e : part ||| nbr N part w N.1 = part
      · rw [clo, if_pos e] at h3
        subst h3
        rw [e]
        refine v_iload_n O dX3_partOf_7 rfl 3 rfl ?_
        refine v_iload O dX3_partOf_8 4 rfl ?_
        exact v_icmp_eqN (tgt := 93) O dX3_partOf_10 (by decide) (by omega) (by omega) (fun _ => kx) (fun h => absurd rfl h)
      · rw [clo, if_neg e] at h3
        have h7 := pcn_lt h6 (or_sub part (nbr N part w N.1)) (fun q => e q.symm)
        exact ih _ _ (by omega) h6 h1 (fun q => e q.symm) h3
theorem c_X3_partOf {G : vGC} (hG : vGok G) {σ : vSt} {m : Nat} {ad : Nat → Nat} {I : Nat → Int32} {F : Nat → Nat → Int32} {L : Nat → Nat → Int64} (hR : RecAt layM σ m ad I F L) {N : NetM} (hE : Enc (F 9) N) (hn : N.1 ≤ 12) {f w : Nat} (hw : w < 4096) (hf : f < 12) : Ct G yX3_partOf (ws_ yX3_partOf cX3_partOf 7 (some .int)) 2 0 0 σ [.ref m, .int (nI f), .int (nI w)] (fun v σ9 => v = some (.int (nI (clo N w 13 (2 ^ f)))) ∧ σ9 = σ) vNo := by
  refine ct_of hG (by decide) (Nat.le_of_ble_eq_true rfl) fun X hN O hnm htb => ?_
  show V G X _ 0 0 σ 0 [(0, .ref m), (1, .int (nI f)), (2, .int (nI w))] []
  have h2f : 2 ^ f < 4096 := Nat.pow_lt_pow_right (by omega) hf
  have h2p : 0 < 2 ^ f := Nat.pow_pos (by omega)
  refine v_iconst (v := nI 1) O dX3_partOf_0 (by decide) ?_
  refine v_iload_n O dX3_partOf_1 rfl 1 rfl ?_
  refine v_ishl (z := nI (2 ^ f)) O dX3_partOf_2 (bx_shl1 (by omega)) ?_
  refine v_istore_n (lv' := [(3, .int (nI (2 ^ f))), (0, .ref m), (1, .int (nI f)), (2, .int (nI w))]) O hN dX3_partOf_3 rfl (by decide) rfl ?_
  refine v_iconst (v := nI 0) O dX3_partOf_4 (by decide) ?_
  refine v_istore (lv' := [(4, .int (nI 0)), (3, .int (nI (2 ^ f))), (0, .ref m), (1, .int (nI f)), (2, .int (nI w))]) O hN dX3_partOf_5 (by decide) rfl ?_
  refine v_lv [2, 3, 4, 1, 0] rfl ?_
  refine l_X3_partOf_m hG O hN (by omega) (by omega) hR hE hn hw ?_ 13 (2 ^ f) 0 (by omega) h2f (by omega) (by omega) rfl
  refine v_iload_n O dX3_partOf_93 rfl 3 rfl ?_
  exact v_iret O rfl dX3_partOf_94 (by omega) (by omega) ⟨rfl, rfl⟩
theorem mdX3_partOf : vMd yX3_partOf 2 := ⟨by decide +kernel, by decide +kernel, by decide +kernel⟩
theorem mdX3_bits : vMd yX3_bits 1 := ⟨by decide +kernel, by decide +kernel, by decide +kernel⟩
theorem l_X3_oddOf {G : vGC} (hG : vGok G) {X : vCX} {Q : State → Prop} {c0 n0 : Nat} (O : vOk G X yX3_oddOf.cls cX3_oddOf (some .int) 3 0 0) (hN : xn X = 5) (hcm0 : c0 ≤ 0) (hsm0 : n0 ≤ 0) {σ : vSt} {m : Nat} {ad : Nat → Nat} {I : Nat → Int32} {F : Nat → Nat → Int32} {L : Nat → Nat → Int64} (hR : RecAt layM σ m ad I F L) {N : NetM} (hE : Enc (F 9) N) (hn : N.1 ≤ 12) {z : Int32} {m9 : Nat} (kx : ∀ left : Nat, V G X Q c0 n0 σ 46 [(0, .ref m), (1, .int z), (2, .int (nI left)), (3, .int (nI m9))] []) : ∀ (k : Nat) (left : Nat) (q : Nat), (pcn left < k) → (left < 4096) → (q + oddF N k left = m9) → V G X Q c0 n0 σ 11 [(0, .ref m), (1, .int z), (2, .int (nI left)), (3, .int (nI q))] [] := by
  intro k
  induction k with
  | zero => intro left q h0 h1 h2; exact absurd h0 (by omega)
  | succ k ih =>
    intro left q h0 h1 h2
    refine v_iload_n O dX3_oddOf_11 rfl 2 rfl ?_
    refine v_if_eqN (tgt := 46) O dX3_oddOf_12 (by decide) (by omega) (fun h_12 => ?_) (fun h_12 => ?_)
    · rw [oddF, if_pos h_12] at h2
      subst h2
      exact v_lv [0, 1, 2, 3] rfl (kx left)
    · obtain ⟨hs1, hs2, hs3, hs4⟩ := (fstb_ok left h1).resolve_left h_12
      have h8 : 2 ^ fstb left < 4096 := Nat.pow_lt_pow_right (by omega) hs2
      have h9 : clo N left 13 (2 ^ fstb left) < 4096 := clo_lt h1 _ _ h8
      have h10 := sd_lt_pcn h1 h_12 (part := clo N left 13 (2 ^ fstb left)) (fun i hi => by rw [hs3] at hi; exact clo_sub 13 _ i hi)
      have h11 := @sd_lt left (clo N left 13 (2 ^ fstb left)) h1
      have h12 := pcn_le (clo N left 13 (2 ^ fstb left))
      rw [oddF, if_neg h_12, hs3] at h2
      refine v_aload_n O dX3_oddOf_15 rfl 0 rfl ?_
      refine v_iload_n O dX3_oddOf_16 rfl 2 rfl ?_
      refine v_callS (as := [.int (nI left)]) (rest := [.ref m]) O (c_X3_first hG (s := left) (by omega) (by omega)) q1760 q1761 q77 q1762 mdX3_first rfl (by decide) (by omega) (by omega) (by omega) (Nat.le_of_ble_eq_true rfl) rfl dX3_oddOf_17 (fun v9 σ9 hp9 => ?_) (fun _ _ _ h => False.elim h)
      obtain ⟨rfl, hs9⟩ := hp9
      obtain rfl := hs9.symm
      refine v_iload_n O dX3_oddOf_20 rfl 2 rfl ?_
      refine v_callV (as := [.int (nI (fstb left)), .int (nI left)]) (rest := []) O (c_X3_partOf hG hR hE (by first | omega | exact hn) (f := fstb left) (w := left) (by omega) (by omega)) q1831 q1833 qs69 q77 q1834 hR.ob (show vcl[2]? = some (RX3, TX3, 27) from rfl) rfl mdX3_partOf rfl (by decide) (by omega) (by omega) (by omega) (Nat.le_of_ble_eq_true rfl) rfl dX3_oddOf_21 (fun v9 σ9 hp9 => ?_) (fun _ _ _ h => False.elim h)
      obtain ⟨rfl, hs9⟩ := hp9
      obtain rfl := hs9.symm
      refine v_istore (lv' := [(4, .int (nI (clo N left 13 (2 ^ (fstb left))))), (0, .ref m), (1, .int z), (2, .int (nI left)), (3, .int (nI q))]) O hN dX3_oddOf_24 (by decide) rfl ?_
      refine v_iload_n O dX3_oddOf_26 rfl 4 rfl ?_
      refine v_iload O dX3_oddOf_27 0 rfl ?_
      refine v_callS (as := [.int (nI (clo N left 13 (2 ^ (fstb left))))]) (rest := [.int (nI q)]) O (c_X3_bits hG (s := clo N left 13 (2 ^ (fstb left))) (by omega)) q1804 q1805 q77 q1806 mdX3_bits rfl (by decide) (by omega) (by omega) (by omega) (Nat.le_of_ble_eq_true rfl) rfl dX3_oddOf_29 (fun v9 σ9 hp9 => ?_) (fun _ _ _ h => False.elim h)
      obtain ⟨rfl, hs9⟩ := hp9
      obtain rfl := hs9.symm
      refine v_iconst (v := nI 2) O dX3_oddOf_32 (by decide) ?_
      refine v_irem (z := nI ((pcn (clo N left 13 (2 ^ (fstb left)))) % 2)) O dX3_oddOf_33 (by decide) (pk_rem (by omega) (by omega) (by omega)) ?_
      refine v_iadd (z := nI (q + ((pcn (clo N left 13 (2 ^ (fstb left)))) % 2))) O dX3_oddOf_34 (nI_add q ((pcn (clo N left 13 (2 ^ (fstb left)))) % 2)) ?_
      refine v_istore_n (lv' := [(3, .int (nI (q + ((pcn (clo N left 13 (2 ^ (fstb left)))) % 2)))), (4, .int (nI (clo N left 13 (2 ^ (fstb left))))), (0, .ref m), (1, .int z), (2, .int (nI left))]) O hN dX3_oddOf_35 rfl (by decide) rfl ?_
      refine v_iload_n O dX3_oddOf_36 rfl 4 rfl ?_
      refine v_iload O dX3_oddOf_37 1 rfl ?_
      refine v_iconst (v := (-1)) O dX3_oddOf_39 (by decide) ?_
      refine v_ixor (z := nI (clo N left 13 (2 ^ (fstb left))) ^^^ -1) O dX3_oddOf_40 rfl ?_
      refine v_iand (z := nI (sd left (clo N left 13 (2 ^ (fstb left))))) O dX3_oddOf_41 (bx_sd (by omega) (by first | omega | exact Nat.pow_lt_pow_right (by omega) (by omega))) ?_
      refine v_istore_n (lv' := [(2, .int (nI (sd left (clo N left 13 (2 ^ (fstb left)))))), (3, .int (nI (q + ((pcn (clo N left 13 (2 ^ (fstb left)))) % 2)))), (4, .int (nI (clo N left 13 (2 ^ (fstb left))))), (0, .ref m), (1, .int z)]) O hN dX3_oddOf_42 rfl (by decide) rfl ?_
      refine v_goto (tgt := 11) O dX3_oddOf_43 (by decide) ?_
      refine v_lv [3, 4, 0, 1] rfl ?_
      exact ih _ _ (by omega) h11 (by rw [← h2]; omega)
theorem c_X3_oddOf {G : vGC} (hG : vGok G) {σ : vSt} {m : Nat} {ad : Nat → Nat} {I : Nat → Int32} {F : Nat → Nat → Int32} {L : Nat → Nat → Int64} (hR : RecAt layM σ m ad I F L) {N : NetM} (hE : Enc (F 9) N) (hn : N.1 ≤ 12) {s : Nat} (hs : s < 4096) : Ct G yX3_oddOf (ws_ yX3_oddOf cX3_oddOf 5 (some .int)) 3 0 0 σ [.ref m, .int (nI s)] (fun v σ9 => v = some (.int (nI (oddN N s))) ∧ σ9 = σ) vNo := by
  refine ct_of hG (by decide) (Nat.le_of_ble_eq_true rfl) fun X hN O hnm htb => ?_
  show V G X _ 0 0 σ 0 [(0, .ref m), (1, .int (nI s))] []
  have h4 := allN_lt hn
  refine v_aload_n O dX3_oddOf_0 rfl 0 rfl ?_
  refine v_callV (as := []) (rest := []) O (c_X3_all hG hR hE (by first | omega | exact hn)) q1756 q1758 qs58 q77 q1759 hR.ob (show vcl[2]? = some (RX3, TX3, 27) from rfl) rfl mdX3_all rfl (by decide) (by omega) (by omega) (by omega) (Nat.le_of_ble_eq_true rfl) rfl dX3_oddOf_1 (fun v9 σ9 hp9 => ?_) (fun _ _ _ h => False.elim h)
  obtain ⟨rfl, hs9⟩ := hp9
  obtain rfl := hs9.symm
  refine v_iload_n O dX3_oddOf_4 rfl 1 rfl ?_
  refine v_iconst (v := (-1)) O dX3_oddOf_5 (by decide) ?_
  refine v_ixor (z := nI s ^^^ -1) O dX3_oddOf_6 rfl ?_
  refine v_iand (z := nI (sd (allN N) s)) O dX3_oddOf_7 (bx_sd (by omega) (by first | omega | exact Nat.pow_lt_pow_right (by omega) (by omega))) ?_
  refine v_istore_n (lv' := [(2, .int (nI (sd (allN N) s))), (0, .ref m), (1, .int (nI s))]) O hN dX3_oddOf_8 rfl (by decide) rfl ?_
  refine v_iconst (v := nI 0) O dX3_oddOf_9 (by decide) ?_
  refine v_istore_n (lv' := [(3, .int (nI 0)), (2, .int (nI (sd (allN N) s))), (0, .ref m), (1, .int (nI s))]) O hN dX3_oddOf_10 rfl (by decide) rfl ?_
  refine v_lv [2, 3, 1, 0] rfl ?_
  have h5 := @sd_lt (allN N) s h4
  refine l_X3_oddOf hG O hN (by omega) (by omega) hR hE hn (m9 := oddN N s) (fun left => ?_) 13 (sd (allN N) s) 0 (by have := pcn_le (sd (allN N) s); omega) h5 (by rw [Nat.zero_add]; rfl)
  refine v_iload_n O dX3_oddOf_46 rfl 3 rfl ?_
  exact v_iret O rfl dX3_oddOf_47 (by omega) (by omega) ⟨rfl, rfl⟩
theorem mdX3_oddOf : vMd yX3_oddOf 1 := ⟨by decide +kernel, by decide +kernel, by decide +kernel⟩
theorem c_X3_odd {G : vGC} (hG : vGok G) {σ : vSt} {m : Nat} {S : SysM} {t0 : Nat} (hA : ModAt σ m S t0) (hS : okS S) {x : Int32} : Ct G yX3_odd (ws_ yX3_odd cX3_odd 2 (some .int)) 4 0 0 σ [.ref m, .int x] (fun v σ9 => v = some (.int (opOdd S x).2.1) ∧ ModAt σ9 m (opOdd S x).2.2 (opOdd S x).1 ∧ FrL [m] σ σ9) vNo := by
  refine ct_of hG (by decide) (Nat.le_of_ble_eq_true rfl) fun X hN O hnm htb => ?_
  show V G X _ 0 0 σ 0 [(0, .ref m), (1, .int x)] []
  obtain ⟨ad, I, F, L, hR, hM⟩ := id hA
  have hd := okS.d S hS
  have hn1 : 1 ≤ (sN S).1 := hd.1
  have hn : (sN S).1 ≤ 12 := hd.2.1
  have hal := allN_lt hn
  refine v_aload_n O dX3_odd_0 rfl 0 rfl ?_
  refine v_iconst (v := nI 0) O dX3_odd_1 (by decide) ?_
  refine r_puti (K := layM) (I' := (va_up I 0 (nI 0))) (ty0 := tyX3) O hR in_X3 tyX3_ok nmX3 (show vcl[2]? = some (RX3, TX3, 27) from rfl) 0 (by decide) rfl q1492 rfl (tyX3_ok 0 (by decide)) rfl rfl (Nat.le_of_ble_eq_true rfl) rfl dX3_odd_2 (fun σ1 hR1 hf1 => ?_)
  refine v_aload_n O dX3_odd_5 rfl 0 rfl ?_
  refine v_iload_n O dX3_odd_6 rfl 1 rfl ?_
  refine v_iconst (v := nI 0) O dX3_odd_7 (by decide) ?_
  refine v_aload_n O dX3_odd_8 rfl 0 rfl ?_
  refine v_callV (as := []) (rest := [.int (nI 0), .int x, .ref m]) O (c_X3_all hG hR1 (hM.thr 0).e9 (by first | omega | exact hn)) q1756 q1758 qs58 q77 q1759 hR1.ob (show vcl[2]? = some (RX3, TX3, 27) from rfl) rfl mdX3_all rfl (by decide) (by omega) (by omega) (by omega) (Nat.le_of_ble_eq_true rfl) rfl dX3_odd_9 (fun v9 σ9 hp9 => ?_) (fun _ _ _ h => False.elim h)
  obtain ⟨rfl, hs9⟩ := hp9
  obtain rfl := hs9.symm
  refine v_callS (as := [.int x, .int (nI 0), .int (nI (allN (sN S)))]) (rest := [.ref m]) O (c_X3_in hG (x := x) (lo := nI 0) (hi := nI (allN (sN S)))) q1587 q1588 q77 q1589 mdX3_in rfl (by decide) (by omega) (by omega) (by omega) (Nat.le_of_ble_eq_true rfl) rfl dX3_odd_12 (fun v9 σ9 hp9 => ?_) (fun _ _ _ h => False.elim h)
  obtain ⟨rfl, hs9⟩ := hp9
  obtain rfl := hs9.symm
  refine v_if_neB (tgt := 22) O dX3_odd_15 (by decide) (fun h_15 => ?_) (fun h_15 => ?_)
  · have h12 := of_decide_eq_true h_15
    obtain ⟨j, hj, rfl⟩ := nI_of2 (n := allN (sN S)) (M := nI (allN (sN S))) (nI_toInt (by omega)) (Int32.not_lt.mpr h12.1) h12.2
    refine v_iconst (v := nI 0) O dX3_odd_22 (by decide) ?_
    refine v_iconst (v := nI 1) O dX3_odd_23 (by decide) ?_
    refine v_iconst (v := nI 1) O dX3_odd_24 (by decide) ?_
    refine v_callV (as := [.int (nI 0), .int (nI 1), .int (nI 1)]) (rest := []) O (c_X3_bad hG (p := false) (w := 1) (r := 1) hR1 (by omega) (by omega) rfl) q1590 q1592 qs32 q77 q1593 hR1.ob (show vcl[2]? = some (RX3, TX3, 27) from rfl) rfl mdX3_bad rfl (by decide) (by omega) (by omega) (by omega) (Nat.le_of_ble_eq_true rfl) rfl dX3_odd_25 (fun v9 σ3 hp9 => ?_) (fun _ _ _ h => False.elim h)
    obtain ⟨rfl, hR2, hf2⟩ := hp9
    replace hR2 : RecAt layM σ3 m ad (va_up I 0 (nI 0)) F L := hR2
    refine v_if_eqB (tgt := 35) O dX3_odd_28 (by decide) (fun h_28 => ?_) (fun h_28 => ?_)
    · refine v_aload_n O dX3_odd_35 rfl 0 rfl ?_
      refine v_iload_n O dX3_odd_36 rfl 1 rfl ?_
      refine v_callV (as := [.int (nI j)]) (rest := []) O (c_X3_oddOf hG hR2 (hM.thr 0).e9 (by first | omega | exact hn) (s := j) (by omega)) q1827 q1829 qs68 q77 q1830 hR2.ob (show vcl[2]? = some (RX3, TX3, 27) from rfl) rfl mdX3_oddOf rfl (by decide) (by omega) (by omega) (by omega) (Nat.le_of_ble_eq_true rfl) rfl dX3_odd_37 (fun v9 σ9 hp9 => ?_) (fun _ _ _ h => False.elim h)
      obtain ⟨rfl, hs9⟩ := hp9
      obtain rfl := hs9.symm
      exact v_iret O rfl dX3_odd_40 (by omega) (by omega) (by rw [show opOdd S (nI j) = (0, nI (oddN (sN S) j), S) from by rw [opOdd, if_pos h12]; rw [show cl (nI j) = j from nI_clamp (by omega)]]; exact ⟨rfl, ⟨ad, _, _, _, hR2, (hM.thr 0)⟩, (hf1.trans hf2)⟩)
    · exact absurd h_28 (by decide)
  · have h12 := of_decide_eq_false h_15
    refine v_iconst (v := nI 1) O dX3_odd_18 (by decide) ?_
    refine v_goto (tgt := 23) O dX3_odd_19 (by decide) ?_
    refine v_iconst (v := nI 1) O dX3_odd_23 (by decide) ?_
    refine v_iconst (v := nI 1) O dX3_odd_24 (by decide) ?_
    refine v_callV (as := [.int (nI 1), .int (nI 1), .int (nI 1)]) (rest := []) O (c_X3_bad hG (p := true) (w := 1) (r := 1) hR1 (by omega) (by omega) rfl) q1590 q1592 qs32 q77 q1593 hR1.ob (show vcl[2]? = some (RX3, TX3, 27) from rfl) rfl mdX3_bad rfl (by decide) (by omega) (by omega) (by omega) (Nat.le_of_ble_eq_true rfl) rfl dX3_odd_25 (fun v9 σ5 hp9 => ?_) (fun _ _ _ h => False.elim h)
    obtain ⟨rfl, hR4, hf4⟩ := hp9
    replace hR4 : RecAt layM σ5 m ad (va_up (va_up I 0 (nI 0)) 0 (nI 1)) (va_up F 1 (va_up (F 1) 1 ((F 1) 1 + nI 1))) L := hR4
    refine v_if_eqB (tgt := 35) O dX3_odd_28 (by decide) (fun h_28 => ?_) (fun h_28 => ?_)
    · exact absurd h_28 (by decide)
    · refine v_iconst (v := nI 0) O dX3_odd_31 (by decide) ?_
      refine v_goto (tgt := 40) O dX3_odd_32 (by decide) ?_
      exact v_iret O rfl dX3_odd_40 (by omega) (by omega) (by rw [show opOdd S x = (1, nI 0, refS S 1) from by rw [opOdd, if_neg h12]]; exact ⟨rfl, ⟨ad, _, _, _, hR4, (((hM.thr 0).rf (r := 1) (by omega)).thr 1)⟩, (hf1.trans hf4)⟩)
