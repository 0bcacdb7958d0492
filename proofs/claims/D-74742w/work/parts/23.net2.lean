theorem mdX1_has : vMd yX1_has 2 := ⟨by decide +kernel, by decide +kernel, by decide +kernel⟩
theorem mdJ2_fill : vMd yJ2_fill 2 := ⟨by decide +kernel, by decide +kernel, by decide +kernel⟩
theorem mdX2_joins : vMd yX2_joins 3 := ⟨by decide +kernel, by decide +kernel, by decide +kernel⟩
theorem c_X2_joinsNew {G : vGC} (hG : vGok G) {σ : vSt} {h : Nat} {N : NetM} (hN0 : NetAt σ h N) (hn : N.1 ≤ 12) {a b : Nat} (ha : a < N.1) (hb : b < N.1) : Ct G yX2_joinsNew (ws_ yX2_joinsNew cX2_joinsNew 3 none) 2 0 0 σ [.ref h, .int (nI a), .int (nI b)] (fun v σ9 => v = none ∧ NetAt σ9 h (newW N a b) ∧ FrL [h] σ σ9) vNo := by
  refine ct_of hG (by decide) (Nat.le_of_ble_eq_true rfl) fun X hN O hnm htb => ?_
  show V G X _ 0 0 σ 0 [(0, .ref h), (1, .int (nI a)), (2, .int (nI b))] []
  obtain ⟨wa, ma, hob⟩ := hN0.ob
  refine v_aload_n O dX2_joinsNew_0 rfl 0 rfl ?_
  refine v_iload_n O dX2_joinsNew_1 rfl 1 rfl ?_
  refine v_iload_n O dX2_joinsNew_2 rfl 2 rfl ?_
  refine v_callV (as := [.int (nI a), .int (nI b)]) (rest := []) O (c_X2_isLine hG hN0 (by omega) (a := a) (b := b) (by omega) (by omega)) q1045 q281 q282 q75 q283 hob (show vcl[1]? = some (RX2, TX2, 3) from rfl) rfl mdX2_isLine rfl (by decide) (by omega) (by omega) (by omega) (Nat.le_of_ble_eq_true rfl) rfl dX2_joinsNew_3 (fun v9 σ9 hp9 => ?_) (fun _ _ _ h => False.elim h)
  obtain ⟨rfl, rfl⟩ := hp9
  refine v_if_neB (tgt := 16) O dX2_joinsNew_6 (by decide) (fun h_6 => ?_) (fun h_6 => ?_)
  · exact v_vret O rfl dX2_joinsNew_16 (by omega) (by omega) (⟨rfl, by rw [newW, if_pos h_6]; exact hN0, FrL.rf⟩)
  · refine v_aload_n O dX2_joinsNew_9 rfl 0 rfl ?_
    refine v_iload_n O dX2_joinsNew_10 rfl 1 rfl ?_
    refine v_iload_n O dX2_joinsNew_11 rfl 2 rfl ?_
    refine v_iconst (v := nI 1) O dX2_joinsNew_12 (by decide) ?_
    refine v_callV (as := [.int (nI a), .int (nI b), .int (nI 1)]) (rest := []) O (c_X2_joins hG hN0 (by omega) (a := a) (b := b) (w := nI 1) (by omega) (by omega)) q1046 q171 q172 q75 q173 hob (show vcl[1]? = some (RX2, TX2, 3) from rfl) rfl mdX2_joins rfl (by decide) (by omega) (by omega) (by omega) (Nat.le_of_ble_eq_true rfl) rfl dX2_joinsNew_13 (fun v9 σ2 hp9 => ?_) (fun _ _ _ h => False.elim h)
    obtain ⟨rfl, hN_1, hf_1⟩ := hp9
    obtain ⟨wa3, ma3, hob3⟩ := hN_1.ob
    exact v_vret O rfl dX2_joinsNew_16 (by omega) (by omega) (⟨rfl, by rw [newW, if_neg (by simp [h_6])]; exact hN_1, hf_1⟩)
theorem l_X2_odd_i {G : vGC} (hG : vGok G) {X : vCX} {Q : State → Prop} {c0 n0 : Nat} (O : vOk G X yX2_odd.cls cX2_odd (some .int) 3 0 0) (hN : xn X = 7) (hcm0 : c0 ≤ 0) (hsm0 : n0 ≤ 0) {σ : vSt} {h : Nat} {N : NetM} (hN0 : NetAt σ h N) (hn : N.1 ≤ 12) {z : Int32} {left m p0 was : Nat} (hl : left < 4096) (hp : p0 < 4096) (hws : was < 4096) (kx : V G X Q c0 n0 σ 80 [(0, .ref h), (1, .int z), (2, .int (nI left)), (3, .int (nI m)), (4, .int (nI (p0 ||| nbr N was left N.1))), (5, .int (nI was)), (6, .int (nI N.1))] []) : ∀ (k : Nat) (a : Nat) (part : Nat), (N.1 < a + k) → (a ≤ N.1) → (part = p0 ||| nbr N was left a) → V G X Q c0 n0 σ 38 [(0, .ref h), (1, .int z), (2, .int (nI left)), (3, .int (nI m)), (4, .int (nI part)), (5, .int (nI was)), (6, .int (nI a))] [] := by
  intro k
  induction k with
  | zero => intro a part h0 h1 h2; exact absurd h0 (by omega)
  | succ k ih =>
    intro a part h0 h1 h2
    obtain ⟨ad, I, F, L, hR, hn0, hw, hm⟩ := id hN0
    have h4 := @besN_4096 N a hn
    refine v_iload O dX2_odd_38 6 rfl ?_
    refine v_aload_n O dX2_odd_40 rfl 0 rfl ?_
    refine v_getf (C := RX2) (T := TX2) (N := 3) (v := .int (nI N.1)) O in_X2 hR.ob rfl 0 (by decide) rfl q149 (congrArg (fun z => some (Value.int z)) hn0) dX2_odd_41 ?_
    refine v_icmp_geN (tgt := 80) O dX2_odd_44 (by decide) (by omega) (by omega) (fun h_44 => ?_) (fun h_44 => ?_)
    · obtain rfl : a = N.1 := by omega
      subst h2
      exact kx
    · refine v_iload O dX2_odd_47 4 rfl ?_
      refine v_iload O dX2_odd_49 5 rfl ?_
      refine v_iload O dX2_odd_51 6 rfl ?_
      refine v_callSN (as := [.int (nI was), .int (nI a)]) (rest := [.int (nI part)]) O (c_X1_has hG (s := was) (k := a) (by omega) (by omega)) q1420 q271 q72 q272 mdX1_has rfl (by decide) (by omega) (by omega) (by omega) (Nat.le_of_ble_eq_true rfl) rfl dX2_odd_53 (fun v9 σ9 hp9 => ?_) (fun _ _ _ h => False.elim h)
      obtain ⟨rfl, rfl⟩ := hp9
      refine v_if_eqB (tgt := 70) O dX2_odd_56 (by decide) (fun h_56 => ?_) (fun h_56 => ?_)
      · refine v_iconst (v := nI 0) O dX2_odd_70 (by decide) ?_
        refine v_ior (z := nI (part ||| 0)) O dX2_odd_71 (bx_or part 0) ?_
        refine v_istore (lv' := [(4, .int (nI (part ||| 0))), (0, .ref h), (1, .int z), (2, .int (nI left)), (3, .int (nI m)), (5, .int (nI was)), (6, .int (nI a))]) O hN dX2_odd_72 (by decide) rfl ?_
        refine v_iinc (v := nI (a + 1)) (lv' := [(6, .int (nI (a + 1))), (4, .int (nI (part ||| 0))), (0, .ref h), (1, .int z), (2, .int (nI left)), (3, .int (nI m)), (5, .int (nI was))]) O hN dX2_odd_74 6 rfl (nI_add a 1) (by decide) rfl ?_
        refine v_goto (tgt := 38) O dX2_odd_77 (by decide) ?_
        refine v_lv [2, 3, 4, 5, 1, 6, 0] rfl ?_
        exact ih (a + 1) _ (by omega) (by omega) (by simp [nbr, h2, h_56, Nat.or_assoc])
      · refine v_aload_n O dX2_odd_59 rfl 0 rfl ?_
        refine v_iload O dX2_odd_60 6 rfl ?_
        refine v_callV (as := [.int (nI a)]) (rest := [.int (nI part)]) O (c_X2_beside hG hN0 (by omega) (a := a) (by omega)) q1136 q1137 q1138 q75 q1139 hR.ob (show vcl[1]? = some (RX2, TX2, 3) from rfl) rfl mdX2_beside rfl (by decide) (by omega) (by omega) (by omega) (Nat.le_of_ble_eq_true rfl) rfl dX2_odd_62 (fun v9 σ9 hp9 => ?_) (fun _ _ _ h => False.elim h)
        obtain ⟨rfl, rfl⟩ := hp9
        refine v_iload_n O dX2_odd_65 rfl 2 rfl ?_
        refine v_iand (z := nI ((besN N a) &&& left)) O dX2_odd_66 (bx_and (besN N a) left) ?_
        refine v_goto (tgt := 71) O dX2_odd_67 (by decide) ?_
        refine v_ior (z := nI (part ||| ((besN N a) &&& left))) O dX2_odd_71 (bx_or part ((besN N a) &&& left)) ?_
        refine v_istore (lv' := [(4, .int (nI (part ||| ((besN N a) &&& left)))), (0, .ref h), (1, .int z), (2, .int (nI left)), (3, .int (nI m)), (5, .int (nI was)), (6, .int (nI a))]) O hN dX2_odd_72 (by decide) rfl ?_
        refine v_iinc (v := nI (a + 1)) (lv' := [(6, .int (nI (a + 1))), (4, .int (nI (part ||| ((besN N a) &&& left)))), (0, .ref h), (1, .int z), (2, .int (nI left)), (3, .int (nI m)), (5, .int (nI was))]) O hN dX2_odd_74 6 rfl (nI_add a 1) (by decide) rfl ?_
        refine v_goto (tgt := 38) O dX2_odd_77 (by decide) ?_
        refine v_lv [2, 3, 4, 5, 1, 6, 0] rfl ?_
        exact ih (a + 1) _ (by omega) (by omega) (by simp [nbr, h2, h_56, Nat.or_assoc])
theorem l_X2_odd_m {G : vGC} (hG : vGok G) {X : vCX} {Q : State → Prop} {c0 n0 : Nat} (O : vOk G X yX2_odd.cls cX2_odd (some .int) 3 0 0) (hN : xn X = 7) (hcm0 : c0 ≤ 0) (hsm0 : n0 ≤ 0) {σ : vSt} {h : Nat} {N : NetM} (hN0 : NetAt σ h N) (hn : N.1 ≤ 12) {z : Int32} {left m p9 : Nat} (hl : left < 4096) (kx : V G X Q c0 n0 σ 83 [(0, .ref h), (1, .int z), (2, .int (nI left)), (3, .int (nI m)), (4, .int (nI p9)), (5, .int (nI p9))] []) : ∀ (k : Nat) (part : Nat) (was : Nat), (12 < pcn part + k) → (part < 4096) → (was < 4096) → (was ≠ part) → (clo N left k part = p9) → V G X Q c0 n0 σ 24 [(0, .ref h), (1, .int z), (2, .int (nI left)), (3, .int (nI m)), (4, .int (nI part)), (5, .int (nI was))] [] := by
  intro k
  induction k with
  | zero => intro part was h0 h1 h5 h2 h3; have := pcn_le part; omega
  | succ k ih =>
    intro part was h0 h1 h5 h2 h3
    have hpl := pcn_le part
    refine v_iload O dX2_odd_24 4 rfl ?_
    refine v_iload O dX2_odd_26 5 rfl ?_
    refine v_icmp_eqN (tgt := 83) O dX2_odd_28 (by decide) (by omega) (by omega) (fun h_28 => ?_) (fun h_28 => ?_)
    · exact absurd h_28 h2.symm
    · refine v_iload O dX2_odd_31 4 rfl ?_
      refine v_istore (lv' := [(5, .int (nI part)), (0, .ref h), (1, .int z), (2, .int (nI left)), (3, .int (nI m)), (4, .int (nI part))]) O hN dX2_odd_33 (by decide) rfl ?_
      refine v_iconst (v := nI 0) O dX2_odd_35 (by decide) ?_
      refine v_istore (lv' := [(6, .int (nI 0)), (5, .int (nI part)), (0, .ref h), (1, .int z), (2, .int (nI left)), (3, .int (nI m)), (4, .int (nI part))]) O hN dX2_odd_36 (by decide) rfl ?_
      refine v_lv [2, 3, 4, 5, 6, 1, 0] rfl ?_
      refine l_X2_odd_i hG O hN hcm0 hsm0 hN0 hn hl h1 h1 ?_ (N.1 + 1) 0 part (by omega) (by omega) (by simp [nbr])
      refine v_goto (tgt := 24) O dX2_odd_80 (by decide) ?_
      refine v_lv [0, 1, 2, 3, 4, 5] rfl ?_
      have h6 : part ||| nbr N part left N.1 < 4096 := or_lt h1 (nbr_lt hl _)
      by_cases e : part ||| nbr N part left N.1 = part
      · rw [clo, if_pos e] at h3
        subst h3
        rw [e]
        refine v_iload O dX2_odd_24 4 rfl ?_
        refine v_iload O dX2_odd_26 5 rfl ?_
        exact v_icmp_eqN (tgt := 83) O dX2_odd_28 (by decide) (by omega) (by omega) (fun _ => kx) (fun h => absurd rfl h)
      · rw [clo, if_neg e] at h3
        have h7 := pcn_lt h6 (or_sub part (nbr N part left N.1)) (fun q => e q.symm)
        exact ih _ _ (by omega) h6 h1 (fun q => e q.symm) h3
theorem l_X2_odd_o {G : vGC} (hG : vGok G) {X : vCX} {Q : State → Prop} {c0 n0 : Nat} (O : vOk G X yX2_odd.cls cX2_odd (some .int) 3 0 0) (hN : xn X = 7) (hcm0 : c0 ≤ 0) (hsm0 : n0 ≤ 0) {σ : vSt} {h : Nat} {N : NetM} (hN0 : NetAt σ h N) (hn : N.1 ≤ 12) {z : Int32} {m9 : Nat} (kx : ∀ left : Nat, V G X Q c0 n0 σ 103 [(0, .ref h), (1, .int z), (2, .int (nI left)), (3, .int (nI m9))] []) : ∀ (k : Nat) (left : Nat) (m : Nat), (pcn left < k) → (left < 4096) → (m + oddF N k left = m9) → V G X Q c0 n0 σ 11 [(0, .ref h), (1, .int z), (2, .int (nI left)), (3, .int (nI m))] [] := by
  intro k
  induction k with
  | zero => intro left m h0 h1 h2; exact absurd h0 (by omega)
  | succ k ih =>
    intro left m h0 h1 h2
    obtain ⟨wa, ma, hob⟩ := hN0.ob
    refine v_iload_n O dX2_odd_11 rfl 2 rfl ?_
    refine v_if_eqN (tgt := 103) O dX2_odd_12 (by decide) (by omega) (fun h_12 => ?_) (fun h_12 => ?_)
    · rw [oddF, if_pos h_12] at h2
      subst h2
      exact kx left
    · refine v_iload_n O dX2_odd_15 rfl 2 rfl ?_
      refine v_iload_n O dX2_odd_16 rfl 2 rfl ?_
      refine v_ineg (z := (-(nI left))) O dX2_odd_17 rfl ?_
      refine v_iand (z := nI (low left)) O dX2_odd_18 (low_ok left (by omega)) ?_
      refine v_istore (lv' := [(4, .int (nI (low left))), (0, .ref h), (1, .int z), (2, .int (nI left)), (3, .int (nI m))]) O hN dX2_odd_19 (by decide) rfl ?_
      refine v_iconst (v := nI 0) O dX2_odd_21 (by decide) ?_
      refine v_istore (lv' := [(5, .int (nI 0)), (4, .int (nI (low left))), (0, .ref h), (1, .int z), (2, .int (nI left)), (3, .int (nI m))]) O hN dX2_odd_22 (by decide) rfl ?_
      refine v_lv [2, 3, 4, 5, 1, 0] rfl ?_
      rcases low_in left h1 with h6 | ⟨h6, h7, h8⟩
      · exact absurd h6 h_12
      refine l_X2_odd_m hG O hN hcm0 hsm0 hN0 hn h1 ?_ 13 (low left) 0 (by omega) h8 (by omega) (fun q => h6 q.symm) rfl
      have h9 : clo N left 13 (low left) < 4096 := clo_lt h1 _ _ h8
      generalize hp : clo N left 13 (low left) = part at h9 ⊢
      have h10 := sd_lt_pcn h1 h_12 (part := part) (fun i hi => hp ▸ clo_sub 13 _ i hi)
      have h11 := @sd_lt left part h1
      have h12 := pcn_le part
      rw [oddF, if_neg h_12, hp] at h2
      refine v_iload_n O dX2_odd_83 rfl 2 rfl ?_
      refine v_iload O dX2_odd_84 4 rfl ?_
      refine v_iconst (v := (-1)) O dX2_odd_86 (by decide) ?_
      refine v_ixor (z := nI part ^^^ -1) O dX2_odd_87 rfl ?_
      refine v_iand (z := nI (sd left part)) O dX2_odd_88 (bx_sd (by omega) (by omega)) ?_
      refine v_istore_n (lv' := [(2, .int (nI (sd left part))), (0, .ref h), (1, .int z), (3, .int (nI m)), (4, .int (nI part)), (5, .int (nI part))]) O hN dX2_odd_89 rfl (by decide) rfl ?_
      refine v_iload_n O dX2_odd_90 rfl 3 rfl ?_
      refine v_iload O dX2_odd_91 4 rfl ?_
      refine v_callS (as := [.int (nI part)]) (rest := [.int (nI m)]) O (c_J17_bitCount hG (s := part) (by omega)) q1140 q521 q95 q522 mdJ17_bitCount rfl (by decide) (by omega) (by omega) (by omega) (Nat.le_of_ble_eq_true rfl) rfl dX2_odd_93 (fun v9 σ9 hp9 => ?_) (fun _ _ _ h => False.elim h)
      obtain ⟨rfl, rfl⟩ := hp9
      refine v_iconst (v := nI 2) O dX2_odd_96 (by decide) ?_
      refine v_irem (z := nI ((pcn part) % 2)) O dX2_odd_97 (by decide) (pk_rem (by omega) (by omega) (by omega)) ?_
      refine v_iadd (z := nI (m + ((pcn part) % 2))) O dX2_odd_98 (nI_add m ((pcn part) % 2)) ?_
      refine v_istore_n (lv' := [(3, .int (nI (m + ((pcn part) % 2)))), (2, .int (nI (sd left part))), (0, .ref h), (1, .int z), (4, .int (nI part)), (5, .int (nI part))]) O hN dX2_odd_99 rfl (by decide) rfl ?_
      refine v_goto (tgt := 11) O dX2_odd_100 (by decide) ?_
      refine v_lv [2, 3, 1, 0] rfl ?_
      exact ih _ _ (by omega) h11 (by rw [← h2]; omega)
theorem mdX2_all : vMd yX2_all 0 := ⟨by decide +kernel, by decide +kernel, by decide +kernel⟩
theorem c_X2_odd {G : vGC} (hG : vGok G) {σ : vSt} {h : Nat} {N : NetM} (hN0 : NetAt σ h N) (hn : N.1 ≤ 12) {set : Nat} (hs : set < 4096) : Ct G yX2_odd (ws_ yX2_odd cX2_odd 7 (some .int)) 3 0 0 σ [.ref h, .int (nI set)] (fun v σ9 => v = some (.int (nI (oddN N set))) ∧ σ9 = σ) vNo := by
  refine ct_of hG (by decide) (Nat.le_of_ble_eq_true rfl) fun X hN O hnm htb => ?_
  show V G X _ 0 0 σ 0 [(0, .ref h), (1, .int (nI set))] []
  obtain ⟨wa, ma, hob⟩ := hN0.ob
  have h4 := allN_lt hn
  refine v_aload_n O dX2_odd_0 rfl 0 rfl ?_
  refine v_callV (as := []) (rest := []) O (c_X2_all hG hN0 (by omega) ) q1419 q262 q263 q75 q264 hob (show vcl[1]? = some (RX2, TX2, 3) from rfl) rfl mdX2_all rfl (by decide) (by omega) (by omega) (by omega) (Nat.le_of_ble_eq_true rfl) rfl dX2_odd_1 (fun v9 σ9 hp9 => ?_) (fun _ _ _ h => False.elim h)
  obtain ⟨rfl, rfl⟩ := hp9
  refine v_iload_n O dX2_odd_4 rfl 1 rfl ?_
  refine v_iconst (v := (-1)) O dX2_odd_5 (by decide) ?_
  refine v_ixor (z := nI set ^^^ -1) O dX2_odd_6 rfl ?_
  refine v_iand (z := nI (sd (allN N) set)) O dX2_odd_7 (bx_sd (by omega) (by omega)) ?_
  refine v_istore_n (lv' := [(2, .int (nI (sd (allN N) set))), (0, .ref h), (1, .int (nI set))]) O hN dX2_odd_8 rfl (by decide) rfl ?_
  refine v_iconst (v := nI 0) O dX2_odd_9 (by decide) ?_
  refine v_istore_n (lv' := [(3, .int (nI 0)), (2, .int (nI (sd (allN N) set))), (0, .ref h), (1, .int (nI set))]) O hN dX2_odd_10 rfl (by decide) rfl ?_
  refine v_lv [2, 3, 1, 0] rfl ?_
  have h5 := @sd_lt (allN N) set h4
  refine l_X2_odd_o hG O hN (by omega) (by omega) hN0 hn (m9 := oddN N set) (fun left => ?_) 13 (sd (allN N) set) 0 (by have := pcn_le (sd (allN N) set); omega) h5 (by rw [Nat.zero_add]; rfl)
  refine v_iload_n O dX2_odd_103 rfl 3 rfl ?_
  exact v_iret O rfl dX2_odd_104 (by omega) (by omega) ⟨rfl, rfl⟩
