theorem pcn_or_le {s a : Nat} : pcn (s ||| 2 ^ a) ≤ pcn s + 1 := by
  by_cases h : a < 12
  · by_cases e : s.testBit a = true
    · have : s ||| 2 ^ a = s := bits_ext fun i => by
        rw [Nat.testBit_or, Nat.testBit_two_pow]
        by_cases e2 : a = i
        · subst e2; rw [e]; rfl
        · rw [decide_eq_false e2, Bool.or_false]
      rw [this]; omega
    · rw [pcn_or (by simpa using e) h]; exact Nat.le_refl _
  · have : pcn (s ||| 2 ^ a) = pcn s := cnt_congr 12 fun i hi => by
      rw [Nat.testBit_or, Nat.testBit_two_pow, decide_eq_false (by omega), Bool.or_false]
    omega
theorem msk_le : ∀ l : List Nat, pcn (msk l) ≤ l.length
  | [] => by rw [msk, pcn_0]; exact Nat.le_refl _
  | a :: l => by
    have h1 := msk_le l
    have h2 := @pcn_or_le (msk l) a
    rw [msk, List.length_cons]
    omega
theorem msk_nodup : ∀ l : List Nat, pcn (msk l) = l.length → l.Nodup
  | [], _ => List.Pairwise.nil
  | a :: l, h => by
    have h1 := msk_le l
    have h2 := @pcn_or_le (msk l) a
    rw [msk, List.length_cons] at h
    refine List.nodup_cons.mpr ⟨fun hm => ?_, msk_nodup l (by omega)⟩
    have hb : (msk l).testBit a = true := by rw [msk_bit]; exact List.contains_iff_mem.mpr hm
    have : msk l ||| 2 ^ a = msk l := bits_ext fun i => by
      rw [Nat.testBit_or, Nat.testBit_two_pow]
      by_cases e2 : a = i
      · subst e2; rw [hb]; rfl
      · rw [decide_eq_false e2, Bool.or_false]
    rw [this] at h
    omega
theorem ringF_suf {N : NetM} {due base : Nat} : ∀ (f : Nat) (l r : List Nat), ringF N due base f l = some r → ∃ e, r = e ++ l
  | 0, l, r, h => by cases h
  | f + 1, l, r, h => by
    rw [ringF] at h
    by_cases e : l.length = due
    · rw [if_pos e] at h
      by_cases e2 : ln N (hd0 l) base = true
      · rw [if_pos e2] at h; cases h; exact ⟨[], rfl⟩
      · rw [if_neg e2] at h; cases h
    · rw [if_neg e] at h
      have key : ∀ (k i : Nat), fsm (fun b => if ringB N l b then ringF N due base f (cl (N.2.2 b) :: b :: l) else none) k i = some r → ∃ e, r = e ++ l := by
        intro k
        induction k with
        | zero => intro i h; cases h
        | succ k ih =>
          intro i h
          cases hg : (if ringB N l i then ringF N due base f (cl (N.2.2 i) :: i :: l) else none) with
          | none => rw [fsm_none hg] at h; exact ih (i + 1) h
          | some r' =>
            rw [fsm_some hg] at h
            cases h
            by_cases e3 : ringB N l i = true
            · rw [if_pos e3] at hg
              obtain ⟨e', he⟩ := ringF_suf f _ r hg
              exact ⟨e' ++ [cl (N.2.2 i), i], by rw [he]; simp⟩
            · rw [if_neg e3] at hg; cases hg
      exact key N.1 0 h
theorem flwF_suf {N : NetM} {a : Nat} {r : List Nat} : ∀ (f due : Nat), flwF N a f due = some r → ∃ e, r = e ++ [a]
  | 0, due, h => by cases h
  | f + 1, due, h => by
    rw [flwF] at h
    by_cases e : N.1 < due
    · rw [if_pos e] at h; cases h
    · rw [if_neg e] at h
      cases hb : ringF N due a 12 [a] with
      | none => rw [hb] at h; exact flwF_suf f (due + 2) h
      | some r' =>
        rw [hb] at h
        cases h
        exact ringF_suf 12 [a] r hb
theorem flow_base {N : NetM} {a : Nat} {r : List Nat} (h : flowN N a = some r) (hg : RgL N r) : ∀ j, 1 ≤ j → j < r.length → rowV r j ≠ a := by
  intro j h1 h2
  obtain ⟨e, rfl⟩ := flwF_suf 7 3 h
  have hnd := msk_nodup _ hg.2
  unfold rowV
  rw [List.reverse_append, List.reverse_singleton, List.singleton_append]
  obtain ⟨j', rfl⟩ : ∃ j', j = j' + 1 := ⟨j - 1, by omega⟩
  rw [List.getD_cons_succ]
  rw [List.length_append, List.length_singleton] at h2
  have h3 : j' < e.reverse.length := by rw [List.length_reverse]; omega
  rw [List.getD_eq_getElem?_getD, List.getElem?_eq_getElem h3]
  intro h4
  have h5 : e.reverse[j'] ∈ e := List.mem_reverse.mp (List.getElem_mem h3)
  have h6 : e.reverse[j'] = a := h4
  rw [h6] at h5
  exact (List.nodup_append.mp hnd).2.2 a h5 a (List.mem_singleton.mpr rfl) rfl
theorem PartE.of {M : NetM} {mt : Nat → Int32} {g nn : Nat} {f f' : Nat → Int32} {x x' y : Nat} (h : PartE M mt g nn f x x' y) (e : f' = f) : PartE M mt g nn f' x x' y := e ▸ h
theorem ModIs.redo {I : Nat → Int32} {F F' : Nat → Nat → Int32} {L : Nat → Nat → Int64} {S : SysM} {t : Nat} (h : ModIs I F L S t Enc) {N : NetM} (ho : ∀ j, j ≠ 9 → j ≠ 10 → j ≠ 26 → F' j = F j) (hE : Enc (F' 9) N) : ModIs (va_up I 19 (nI 0)) F' L (setN S N) t Enc := by
  obtain ⟨h0, h2, h5, h12, h8, h1, h9, hk, hL⟩ := h
  exact ⟨h0, h2, h5, h12, fun j hj => by rw [ho 8 (by omega) (by omega) (by omega)]; exact h8 j hj, fun j hj => by rw [ho 1 (by omega) (by omega) (by omega)]; exact h1 j hj, hE, fun i M hi => by rw [ho (100 + i) (by omega) (by omega) (by omega)]; exact hk i M hi, Or.inl rfl⟩
theorem mdX3_begins : vMd yX3_begins 1 := ⟨by decide +kernel, by decide +kernel, by decide +kernel⟩
theorem c_X3_shrink {G : vGC} (hG : vGok G) {σ : vSt} {m : Nat} {S : SysM} {t0 : Nat} (hA : ModAt σ m S t0) (hS : okS S) {x : Int32} : Ct G yX3_shrink (ws_ yX3_shrink cX3_shrink 6 (some .int)) 16 0 0 σ [.ref m, .int x] (fun v σ9 => v = some (.int (opShrink S x).2.1) ∧ ModAt σ9 m (opShrink S x).2.2 (opShrink S x).1 ∧ FrL [m] σ σ9) vNo := by
  refine ct_of hG (by decide) (Nat.le_of_ble_eq_true rfl) fun X hN O hnm htb => ?_
  show V G X _ 0 0 σ 0 [(0, .ref m), (1, .int x)] []
  obtain ⟨ad, I, F, L, hR, hM⟩ := id hA
  have hd := okS.d S hS
  have hn1 : 1 ≤ (sN S).1 := hd.1
  have hn : (sN S).1 ≤ 12 := hd.2.1
  refine v_aload_n O dX3_shrink_0 rfl 0 rfl ?_
  refine v_iconst (v := nI 0) O dX3_shrink_1 (by decide) ?_
  refine r_puti (K := layM) (I' := (va_up I 0 (nI 0))) (ty0 := tyX3) O hR in_X3 tyX3_ok nmX3 (show vcl[2]? = some (RX3, TX3, 27) from rfl) 0 (by decide) rfl q1492 rfl (tyX3_ok 0 (by decide)) rfl rfl (Nat.le_of_ble_eq_true rfl) rfl dX3_shrink_2 (fun σ1 hR1 hf1 => ?_)
  refine v_aload_n O dX3_shrink_5 rfl 0 rfl ?_
  refine v_aload_n O dX3_shrink_6 rfl 0 rfl ?_
  refine v_iload_n O dX3_shrink_7 rfl 1 rfl ?_
  refine v_callV (as := [.int x]) (rest := [.ref m]) O (c_X3_isNode hG hR1 (hM.thr 0).e9 (by first | omega | exact hn) (x := x) (by omega)) q1697 q1699 qs49 q77 q1700 hR1.ob (show vcl[2]? = some (RX3, TX3, 27) from rfl) rfl mdX3_isNode rfl (by decide) (by omega) (by omega) (by omega) (Nat.le_of_ble_eq_true rfl) rfl dX3_shrink_8 (fun v9 σ9 hp9 => ?_) (fun _ _ _ h => False.elim h)
  obtain ⟨rfl, hs9⟩ := hp9
  obtain rfl := hs9.symm
  refine v_if_neB (tgt := 18) O dX3_shrink_11 (by decide) (fun h_11 => ?_) (fun h_11 => ?_)
  · obtain ⟨a, ha, rfl⟩ := isNd_t hn1 hn h_11
    refine v_iconst (v := nI 0) O dX3_shrink_18 (by decide) ?_
    refine v_iconst (v := nI 1) O dX3_shrink_19 (by decide) ?_
    refine v_iconst (v := nI 0) O dX3_shrink_20 (by decide) ?_
    refine v_callV (as := [.int (nI 0), .int (nI 1), .int (nI 0)]) (rest := []) O (c_X3_bad hG (p := false) (w := 1) (r := 0) hR1 (by omega) (by omega) rfl) q1590 q1592 qs32 q77 q1593 hR1.ob (show vcl[2]? = some (RX3, TX3, 27) from rfl) rfl mdX3_bad rfl (by decide) (by omega) (by omega) (by omega) (Nat.le_of_ble_eq_true rfl) rfl dX3_shrink_21 (fun v9 σ3 hp9 => ?_) (fun _ _ _ h => False.elim h)
    obtain ⟨rfl, hR2, hf2⟩ := hp9
    replace hR2 : RecAt layM σ3 m ad (va_up I 0 (nI 0)) F L := hR2
    refine v_if_neB (tgt := 49) O dX3_shrink_24 (by decide) (fun h_24 => ?_) (fun h_24 => ?_)
    · exact absurd h_24 (by decide)
    · refine v_aload_n O dX3_shrink_27 rfl 0 rfl ?_
      refine v_aload_n O dX3_shrink_28 rfl 0 rfl ?_
      refine v_iload_n O dX3_shrink_29 rfl 1 rfl ?_
      refine v_callV (as := [.int (nI a)]) (rest := [.ref m]) O (c_X3_findsFlower hG hR2 (hM.thr 0).e9 hS.2.2.2.2 (a := a) ha) q1772 q1774 qs60 q77 q1775 hR2.ob (show vcl[2]? = some (RX3, TX3, 27) from rfl) rfl mdX3_findsFlower rfl (by decide) (by omega) (by omega) (by omega) (Nat.le_of_ble_eq_true rfl) rfl dX3_shrink_30 (fun v9 σ5 hp9 => ?_) (fun _ _ _ h => False.elim h)
      obtain ⟨rfl, I4, F4, hR4, hf4, hI4, ho4, hr4⟩ := hp9
      have hM4 : ModIs I4 F4 L S 0 Enc := ((hM.thr 0)).row hI4 ho4
      have hE4 := hM4.e9
      refine v_if_neB (tgt := 40) O dX3_shrink_33 (by decide) (fun h_33 => ?_) (fun h_33 => ?_)
      · obtain ⟨r, hp⟩ := isSome_t h_33
        obtain ⟨h25, hrow⟩ := hr4 r hp
        obtain ⟨hl1, hl2, hl3, hrg⟩ := flowN_ok hS.2.2.2.2 ha hp
        refine v_iconst (v := nI 0) O dX3_shrink_40 (by decide) ?_
        refine v_iconst (v := nI 2) O dX3_shrink_41 (by decide) ?_
        refine v_iconst (v := nI 2) O dX3_shrink_42 (by decide) ?_
        refine v_callV (as := [.int (nI 0), .int (nI 2), .int (nI 2)]) (rest := []) O (c_X3_bad hG (p := false) (w := 2) (r := 2) hR4 (by omega) (by omega) hM4.1) q1590 q1592 qs32 q77 q1593 hR4.ob (show vcl[2]? = some (RX3, TX3, 27) from rfl) rfl mdX3_bad rfl (by decide) (by omega) (by omega) (by omega) (Nat.le_of_ble_eq_true rfl) rfl dX3_shrink_43 (fun v9 σ7 hp9 => ?_) (fun _ _ _ h => False.elim h)
        obtain ⟨rfl, hR6, hf6⟩ := hp9
        replace hR6 : RecAt layM σ7 m ad I4 F4 L := hR6
        refine v_if_eqB (tgt := 51) O dX3_shrink_46 (by decide) (fun h_46 => ?_) (fun h_46 => ?_)
        · refine v_aload_n O dX3_shrink_51 rfl 0 rfl ?_
          refine v_callV (as := []) (rest := []) O (c_X3_remembers hG hR6 hM4 hd.2.2.1 hd.2.1 hd.2.2.2) q1666 q1668 qs45 q77 q1669 hR6.ob (show vcl[2]? = some (RX3, TX3, 27) from rfl) rfl mdX3_remembers rfl (by decide) (by omega) (by omega) (by omega) (Nat.le_of_ble_eq_true rfl) rfl dX3_shrink_52 (fun v9 σ9 hp9 => ?_) (fun _ _ _ h => False.elim h)
          obtain ⟨rfl, I8, F8, hR8, hM8, hF8, hf8, hK8⟩ := hp9
          have hE8 : Enc (F8 9) (sN S) := hM8.e9
          refine v_iconst (v := nI 0) O dX3_shrink_55 (by decide) ?_
          refine v_istore_n (lv' := [(2, .int (nI 0)), (0, .ref m), (1, .int (nI a))]) O hN dX3_shrink_56 rfl (by decide) rfl ?_
          refine v_iconst (v := nI 0) O dX3_shrink_57 (by decide) ?_
          refine v_istore_n (lv' := [(3, .int (nI 0)), (2, .int (nI 0)), (0, .ref m), (1, .int (nI a))]) O hN dX3_shrink_58 rfl (by decide) rfl ?_
          refine v_iconst (v := nI 1) O dX3_shrink_59 (by decide) ?_
          refine v_istore (lv' := [(4, .int (nI 1)), (3, .int (nI 0)), (2, .int (nI 0)), (0, .ref m), (1, .int (nI a))]) O hN dX3_shrink_60 (by decide) rfl ?_
          refine v_lv [3, 4, 2, 1, 0] rfl ?_
          have hK25 : I8 25 = nI r.length := by rw [hK8 25 (by omega)]; exact h25
          have hrow2 : RowIs (F8 24) r := hrow.congr (fun j _ => by rw [hF8 24 (by omega)])
          have hral := flow_base hp hrg
          have hgl : goneR r < 4096 := goneF_lt hn hrg.1 _ (by omega)
          have hnn : numN (goneR r) (sN S).1 ≤ (sN S).1 := numN_le
          refine l_X3_shrink_g hG O hN (by omega) (by omega) hS.2.2.2.2 ha (by omega) hrg.1 hR8 hK25 hrow2 (by omega) ?_ r.length 0 (by omega) (by omega)
          refine v_iconst (v := nI 0) O dX3_shrink_89 (by decide) ?_
          refine v_istore (lv' := [(4, .int (nI 0)), (0, .ref m), (1, .int (nI a)), (2, .int (nI (goneR r))), (3, .int (nI 0))]) O hN dX3_shrink_90 (by decide) rfl ?_
          refine v_lv [1, 2, 3, 4, 0] rfl ?_
          refine l_X3_shrink_b hG O hN (by omega) (by omega) (F := F8) hS.2.2.2.2 ha (by omega) hrg.1 hK25 hrow2 (by omega) hral (fun σA FA hRA hfA hoA hEA => ?_) ((sN S).1 + 1) 0 _ _ (fun y => (sN S).2.1 a y) (by omega) (by omega) hR8 FrL.rf (fun _ _ => rfl) (wmN_0 hS.2.2.2.2 ha hE8) (fun y => by rw [if_neg (by omega)])
          refine v_iconst (v := nI 0) O dX3_shrink_189 (by decide) ?_
          refine v_istore (lv' := [(4, .int (nI 0)), (0, .ref m), (1, .int (nI a)), (2, .int (nI (goneR r))), (3, .int (nI 0))]) O hN dX3_shrink_190 (by decide) rfl ?_
          refine v_lv [1, 2, 3, 4, 0] rfl ?_
          refine l_X3_shrink_n hG O hN (by omega) (by omega) (F := FA) (N := sN S) hEA rfl hn hgl (fun σB FB hRB hfB hoB hB26 => ?_) ((sN S).1 + 1) 0 _ _ (by omega) (by omega) hRA FrL.rf (fun _ _ => rfl) (fun j hj => absurd hj (by omega))
          refine v_aload_n O dX3_shrink_232 rfl 0 rfl ?_
          refine v_getf (C := RX3) (T := TX3) (N := 27) (v := .ref (ad 9)) O in_X3 hRB.ob rfl 9 (by decide) rfl q1501 rfl dX3_shrink_233 ?_
          refine v_aload_n O dX3_shrink_236 rfl 0 rfl ?_
          refine v_getf (C := RX3) (T := TX3) (N := 27) (v := .ref (ad 10)) O in_X3 hRB.ob rfl 10 (by decide) rfl q1502 rfl dX3_shrink_237 ?_
          refine v_callS (as := [.ref (ad 9), .ref (ad 10)]) (rest := []) O (c_X3_copies hG hRB.nz (hRB.ne rfl rfl (by omega)) (hRB.ar 9 rfl) (hRB.ar 10 rfl)) q1670 q1671 q77 q1672 mdX3_copies rfl (by decide) (by omega) (by omega) (by omega) (Nat.le_of_ble_eq_true rfl) rfl dX3_shrink_240 (fun v9 σ9 hp9 => ?_) (fun _ _ _ h => False.elim h)
          obtain ⟨rfl, g101, rfl, hg101⟩ := hp9
          have hR102 := hRB.sa (10) rfl g101
          have hf102 := FrL.up (L := [m]) (e' := (m, .inl (0, 157, .inl g101))) (hRB.ar 10 rfl) (by simp)
          generalize vUp σB (ad (10)) (m, .inl (0, 157, .inl g101)) = σ102 at hR102 hf102 ⊢
          refine v_aload_n O dX3_shrink_243 rfl 0 rfl ?_
          refine v_getf (C := RX3) (T := TX3) (N := 27) (v := .ref (ad 9)) O in_X3 hR102.ob rfl 9 (by decide) rfl q1501 rfl dX3_shrink_244 ?_
          refine v_callS (as := [.ref (ad 9)]) (rest := []) O (c_X3_begins hG hR102.nz (hR102.ar 9 rfl)) q1482 q1483 q77 q1484 mdX3_begins rfl (by decide) (by omega) (by omega) (by omega) (Nat.le_of_ble_eq_true rfl) rfl dX3_shrink_247 (fun v9 σ9 hp9 => ?_) (fun _ _ _ h => False.elim h)
          obtain ⟨rfl, g103, rfl, hg103⟩ := hp9
          have hR104 := hR102.sa (9) rfl g103
          have hf104 := FrL.up (L := [m]) (e' := (m, .inl (0, 157, .inl g103))) (hR102.ar 9 rfl) (by simp)
          generalize vUp σ102 (ad (9)) (m, .inl (0, 157, .inl g103)) = σ104 at hR104 hf104 ⊢
          refine v_aload_n O dX3_shrink_250 rfl 0 rfl ?_
          refine v_getf (C := RX3) (T := TX3) (N := 27) (v := .ref (ad 9)) O in_X3 hR104.ob rfl 9 (by decide) rfl q1501 rfl dX3_shrink_251 ?_
          refine v_iconst (v := nI 0) O dX3_shrink_254 (by decide) ?_
          refine v_iload_n O dX3_shrink_255 rfl 3 rfl ?_
          refine r_iast (K := layM) O hR104 9 rfl (by omega) (by omega) dX3_shrink_256 (fun σ105 hR105 hf105 => ?_)
          refine v_iconst (v := nI 0) O dX3_shrink_257 (by decide) ?_
          refine v_istore (lv' := [(4, .int (nI 0)), (0, .ref m), (1, .int (nI a)), (2, .int (nI (goneR r))), (3, .int (nI (numN (goneR r) (sN S).1)))]) O hN dX3_shrink_258 (by decide) rfl ?_
          refine v_lv [1, 2, 3, 4, 0] rfl ?_
          have hgA : ∀ j, j < 157 → g101 j = FA 9 j := fun j hj => (hg101 j hj).trans (by rw [hoB 9 (by omega)])
          have e10 : (va_up (va_up (va_up FB (10) g101) (9) g103) 9 (va_up (g103) 0 (nI (numN (goneR r) (sN S).1)))) 10 = g101 := by funext z; simp [va_up]
          have e9 : (va_up (va_up (va_up FB (10) g101) (9) g103) 9 (va_up (g103) 0 (nI (numN (goneR r) (sN S).1)))) 9 = va_up g103 0 (nI (numN (goneR r) (sN S).1)) := by funext z; simp [va_up]
          have hb2 : ∀ j, j < 157 → g103 j = -1 := hg103
          refine l_X3_shrink_x hG O hN (by omega) (by omega) (F := (va_up (va_up (va_up FB (10) g101) (9) g103) 9 (va_up (g103) 0 (nI (numN (goneR r) (sN S).1))))) (N := sN S) (M := wmN (sN S) a (curN (sN S) a r)) hS.2.2.2.2 (by rw [e10]; exact hEA.of hn hgA) rfl rfl hgl (fun j hj => by rw [← hB26 j hj]; simp [va_up]) (fun σC FC hRC hfC hoC hPC => ?_) ((sN S).1 + 1) 0 _ _ (by omega) (by omega) hR105 FrL.rf (fun _ _ => rfl) (by
            refine PartE.of (f := va_up g103 0 (nI (numN (goneR r) (sN S).1))) ?_ (by funext z; simp [va_up])
            refine ⟨by rw [vu, if_pos rfl], fun u hu => absurd hu (by omega), fun u v h1 h2 => absurd h2 (by omega), fun i hi => ?_⟩
            rw [vu, if_neg (by omega)]
            exact hb2 _ (by omega))
          have hEC := PartE.done hS.2.2.2.2 hPC
          have hoZ : ∀ j, j ≠ 9 → j ≠ 10 → j ≠ 26 → FC j = F8 j := fun j h1 h2 h3 => by
            rw [hoC j h1, ← hoA j h1, ← hoB j h3]
            funext z
            simp [va_up, h1, h2]
          have hMZ := (hM8).redo hoZ hEC
          refine v_aload_n O dX3_shrink_396 rfl 0 rfl ?_
          refine v_callV (as := []) (rest := []) O (c_X3_changes hG hRC ) q1488 q1490 qs31 q77 q1491 hRC.ob (show vcl[2]? = some (RX3, TX3, 27) from rfl) rfl mdX3_changes rfl (by decide) (by omega) (by omega) (by omega) (Nat.le_of_ble_eq_true rfl) rfl dX3_shrink_397 (fun v9 σ142 hp9 => ?_) (fun _ _ _ h => False.elim h)
          obtain ⟨rfl, hR141, hf141⟩ := hp9
          refine v_iload_n O dX3_shrink_400 rfl 1 rfl ?_
          exact v_iret O rfl dX3_shrink_401 (by omega) (by omega) (by rw [show opShrink S (nI a) = (0, nI (shrN (sN S) a r).1, keepS S (shrN (sN S) a r)) from by rw [opShrink, if_neg (by rw [h_11]; decide), show cl (nI a) = a from nI_clamp (by omega), hp]]; exact ⟨rfl, ⟨ad, _, _, _, hR141, hMZ⟩, (((((((((((hf1.trans hf2).trans hf4).trans hf6).trans hf8).trans hfA).trans hfB).trans hf102).trans hf104).trans hf105).trans hfC).trans hf141)⟩)
        · exact absurd h_46 (by decide)
      · refine v_iconst (v := nI 1) O dX3_shrink_36 (by decide) ?_
        refine v_goto (tgt := 41) O dX3_shrink_37 (by decide) ?_
        refine v_iconst (v := nI 2) O dX3_shrink_41 (by decide) ?_
        refine v_iconst (v := nI 2) O dX3_shrink_42 (by decide) ?_
        refine v_callV (as := [.int (nI 1), .int (nI 2), .int (nI 2)]) (rest := []) O (c_X3_bad hG (p := true) (w := 2) (r := 2) hR4 (by omega) (by omega) hM4.1) q1590 q1592 qs32 q77 q1593 hR4.ob (show vcl[2]? = some (RX3, TX3, 27) from rfl) rfl mdX3_bad rfl (by decide) (by omega) (by omega) (by omega) (Nat.le_of_ble_eq_true rfl) rfl dX3_shrink_43 (fun v9 σ11 hp9 => ?_) (fun _ _ _ h => False.elim h)
        obtain ⟨rfl, hR10, hf10⟩ := hp9
        replace hR10 : RecAt layM σ11 m ad (va_up I4 0 (nI 2)) (va_up F4 1 (va_up (F4 1) 2 ((F4 1) 2 + nI 1))) L := hR10
        refine v_if_eqB (tgt := 51) O dX3_shrink_46 (by decide) (fun h_46 => ?_) (fun h_46 => ?_)
        · exact absurd h_46 (by decide)
        · refine v_iconst (v := nI 0) O dX3_shrink_49 (by decide) ?_
          exact v_iret O rfl dX3_shrink_50 (by omega) (by omega) (by rw [show opShrink S (nI a) = (2, nI 0, refS S 2) from by rw [opShrink, if_neg (by rw [h_11]; decide), show cl (nI a) = a from nI_clamp (by omega), isSome_f h_33]]; exact ⟨rfl, ⟨ad, _, _, _, hR10, ((hM4.rf (r := 2) (by omega)).thr 2)⟩, (((hf1.trans hf2).trans hf4).trans hf10)⟩)
  · refine v_iconst (v := nI 1) O dX3_shrink_14 (by decide) ?_
    refine v_goto (tgt := 19) O dX3_shrink_15 (by decide) ?_
    refine v_iconst (v := nI 1) O dX3_shrink_19 (by decide) ?_
    refine v_iconst (v := nI 0) O dX3_shrink_20 (by decide) ?_
    refine v_callV (as := [.int (nI 1), .int (nI 1), .int (nI 0)]) (rest := []) O (c_X3_bad hG (p := true) (w := 1) (r := 0) hR1 (by omega) (by omega) rfl) q1590 q1592 qs32 q77 q1593 hR1.ob (show vcl[2]? = some (RX3, TX3, 27) from rfl) rfl mdX3_bad rfl (by decide) (by omega) (by omega) (by omega) (Nat.le_of_ble_eq_true rfl) rfl dX3_shrink_21 (fun v9 σ13 hp9 => ?_) (fun _ _ _ h => False.elim h)
    obtain ⟨rfl, hR12, hf12⟩ := hp9
    replace hR12 : RecAt layM σ13 m ad (va_up (va_up I 0 (nI 0)) 0 (nI 1)) (va_up F 1 (va_up (F 1) 0 ((F 1) 0 + nI 1))) L := hR12
    refine v_if_neB (tgt := 49) O dX3_shrink_24 (by decide) (fun h_24 => ?_) (fun h_24 => ?_)
    · refine v_iconst (v := nI 0) O dX3_shrink_49 (by decide) ?_
      exact v_iret O rfl dX3_shrink_50 (by omega) (by omega) (by rw [show opShrink S x = (1, nI 0, refS S 0) from by rw [opShrink, if_pos h_11]]; exact ⟨rfl, ⟨ad, _, _, _, hR12, (((hM.thr 0).rf (r := 0) (by omega)).thr 1)⟩, (hf1.trans hf12)⟩)
    · exact absurd h_24 (by decide)
