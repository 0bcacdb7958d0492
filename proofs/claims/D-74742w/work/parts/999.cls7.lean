theorem byte_x (x : Int32) : (vp_nar .byte (Int8.toInt32 (Int32.toInt8 x))) = tapeI (x &&& 255).toNatClampNeg := by
  show ((Int8.toInt32 (Int32.toInt8 x)).toInt8).toInt32 = _
  unfold tapeI
  rw [← (byte_ok x).1, Int8.toInt8_toInt32]
  congr 1
  rw [Int32.toInt8_and]
  show _ = x.toInt8 &&& -1
  simp
/-- a word is fed -/
def putS (S : SysM) (y : Int32) : SysM := (S.1 + 4, fun j => if sTp S ≤ j ∧ j < sTp S + 4 then wordB y (j - sTp S) else sTb S j, S.2.2)
theorem wordB_lt (a : Int32) (k : Nat) : wordB a k < 256 := (byte_ok _).2
theorem putS_ok {S : SysM} (h : okS S) (ht : sTp S + 4 ≤ 500) (y : Int32) : okS (putS S y) := by
  obtain ⟨h1, h2, h3, h4, h5⟩ := h
  refine ⟨ht, fun j hj => ?_, h3, h4, h5⟩
  show (if sTp S ≤ j ∧ j < sTp S + 4 then wordB y (j - sTp S) else sTb S j) < 256
  split
  · exact wordB_lt _ _
  · exact h2 j hj
theorem put5 {S : SysM} (a b c d e : Int32) (ht : ¬ 500 < sTp S + 20) : putS (putS (putS (putS (putS S a) b) c) d) e = (opFeed S a b c d e).2 := by
  rw [opFeed, if_neg ht]
  obtain ⟨t, tb, r⟩ := S
  show (t + 4 + 4 + 4 + 4 + 4, _, r) = (t + 20, _, r)
  rw [show t + 4 + 4 + 4 + 4 + 4 = t + 20 by omega]
  congr 2
  funext j
  show (if t + 4 + 4 + 4 + 4 ≤ j ∧ j < t + 4 + 4 + 4 + 4 + 4 then wordB e (j - (t + 4 + 4 + 4 + 4)) else if t + 4 + 4 + 4 ≤ j ∧ j < t + 4 + 4 + 4 + 4 then wordB d (j - (t + 4 + 4 + 4)) else if t + 4 + 4 ≤ j ∧ j < t + 4 + 4 + 4 then wordB c (j - (t + 4 + 4)) else if t + 4 ≤ j ∧ j < t + 4 + 4 then wordB b (j - (t + 4)) else if t ≤ j ∧ j < t + 4 then wordB a (j - t) else tb j) = if t ≤ j ∧ j < t + 20 then feedB a b c d e (j - t) else tb j
  by_cases h0 : t ≤ j ∧ j < t + 20
  · rw [if_pos h0]
    obtain ⟨i, rfl⟩ : ∃ i, j = t + i := ⟨j - t, by omega⟩
    have hi : i < 20 := by omega
    rw [Nat.add_sub_cancel_left]
    simp only [feedB]
    by_cases h1 : i < 4
    · rw [if_neg (by omega), if_neg (by omega), if_neg (by omega), if_neg (by omega), if_pos (by omega), if_pos h1, Nat.mod_eq_of_lt h1]
    · rw [if_neg h1]
      by_cases h2 : i < 8
      · rw [if_neg (by omega), if_neg (by omega), if_neg (by omega), if_pos (by omega), if_pos h2]; congr 1; omega
      · rw [if_neg h2]
        by_cases h3 : i < 12
        · rw [if_neg (by omega), if_neg (by omega), if_pos (by omega), if_pos h3]; congr 1; omega
        · rw [if_neg h3]
          by_cases h4 : i < 16
          · rw [if_neg (by omega), if_pos (by omega), if_pos h4]; congr 1; omega
          · rw [if_pos (by omega), if_neg h4]; congr 1; omega
  · rw [if_neg h0, if_neg (by omega), if_neg (by omega), if_neg (by omega), if_neg (by omega), if_neg (by omega)]
theorem putF {f : Nat → Int32} {tb : Nat → Nat} {t : Nat} {y b0 b1 b2 b3 : Int32} (h : ∀ j, j < 500 → f j = tapeI (tb j)) (h0 : b0 = tapeI (wordB y 0)) (h1 : b1 = tapeI (wordB y 1)) (h2 : b2 = tapeI (wordB y 2)) (h3 : b3 = tapeI (wordB y 3)) : ∀ j, j < 500 → va_up (va_up (va_up (va_up f t b0) (t + 1) b1) (t + 1 + 1) b2) (t + 1 + 1 + 1) b3 j = tapeI (if t ≤ j ∧ j < t + 4 then wordB y (j - t) else tb j) := fun j hj => by
  simp only [va_up]
  by_cases e3 : j = t + 1 + 1 + 1
  · rw [if_pos e3, if_pos (by omega), h3, e3]; congr 2; omega
  · rw [if_neg e3]
    by_cases e2 : j = t + 1 + 1
    · rw [if_pos e2, if_pos (by omega), h2, e2]; congr 2; omega
    · rw [if_neg e2]
      by_cases e1 : j = t + 1
      · rw [if_pos e1, if_pos (by omega), h1, e1]; congr 2; omega
      · rw [if_neg e1]
        by_cases e0 : j = t
        · rw [if_pos e0, if_pos (by omega), h0, e0]; congr 2; omega
        · rw [if_neg e0, if_neg (by omega)]; exact h j hj
theorem opUndo_0 {S : SysM} (h : (sKs S).length = 0) : opUndo S = (-1, S) := by
  unfold opUndo
  rw [List.length_eq_zero_iff.mp h]
  rfl
theorem opUndo_s {S : SysM} {Ns : List NetM} {N : NetM} (h : sKs S = Ns ++ [N]) : opUndo S = (nI Ns.length, (S.1, S.2.1, S.2.2.1, S.2.2.2.1, Ns, N)) := by
  unfold opUndo
  rw [h]
  simp
theorem XPost.back {σ σ9 : vSt} {x k9 : Nat} {S : SysM} {N9 : NetM} {Ns : List NetM} {ad : Nat → Nat} {I : Nat → Int32} {F : Nat → Nat → Int32} {L : Nat → Nat → Int64} {ks' : List Nat} (hR' : RecAt layX σ9 x (va_up ad 3 k9) I F L) (hD' : DeqAt σ9 (ad 2) ks') (hN9 : NetAt σ9 k9 N9) (hK' : KepAt σ9 ks' Ns) (hW : (x :: ad 2 :: ad 3 :: (ks' ++ [k9])).Pairwise (fun a b => a ≠ b)) (hX : XIs I F S) (hf : FrL [x, ad 2] σ σ9) : XPost σ σ9 x (x :: ad 2 :: ad 3 :: (ks' ++ [k9])) (S.1, S.2.1, S.2.2.1, S.2.2.2.1, Ns, N9) := by
  refine ⟨x :: ad 2 :: k9 :: ks', ⟨va_up ad 3 k9, I, F, L, ks', rfl, hR', hD', hN9, hK', ?_, hX⟩, FrX.of hf (Fresh.sub fun q hq => ?_), Fresh.sub fun q hq => ?_⟩
  · show (x :: ad 2 :: k9 :: ks').Pairwise (fun a b => a ≠ b)
    obtain ⟨w1, w2, w3, w4, w5, w6⟩ := Wd hW
    have hp := (List.pairwise_cons.mp (List.pairwise_cons.mp (List.pairwise_cons.mp hW).2).2).2
    obtain ⟨p1, -, p3⟩ := List.pairwise_append.mp hp
    refine List.pairwise_cons.mpr ⟨fun r hr => ?_, List.pairwise_cons.mpr ⟨fun r hr => ?_, List.pairwise_cons.mpr ⟨fun r hr => ?_, p1⟩⟩⟩
    · simp only [List.mem_cons] at hr
      rcases hr with rfl | rfl | hr
      · exact w1
      · exact fun e => w4 (by rw [e]; simp)
      · exact fun e => w4 (by rw [e]; simp [hr])
    · simp only [List.mem_cons] at hr
      rcases hr with rfl | hr
      · exact fun e => w5 (by rw [e]; simp)
      · exact fun e => w5 (by rw [e]; simp [hr])
    · exact (p3 r hr k9 (by simp)).symm
  · simp only [List.mem_cons, List.not_mem_nil, or_false] at hq
    rcases hq with rfl | rfl <;> simp
  · simp only [List.mem_cons] at hq
    rcases hq with rfl | rfl | rfl | hq
    · simp
    · simp
    · simp
    · simp [hq]

theorem mdJ1_isEmpty : vMd yJ1_isEmpty 0 := ⟨by decide +kernel, by decide +kernel, by decide +kernel⟩
theorem mdJ1_removeLast : vMd yJ1_removeLast 0 := ⟨by decide +kernel, by decide +kernel, by decide +kernel⟩
theorem c_X1_undo {G : vGC} (hG : vGok G) {σ : vSt} {x : Nat} {W : List Nat} {S : SysM} (hC : ClsAt σ x W S) (hOk : okS S) : Ct G yX1_undo (ws_ yX1_undo cX1_undo 1 (some .int)) 4 0 0 σ [.ref x] (fun v σ9 => v = some (.int (opUndo S).1) ∧ XPost σ σ9 x W (opUndo S).2) vNo := by
  refine ct_of hG (by decide) (Nat.le_of_ble_eq_true rfl) fun X hN O hnm htb => ?_
  show V G X _ 0 0 σ 0 [(0, .ref x)] []
  obtain ⟨ad, I, F, L, ks, rfl, hR, hD, hN0, hK, hW, hX⟩ := id hC
  obtain ⟨w1, w2, w3, w4, w5, w6⟩ := Wd hW
  obtain ⟨hX4, hX5, hXF, hXR⟩ := id hX
  obtain ⟨wa, ma, hob⟩ := hN0.ob
  obtain ⟨hS1, hS2, hS3, hS4, hOkN⟩ := id hOk
  have hn : (sN S).1 ≤ 12 := hOkN.2.1
  have hn1 : 1 ≤ (sN S).1 := hOkN.1
  refine v_aload_n O dX1_undo_0 rfl 0 rfl ?_
  refine v_getf (C := RX1) (T := TX1) (N := 6) (v := .ref (ad 2)) O in_X1 hR.ob rfl 2 (by decide) rfl q177 rfl dX1_undo_1 ?_
  refine v_callV (as := []) (rest := []) O (c_J1_isEmpty hG hD) q496 q497 q498 q74 q499 (Classical.choose_spec hD.ex) (show vcl[9]? = some (RJ1, TJ1, 3) from rfl) rfl mdJ1_isEmpty rfl (by decide) (by omega) (by omega) (by omega) (Nat.le_of_ble_eq_true rfl) rfl dX1_undo_4 (fun v9 σ9 hp9 => ?_) (fun _ _ _ h => False.elim h)
  obtain ⟨rfl, hs9⟩ := hp9
  obtain rfl := hs9.symm
  refine v_if_eqB (tgt := 12) O dX1_undo_7 (by decide) (fun h_7 => ?_) (fun h_7 => ?_)
  · refine v_aload_n O dX1_undo_12 rfl 0 rfl ?_
    refine v_aload_n O dX1_undo_13 rfl 0 rfl ?_
    refine v_getf (C := RX1) (T := TX1) (N := 6) (v := .ref (ad 2)) O in_X1 hR.ob rfl 2 (by decide) rfl q177 rfl dX1_undo_14 ?_
    have hne : ks ≠ [] := fun e => absurd (show (decide (ks.length = 0)) = true by rw [e]; rfl) (by rw [h_7]; decide)
    obtain ⟨ks', k9, rfl⟩ : ∃ ks' k9, ks = ks' ++ [k9] := ⟨ks.dropLast, ks.getLast hne, (List.dropLast_concat_getLast hne).symm⟩
    have hne2 : sKs S ≠ [] := fun e => by have := hK.1; rw [e] at this; simp at this
    obtain ⟨Ns, N9, hKs⟩ : ∃ Ns N9, sKs S = Ns ++ [N9] := ⟨(sKs S).dropLast, (sKs S).getLast hne2, (List.dropLast_concat_getLast hne2).symm⟩
    rw [hKs] at hK
    obtain ⟨hK1, hN9⟩ := hK.init
    obtain ⟨wa9, ma9, hob9⟩ := hN9.ob
    have hl9 : ks'.length = Ns.length := hK1.1
    refine v_callV (as := []) (rest := [.ref x]) O (c_J1_removeLast hG hD) q500 q501 q502 q74 q503 (Classical.choose_spec hD.ex) (show vcl[9]? = some (RJ1, TJ1, 3) from rfl) rfl mdJ1_removeLast rfl (by decide) (by omega) (by omega) (by omega) (Nat.le_of_ble_eq_true rfl) rfl dX1_undo_17 (fun v9 σ2 hp9 => ?_) (fun _ _ _ h => False.elim h)
    obtain ⟨rfl, hDq1, hf1⟩ := hp9
    have hN_3 := hN0.fr hf1 (by simp [w2, Ne.symm w2, w3, Ne.symm w3])
    obtain ⟨wa3, ma3, hob3⟩ := hN_3.ob
    have hRx1 := hR.fr hf1 (by simp [w1, w2])
    have hdk : ad 2 ≠ k9 := fun e => w5 (e ▸ (by simp))
    have hxk : x ≠ k9 := fun e => w4 (e ▸ (by simp))
    have hN9b := hN9.fr hf1 (by simp [Ne.symm hdk])
    obtain ⟨wa8, ma8, hob8⟩ := hN9b.ob
    have hK1b := hK1.fr hf1 (fun k hk => by
      simp only [List.mem_singleton]
      exact fun e => w5 (e ▸ (by simp [hk])))
    refine v_ccast O hob8 (show vcl[1]? = some (RX2, TX2, 3) from rfl) q138 dX1_undo_20 ?_
    refine r_puta (K := layX) (ty0 := tyX1) O hRx1 in_X1 tyX1_ok nmX1 (show vcl[0]? = some (RX1, TX1, 6) from rfl) 3 (by decide) rfl q178 rfl (tyX1_ok 3 (by decide)) rfl rfl (Nat.le_of_ble_eq_true rfl) rfl rfl (fun _ _ _ e => nomatch e) dX1_undo_23 (fun σp hRp hfp => ?_)
    have hDp := hDq1.fr hfp (by simp [Ne.symm w1])
    refine v_aload_n O dX1_undo_26 rfl 0 rfl ?_
    refine v_getf (C := RX1) (T := TX1) (N := 6) (v := .ref (ad 2)) O in_X1 hRp.ob rfl 2 (by decide) rfl q177 rfl dX1_undo_27 ?_
    refine v_callV (as := []) (rest := []) O (c_J1_size hG hDp) q322 q323 q324 q74 q325 (Classical.choose_spec hDp.ex) (show vcl[9]? = some (RJ1, TJ1, 3) from rfl) rfl mdJ1_size rfl (by decide) (by omega) (by omega) (by omega) (Nat.le_of_ble_eq_true rfl) rfl dX1_undo_30 (fun v9 σ9 hp9 => ?_) (fun _ _ _ h => False.elim h)
    obtain ⟨rfl, hs9⟩ := hp9
    obtain rfl := hs9.symm
    exact v_iret O rfl dX1_undo_33 (by omega) (by omega) (by
          rw [opUndo_s hKs, ← hl9]
          exact ⟨rfl, XPost.back hRp hDp (hN9b.fr hfp (by simp [Ne.symm hxk])) (hK1b.fr hfp (fun k hk => by
            simp only [List.mem_singleton]
            exact fun e => w4 (e ▸ (by simp [hk])))) hW hX ((hf1.mono (by simp)).trans (hfp.mono (by simp)))⟩)
  · refine v_iconst (v := (-1)) O dX1_undo_10 (by decide) ?_
    exact v_iret O rfl dX1_undo_11 (by omega) (by omega) (by rw [opUndo_0 (hK.1.symm.trans (of_decide_eq_true h_7))]; exact ⟨rfl, (XPost.rf hC)⟩)
theorem c_X1_put {G : vGC} (hG : vGok G) {σ : vSt} {x : Nat} {W : List Nat} {S : SysM} (hC : ClsAt σ x W S) (hOk : okS S) (ht : sTp S + 4 ≤ 500) {y : Int32} : Ct G yX1_put (ws_ yX1_put cX1_put 3 none) 2 0 0 σ [.ref x, .int y] (fun v σ9 => v = none ∧ XPost σ σ9 x W (putS S y)) vNo := by
  refine ct_of hG (by decide) (Nat.le_of_ble_eq_true rfl) fun X hN O hnm htb => ?_
  show V G X _ 0 0 σ 0 [(0, .ref x), (1, .int y)] []
  obtain ⟨ad, I, F, L, ks, rfl, hR, hD, hN0, hK, hW, hX⟩ := id hC
  obtain ⟨w1, w2, w3, w4, w5, w6⟩ := Wd hW
  obtain ⟨hX4, hX5, hXF, hXR⟩ := id hX
  obtain ⟨wa, ma, hob⟩ := hN0.ob
  obtain ⟨hS1, hS2, hS3, hS4, hOkN⟩ := id hOk
  have hn : (sN S).1 ≤ 12 := hOkN.2.1
  have hn1 : 1 ≤ (sN S).1 := hOkN.1
  refine v_bipush (v := nI 24) O dX1_put_0 (by decide) ?_
  refine v_istore_n (lv' := [(2, .int (nI 24)), (0, .ref x), (1, .int y)]) O hN dX1_put_2 rfl (by decide) rfl ?_
  refine v_iload_n O dX1_put_3 rfl 0 rfl ?_
  refine v_if_ltN (tgt := 36) O dX1_put_4 (by decide) (by omega) (fun h_4 => ?_) (fun h_4 => ?_)
  · exact absurd h_4 (by decide)
  · refine v_aload_n O dX1_put_7 rfl 1 rfl ?_
    refine v_getf (C := RX1) (T := TX1) (N := 6) (v := .ref (ad 0)) O in_X1 hR.ob rfl 0 (by decide) rfl q175 rfl dX1_put_8 ?_
    refine v_aload_n O dX1_put_11 rfl 1 rfl ?_
    refine v_getf (C := RX1) (T := TX1) (N := 6) (v := .int (nI (sTp S))) O in_X1 hR.ob rfl 4 (by decide) rfl q179 (congrArg (fun z => some (Value.int z)) hX4) dX1_put_12 ?_
    refine v_iload_n O dX1_put_15 rfl 2 rfl ?_
    refine v_iload_n O dX1_put_16 rfl 0 rfl ?_
    refine v_ishr (z := (y >>> ((nI 24) &&& 31))) O dX1_put_17 rfl ?_
    refine v_i2b (z := (Int8.toInt32 (Int32.toInt8 (y >>> ((nI 24) &&& 31))))) O dX1_put_18 rfl ?_
    refine r_bast (K := layX) O hR 0 rfl (by omega) (by omega) dX1_put_19 (fun σ1 hR1 hf1 => ?_)
    have hN_2 := hN0.fr hf1 (by simp [w2, Ne.symm w2, w3, Ne.symm w3])
    obtain ⟨wa2, ma2, hob2⟩ := hN_2.ob
    have hDq_3 := hD.fr hf1 (by simp [w1, Ne.symm w1, w3, Ne.symm w3])
    refine v_aload_n O dX1_put_20 rfl 1 rfl ?_
    refine v_dup O dX1_put_21 rfl ?_
    refine v_getf (C := RX1) (T := TX1) (N := 6) (v := .int (nI (sTp S))) O in_X1 hR1.ob rfl 4 (by decide) rfl q179 (congrArg (fun z => some (Value.int z)) hX4) dX1_put_22 ?_
    refine v_iconst (v := nI 1) O dX1_put_25 (by decide) ?_
    refine v_iadd (z := nI (sTp S + 1)) O dX1_put_26 (nI_add (sTp S) 1) ?_
    refine r_puti (K := layX) (I' := (va_up I 4 (nI (sTp S + 1)))) (ty0 := tyX1) O hR1 in_X1 tyX1_ok nmX1 (show vcl[0]? = some (RX1, TX1, 6) from rfl) 4 (by decide) rfl q179 rfl (tyX1_ok 4 (by decide)) rfl rfl (Nat.le_of_ble_eq_true rfl) rfl dX1_put_27 (fun σ4 hR4 hf4 => ?_)
    have hN_5 := hN_2.fr hf4 (by simp [w2, Ne.symm w2, w3, Ne.symm w3])
    obtain ⟨wa5, ma5, hob5⟩ := hN_5.ob
    have hDq_6 := hDq_3.fr hf4 (by simp [w1, Ne.symm w1, w3, Ne.symm w3])
    refine v_iinc (v := nI (24 - 8)) (lv' := [(2, .int (nI (24 - 8))), (0, .ref x), (1, .int y)]) O hN dX1_put_30 0 rfl (nI_dec 8 (by omega)) (by decide) rfl ?_
    refine v_goto (tgt := 3) O dX1_put_33 (by decide) ?_
    refine v_iload_n O dX1_put_3 rfl 0 rfl ?_
    refine v_if_ltN (tgt := 36) O dX1_put_4 (by decide) (by omega) (fun h_4 => ?_) (fun h_4 => ?_)
    · exact absurd h_4 (by decide)
    · refine v_aload_n O dX1_put_7 rfl 1 rfl ?_
      refine v_getf (C := RX1) (T := TX1) (N := 6) (v := .ref (ad 0)) O in_X1 hR4.ob rfl 0 (by decide) rfl q175 rfl dX1_put_8 ?_
      refine v_aload_n O dX1_put_11 rfl 1 rfl ?_
      refine v_getf (C := RX1) (T := TX1) (N := 6) (v := .int (nI (sTp S + 1))) O in_X1 hR4.ob rfl 4 (by decide) rfl q179 rfl dX1_put_12 ?_
      refine v_iload_n O dX1_put_15 rfl 2 rfl ?_
      refine v_iload_n O dX1_put_16 rfl 0 rfl ?_
      refine v_ishr (z := (y >>> ((nI (24 - 8)) &&& 31))) O dX1_put_17 rfl ?_
      refine v_i2b (z := (Int8.toInt32 (Int32.toInt8 (y >>> ((nI (24 - 8)) &&& 31))))) O dX1_put_18 rfl ?_
      refine r_bast (K := layX) O hR4 0 rfl (by omega) (by omega) dX1_put_19 (fun σ7 hR7 hf7 => ?_)
      have hN_8 := hN_5.fr hf7 (by simp [w2, Ne.symm w2, w3, Ne.symm w3])
      obtain ⟨wa8, ma8, hob8⟩ := hN_8.ob
      have hDq_9 := hDq_6.fr hf7 (by simp [w1, Ne.symm w1, w3, Ne.symm w3])
      refine v_aload_n O dX1_put_20 rfl 1 rfl ?_
      refine v_dup O dX1_put_21 rfl ?_
      refine v_getf (C := RX1) (T := TX1) (N := 6) (v := .int (nI (sTp S + 1))) O in_X1 hR7.ob rfl 4 (by decide) rfl q179 rfl dX1_put_22 ?_
      refine v_iconst (v := nI 1) O dX1_put_25 (by decide) ?_
      refine v_iadd (z := nI (sTp S + 1 + 1)) O dX1_put_26 (nI_add (sTp S + 1) 1) ?_
      refine r_puti (K := layX) (I' := (va_up (va_up I 4 (nI (sTp S + 1))) 4 (nI (sTp S + 1 + 1)))) (ty0 := tyX1) O hR7 in_X1 tyX1_ok nmX1 (show vcl[0]? = some (RX1, TX1, 6) from rfl) 4 (by decide) rfl q179 rfl (tyX1_ok 4 (by decide)) rfl rfl (Nat.le_of_ble_eq_true rfl) rfl dX1_put_27 (fun σ10 hR10 hf10 => ?_)
      have hN_11 := hN_8.fr hf10 (by simp [w2, Ne.symm w2, w3, Ne.symm w3])
      obtain ⟨wa11, ma11, hob11⟩ := hN_11.ob
      have hDq_12 := hDq_9.fr hf10 (by simp [w1, Ne.symm w1, w3, Ne.symm w3])
      refine v_iinc (v := nI (24 - 8 - 8)) (lv' := [(2, .int (nI (24 - 8 - 8))), (0, .ref x), (1, .int y)]) O hN dX1_put_30 0 rfl (nI_dec 8 (by omega)) (by decide) rfl ?_
      refine v_goto (tgt := 3) O dX1_put_33 (by decide) ?_
      refine v_iload_n O dX1_put_3 rfl 0 rfl ?_
      refine v_if_ltN (tgt := 36) O dX1_put_4 (by decide) (by omega) (fun h_4 => ?_) (fun h_4 => ?_)
      · exact absurd h_4 (by decide)
      · refine v_aload_n O dX1_put_7 rfl 1 rfl ?_
        refine v_getf (C := RX1) (T := TX1) (N := 6) (v := .ref (ad 0)) O in_X1 hR10.ob rfl 0 (by decide) rfl q175 rfl dX1_put_8 ?_
        refine v_aload_n O dX1_put_11 rfl 1 rfl ?_
        refine v_getf (C := RX1) (T := TX1) (N := 6) (v := .int (nI (sTp S + 1 + 1))) O in_X1 hR10.ob rfl 4 (by decide) rfl q179 rfl dX1_put_12 ?_
        refine v_iload_n O dX1_put_15 rfl 2 rfl ?_
        refine v_iload_n O dX1_put_16 rfl 0 rfl ?_
        refine v_ishr (z := (y >>> ((nI (24 - 8 - 8)) &&& 31))) O dX1_put_17 rfl ?_
        refine v_i2b (z := (Int8.toInt32 (Int32.toInt8 (y >>> ((nI (24 - 8 - 8)) &&& 31))))) O dX1_put_18 rfl ?_
        refine r_bast (K := layX) O hR10 0 rfl (by omega) (by omega) dX1_put_19 (fun σ13 hR13 hf13 => ?_)
        have hN_14 := hN_11.fr hf13 (by simp [w2, Ne.symm w2, w3, Ne.symm w3])
        obtain ⟨wa14, ma14, hob14⟩ := hN_14.ob
        have hDq_15 := hDq_12.fr hf13 (by simp [w1, Ne.symm w1, w3, Ne.symm w3])
        refine v_aload_n O dX1_put_20 rfl 1 rfl ?_
        refine v_dup O dX1_put_21 rfl ?_
        refine v_getf (C := RX1) (T := TX1) (N := 6) (v := .int (nI (sTp S + 1 + 1))) O in_X1 hR13.ob rfl 4 (by decide) rfl q179 rfl dX1_put_22 ?_
        refine v_iconst (v := nI 1) O dX1_put_25 (by decide) ?_
        refine v_iadd (z := nI (sTp S + 1 + 1 + 1)) O dX1_put_26 (nI_add (sTp S + 1 + 1) 1) ?_
        refine r_puti (K := layX) (I' := (va_up (va_up (va_up I 4 (nI (sTp S + 1))) 4 (nI (sTp S + 1 + 1))) 4 (nI (sTp S + 1 + 1 + 1)))) (ty0 := tyX1) O hR13 in_X1 tyX1_ok nmX1 (show vcl[0]? = some (RX1, TX1, 6) from rfl) 4 (by decide) rfl q179 rfl (tyX1_ok 4 (by decide)) rfl rfl (Nat.le_of_ble_eq_true rfl) rfl dX1_put_27 (fun σ16 hR16 hf16 => ?_)
        have hN_17 := hN_14.fr hf16 (by simp [w2, Ne.symm w2, w3, Ne.symm w3])
        obtain ⟨wa17, ma17, hob17⟩ := hN_17.ob
        have hDq_18 := hDq_15.fr hf16 (by simp [w1, Ne.symm w1, w3, Ne.symm w3])
        refine v_iinc (v := nI (24 - 8 - 8 - 8)) (lv' := [(2, .int (nI (24 - 8 - 8 - 8))), (0, .ref x), (1, .int y)]) O hN dX1_put_30 0 rfl (nI_dec 8 (by omega)) (by decide) rfl ?_
        refine v_goto (tgt := 3) O dX1_put_33 (by decide) ?_
        refine v_iload_n O dX1_put_3 rfl 0 rfl ?_
        refine v_if_ltN (tgt := 36) O dX1_put_4 (by decide) (by omega) (fun h_4 => ?_) (fun h_4 => ?_)
        · exact absurd h_4 (by decide)
        · refine v_aload_n O dX1_put_7 rfl 1 rfl ?_
          refine v_getf (C := RX1) (T := TX1) (N := 6) (v := .ref (ad 0)) O in_X1 hR16.ob rfl 0 (by decide) rfl q175 rfl dX1_put_8 ?_
          refine v_aload_n O dX1_put_11 rfl 1 rfl ?_
          refine v_getf (C := RX1) (T := TX1) (N := 6) (v := .int (nI (sTp S + 1 + 1 + 1))) O in_X1 hR16.ob rfl 4 (by decide) rfl q179 rfl dX1_put_12 ?_
          refine v_iload_n O dX1_put_15 rfl 2 rfl ?_
          refine v_iload_n O dX1_put_16 rfl 0 rfl ?_
          refine v_ishr (z := (y >>> ((nI (24 - 8 - 8 - 8)) &&& 31))) O dX1_put_17 rfl ?_
          refine v_i2b (z := (Int8.toInt32 (Int32.toInt8 (y >>> ((nI (24 - 8 - 8 - 8)) &&& 31))))) O dX1_put_18 rfl ?_
          refine r_bast (K := layX) O hR16 0 rfl (by omega) (by omega) dX1_put_19 (fun σ19 hR19 hf19 => ?_)
          have hN_20 := hN_17.fr hf19 (by simp [w2, Ne.symm w2, w3, Ne.symm w3])
          obtain ⟨wa20, ma20, hob20⟩ := hN_20.ob
          have hDq_21 := hDq_18.fr hf19 (by simp [w1, Ne.symm w1, w3, Ne.symm w3])
          refine v_aload_n O dX1_put_20 rfl 1 rfl ?_
          refine v_dup O dX1_put_21 rfl ?_
          refine v_getf (C := RX1) (T := TX1) (N := 6) (v := .int (nI (sTp S + 1 + 1 + 1))) O in_X1 hR19.ob rfl 4 (by decide) rfl q179 rfl dX1_put_22 ?_
          refine v_iconst (v := nI 1) O dX1_put_25 (by decide) ?_
          refine v_iadd (z := nI (sTp S + 1 + 1 + 1 + 1)) O dX1_put_26 (nI_add (sTp S + 1 + 1 + 1) 1) ?_
          refine r_puti (K := layX) (I' := (va_up (va_up (va_up (va_up I 4 (nI (sTp S + 1))) 4 (nI (sTp S + 1 + 1))) 4 (nI (sTp S + 1 + 1 + 1))) 4 (nI (sTp S + 1 + 1 + 1 + 1)))) (ty0 := tyX1) O hR19 in_X1 tyX1_ok nmX1 (show vcl[0]? = some (RX1, TX1, 6) from rfl) 4 (by decide) rfl q179 rfl (tyX1_ok 4 (by decide)) rfl rfl (Nat.le_of_ble_eq_true rfl) rfl dX1_put_27 (fun σ22 hR22 hf22 => ?_)
          have hN_23 := hN_20.fr hf22 (by simp [w2, Ne.symm w2, w3, Ne.symm w3])
          obtain ⟨wa23, ma23, hob23⟩ := hN_23.ob
          have hDq_24 := hDq_21.fr hf22 (by simp [w1, Ne.symm w1, w3, Ne.symm w3])
          refine v_iinc (v := (-8)) (lv' := [(2, .int (-8)), (0, .ref x), (1, .int y)]) O hN dX1_put_30 0 rfl rfl (by decide) rfl ?_
          refine v_goto (tgt := 3) O dX1_put_33 (by decide) ?_
          refine v_iload_n O dX1_put_3 rfl 0 rfl ?_
          refine v_if_lt (tgt := 36) O dX1_put_4 (by decide) (fun h_4 => ?_) (fun h_4 => ?_)
          · exact v_vret O rfl dX1_put_36 (by omega) (by omega) (⟨rfl, ⟨_, ClsAt.recw hR22 hD hN0 hK hW (((((((hf1.trans hf4).trans hf7).trans hf10).trans hf13).trans hf16).trans hf19).trans hf22) ⟨congrArg nI (by show _ = sTp S + 4; omega), hX5, putF hXF (byte_x _) (byte_x _) (byte_x _) (byte_x _), hXR⟩ rfl rfl, FrX.of (((((((hf1.trans hf4).trans hf7).trans hf10).trans hf13).trans hf16).trans hf19).trans hf22) (Fresh.sub fun q hq => by simp at hq; simp [hq]), Fresh.rf⟩⟩)
          · exact absurd h_4 (by decide)
