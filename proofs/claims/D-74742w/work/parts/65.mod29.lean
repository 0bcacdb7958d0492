/-- a word stands here, and no letter behind it -/
def takB (b : Nat → Nat) (n : Nat) (w : List Nat) (q : Nat) : Bool := (List.range w.length).all (fun i => decide (byt b n (q + i) = w.getD i 0)) && !decide (97 ≤ byt b n (q + w.length) ∧ byt b n (q + w.length) ≤ 122)
theorem takB_in {b : Nat → Nat} {n q : Nat} {w : List Nat} (h : ∀ i, i < w.length → byt b n (q + i) = w.getD i 0) : (List.range w.length).all (fun i => decide (byt b n (q + i) = w.getD i 0)) = true := List.all_eq_true.mpr fun i hi => decide_eq_true (h i (List.mem_range.mp hi))
theorem takB_no {b : Nat → Nat} {n q k : Nat} {w : List Nat} (hk : k < w.length) (h : byt b n (q + k) ≠ w.getD k 0) : takB b n w q = false := by
  unfold takB
  rw [Bool.and_eq_false_iff]
  left
  rw [List.all_eq_false]
  exact ⟨k, List.mem_range.mpr hk, by rw [decide_eq_false h]; decide⟩
theorem mdJ11_length : vMd yJ11_length 0 := ⟨by decide +kernel, by decide +kernel, by decide +kernel⟩
theorem mdJ11_charAt : vMd yJ11_charAt 1 := ⟨by decide +kernel, by decide +kernel, by decide +kernel⟩
theorem l_X3_takes {G : vGC} (hG : vGok G) {X : vCX} {Q : State → Prop} {c0 n0 : Nat} (O : vOk G X yX3_takes.cls cX3_takes (some .boolean) 5 0 0) (hN : xn X = 3) (hcm0 : c0 ≤ 0) (hsm0 : n0 ≤ 0) {σ : vSt} {m : Nat} {ad : Nat → Nat} {I : Nat → Int32} {F : Nat → Nat → Int32} {L : Nat → Nat → Int64} (hR : RecAt layM σ m ad I F L) {b : Nat → Nat} {n : Nat} (hT : TxIs I F b n) (hCm : vCom G) (hF : vFmt G) {sa : Nat} {w : List Nat} (hS : StrIs σ sa w) (hw : w.length ≤ 100) (hwc : ∀ i, i < w.length → w.getD i 0 < 256) {q : Nat} (h4 : I 4 = nI q) (hq : q ≤ n) (kx : (∀ i, i < w.length → byt b n (q + i) = w.getD i 0) → V G X Q c0 n0 σ 48 [(0, .ref m), (1, .ref sa), (2, .int (nI w.length))] []) (ky : ∀ i, i < w.length → byt b n (q + i) ≠ w.getD i 0 → V G X Q c0 n0 σ 48 [(0, .ref m), (1, .ref sa), (2, .int (nI i))] []) : ∀ (k : Nat) (i : Nat), (w.length < i + k) → (i ≤ w.length) → (∀ j, j < i → byt b n (q + j) = w.getD j 0) → V G X Q c0 n0 σ 16 [(0, .ref m), (1, .ref sa), (2, .int (nI i))] [] := by
  intro k
  induction k with
  | zero => intro i h0 h1 h2; exact absurd h0 (by omega)
  | succ k ih =>
    intro i h0 h1 h2
    obtain ⟨hT3, hTn, hTb, hTl⟩ := id hT
    obtain ⟨ba, hh, hz, hSo, har⟩ := id hS
    refine v_iload_n O dX3_takes_16 rfl 2 rfl ?_
    refine v_aload_n O dX3_takes_17 rfl 1 rfl ?_
    refine v_callV (as := []) (rest := [.int (nI i)]) O (c_J11_length hG hCm hS hw) q1611 q849 q850 q87 q851 hSo (show vcl[13]? = some (RJ11, TJ11, 4) from rfl) rfl mdJ11_length rfl (by decide) (by omega) (by omega) (by omega) (Nat.le_of_ble_eq_true rfl) rfl dX3_takes_18 (fun v9 σ9 hp9 => ?_) (fun _ _ _ h => False.elim h)
    obtain ⟨rfl, hs9⟩ := hp9
    obtain rfl := hs9.symm
    refine v_icmp_geN (tgt := 48) O dX3_takes_21 (by decide) (by omega) (by omega) (fun h_21 => ?_) (fun h_21 => ?_)
    · obtain rfl : i = w.length := by omega
      exact v_lv [0, 1, 2] rfl (kx h2)
    · refine v_aload_n O dX3_takes_24 rfl 0 rfl ?_
      refine v_aload_n O dX3_takes_25 rfl 0 rfl ?_
      refine v_getf (C := RX3) (T := TX3) (N := 27) (v := .int (nI q)) O in_X3 hR.ob rfl 4 (by decide) rfl q1496 (congrArg (fun z => some (Value.int z)) h4) dX3_takes_26 ?_
      refine v_iload_n O dX3_takes_29 rfl 2 rfl ?_
      refine v_iadd (z := nI (q + i)) O dX3_takes_30 (nI_add q i) ?_
      refine v_callV (as := [.int (nI (q + i))]) (rest := []) O (c_X3_byteAt hG hR hT (k := q + i) (by omega)) q1607 q1609 qs36 q77 q1610 hR.ob (show vcl[2]? = some (RX3, TX3, 27) from rfl) rfl mdX3_byteAt rfl (by decide) (by omega) (by omega) (by omega) (Nat.le_of_ble_eq_true rfl) rfl dX3_takes_31 (fun v9 σ9 hp9 => ?_) (fun _ _ _ h => False.elim h)
      obtain ⟨rfl, hs9⟩ := hp9
      obtain rfl := hs9.symm
      refine v_aload_n O dX3_takes_34 rfl 1 rfl ?_
      refine v_iload_n O dX3_takes_35 rfl 2 rfl ?_
      refine v_callV (as := [.int (nI i)]) (rest := [.int (sgI (byt b n (q + i)))]) O (c_J11_charAt hG hCm hS hF hw (i := i) (by omega) (hwc _ (by omega))) q1612 q1613 q1614 q87 q1615 hSo (show vcl[13]? = some (RJ11, TJ11, 4) from rfl) rfl mdJ11_charAt rfl (by decide) (by omega) (by omega) (by omega) (Nat.le_of_ble_eq_true rfl) rfl dX3_takes_36 (fun v9 σ9 hp9 => ?_) (fun _ _ _ h => False.elim h)
      obtain ⟨rfl, hs9⟩ := hp9
      obtain rfl := hs9.symm
      refine v_icmp_ne (tgt := 48) O dX3_takes_39 (by decide) (fun h_39 => ?_) (fun h_39 => ?_)
      · exact v_lv [0, 1, 2] rfl (ky i (by omega) (fun e => h_39 ((sg_eq (byt_lt hTl hTn) (hwc _ (by omega))).mpr e)))
      · refine v_iinc (v := nI (i + 1)) (lv' := [(2, .int (nI (i + 1))), (0, .ref m), (1, .ref sa)]) O hN dX3_takes_42 2 rfl (nI_add i 1) (by decide) rfl ?_
        refine v_goto (tgt := 16) O dX3_takes_45 (by decide) ?_
        refine v_lv [1, 2, 0] rfl ?_
        exact ih (i + 1) (by omega) (by omega) (fun j hj => by
          by_cases e : j = i
          · subst e; exact (sg_eq (byt_lt hTl hTn) (hwc _ (by omega))).mp h_39
          · exact h2 j (by omega))
