theorem m1_nn {x : Int32} (h : (-1 : Int32) ≤ x) (hn : x ≠ -1) : ¬ x < 0 := fun e => by
  have h1 := Int32.le_iff_toInt_le.mp h
  have h2 := Int32.lt_iff_toInt_lt.mp e
  rw [show (-1 : Int32).toInt = -1 from rfl] at h1
  rw [show (0 : Int32).toInt = 0 from rfl] at h2
  exact hn (Int32.toInt_inj.mp (by rw [show (-1 : Int32).toInt = -1 from rfl]; omega))
theorem m1_le {k : Nat} (hk : k < 2 ^ 31) : (-1 : Int32) ≤ nI k := Int32.le_of_lt (neg_lt hk)
theorem opRow_n {S : SysM} {i : Int32} {d : Nat} : opRow S none d i = (0, -1, S) := rfl
theorem opRow_m {S : SysM} {r : List Nat} {d : Nat} : opRow S (some r) d (-1) = (0, nI (r.length - d), S) := by
  unfold opRow
  simp only []
  rw [if_pos trivial]
theorem opRow_k {S : SysM} {r : List Nat} {d k : Nat} (h : k < r.length) (h2 : r.length ≤ 12) : opRow S (some r) d (nI k) = (0, nI (rowV r k), S) := by
  unfold opRow
  simp only []
  rw [if_neg (nI_ne (by omega)), if_pos ⟨nI_le (by omega) (by omega), nI_le (by omega) (by omega)⟩, cl, nI_clamp (by omega)]
theorem opRow_x {S : SysM} {r : List Nat} {d : Nat} {i : Int32} (h1 : 1 ≤ r.length) (h2 : r.length ≤ 12) (h : decide ((-1 : Int32) ≤ i ∧ i ≤ nI (r.length - 1)) = false) : opRow S (some r) d i = (1, nI 0, refS S 0) := by
  have h3 := of_decide_eq_false h
  unfold opRow
  simp only []
  rw [if_neg (fun e => h3 ⟨by rw [e]; exact Int32.le_refl _, by rw [e]; exact m1_le (by omega)⟩), if_neg (fun e => h3 ⟨Int32.le_trans (m1_le (k := 0) (by omega)) e.1, e.2⟩)]
theorem c_X1_rowTold {G : vGC} (hG : vGok G) {σ : vSt} {x : Nat} {W : List Nat} {S : SysM} (hC : ClsAt σ x W S) (hOk : okS S) {w : Nat} {adw : Nat → Nat} {Iw : Nat → Int32} {Fw : Nat → Nat → Int32} {Lw : Nat → Nat → Int64} (hRw : RecAt layW σ w adw Iw Fw Lw) {o : Option (List Nat)} (hrow : RowOk Iw Fw o) (hro : ∀ r, o = some r → 1 ≤ r.length ∧ r.length ≤ 12) {i : Int32} : Ct G yX1_rowTold (ws_ yX1_rowTold cX1_rowTold 3 (some .int)) 7 1 6 σ [.ref x, .ref w, .int i] (fun v σ9 => v = some (.int (opRow S o 0 i).2.1) ∧ (opRow S o 0 i).1 = 0 ∧ σ9 = σ) (fun E q σ9 => (∀ d, opRow S o d i = (1, nI 0, refS S 0)) ∧ E = "java/util/NoSuchElementException" ∧ XPost σ σ9 x W (refS S 0)) := by
  refine ct_of hG (by decide) (Nat.le_of_ble_eq_true rfl) fun X hN O hnm htb => ?_
  show V G X _ 0 0 σ 0 [(0, .ref x), (1, .ref w), (2, .int i)] []
  obtain ⟨ad, I, F, L, ks, rfl, hR, hD, hN0, hK, hW, hX⟩ := id hC
  obtain ⟨w1, w2, w3, w4, w5, w6⟩ := Wd hW
  obtain ⟨hX4, hX5, hXF, hXR⟩ := id hX
  obtain ⟨wa, ma, hob⟩ := hN0.ob
  obtain ⟨hS1, hS2, hS3, hS4, hOkN⟩ := id hOk
  have hn : (sN S).1 ≤ 12 := hOkN.2.1
  have hn1 : 1 ≤ (sN S).1 := hOkN.1
  have hrl : rowLen o ≤ 12 := by
    cases o with
    | none => exact Nat.zero_le _
    | some r => exact (hro r rfl).2
  refine v_aload_n O dX1_rowTold_0 rfl 1 rfl ?_
  refine v_getfN (C := RX6) (T := TX6) (N := 5) (v := .int (nI (rowLen o))) O in_X6 hRw.ob rfl 2 (by decide) rfl q1217 (congrArg (fun z => some (Value.int z)) hrow.1) dX1_rowTold_1 ?_
  refine v_if_neN (tgt := 9) O dX1_rowTold_4 (by decide) (by omega) (fun h_4 => ?_) (fun h_4 => ?_)
  · obtain ⟨r, hsome⟩ : ∃ r, o = some r := by
      cases o with
      | none => exact absurd rfl h_4
      | some r => exact ⟨r, rfl⟩
    obtain ⟨hl1, hl2⟩ := hro r hsome
    have hlr : rowLen o = r.length := by rw [hsome]; rfl
    refine v_aload_n O dX1_rowTold_9 rfl 0 rfl ?_
    refine v_iload_n O dX1_rowTold_10 rfl 2 rfl ?_
    refine v_i2l (z := (Int32.toInt64 i)) O dX1_rowTold_11 rfl ?_
    refine v_ldc2 O q1466 dX1_rowTold_12 ?_
    refine v_aload_n O dX1_rowTold_15 rfl 1 rfl ?_
    refine v_getfN (C := RX6) (T := TX6) (N := 5) (v := .int (nI (rowLen o))) O in_X6 hRw.ob rfl 2 (by decide) rfl q1217 (congrArg (fun z => some (Value.int z)) hrow.1) dX1_rowTold_16 ?_
    refine v_iconst (v := nI 1) O dX1_rowTold_19 (by decide) ?_
    refine v_isub (z := nI ((rowLen o) - 1)) O dX1_rowTold_20 (pk_sub (by omega)) ?_
    refine v_i2l (z := (Int32.toInt64 (nI ((rowLen o) - 1)))) O dX1_rowTold_21 rfl ?_
    refine v_callS (as := [.long (Int32.toInt64 i), .long (-1), .long (Int32.toInt64 (nI ((rowLen o) - 1)))]) (rest := [.ref x]) O (c_X1_isIn hG (x := i) (A := (-1)) (B := (nI ((rowLen o) - 1))) rfl (by decide) (Int32.toInt_toInt64 _)) q542 q543 q72 q544 mdX1_isIn rfl (by decide) (by omega) (by omega) (by omega) (Nat.le_of_ble_eq_true rfl) rfl dX1_rowTold_22 (fun v9 σ9 hp9 => ?_) (fun _ _ _ h => False.elim h)
    obtain ⟨rfl, hs9⟩ := hp9
    obtain rfl := hs9.symm
    refine v_callV (as := [.int (bI (decide ((-1) ≤ i ∧ i ≤ (nI ((rowLen o) - 1)))))]) (rest := []) O (c_X1_needThere hG hC (b := (decide ((-1) ≤ i ∧ i ≤ (nI ((rowLen o) - 1)))))) q1157 q1159 qs26 q72 q1160 hR.ob (show vcl[0]? = some (RX1, TX1, 6) from rfl) rfl mdX1_needThere rfl (by decide) (by omega) (by omega) (by omega) (Nat.le_of_ble_eq_true rfl) rfl dX1_rowTold_25 (fun v9 σ9 hp9 => ?_) (fun E9 q9 σ9 hx9 => ?_)
    · obtain ⟨rfl, hq1, hs9⟩ := hp9
      obtain rfl := hs9.symm
      refine v_iload_n O dX1_rowTold_28 rfl 2 rfl ?_
      refine v_iconst (v := (-1)) O dX1_rowTold_29 (by decide) ?_
      refine v_icmp_ne (tgt := 40) O dX1_rowTold_30 (by decide) (fun h_30 => ?_) (fun h_30 => ?_)
      · obtain ⟨k, hk, rfl⟩ := nI_of2 (n := rowLen o - 1) (M := nI (rowLen o - 1)) (nI_toInt (by omega)) (m1_nn (of_decide_eq_true hq1).1 h_30) (of_decide_eq_true hq1).2
        refine v_aload_n O dX1_rowTold_40 rfl 1 rfl ?_
        refine v_getfN (C := RX6) (T := TX6) (N := 5) (v := .ref (adw 1)) O in_X6 hRw.ob rfl 1 (by decide) rfl q1215 rfl dX1_rowTold_41 ?_
        refine v_iload_n O dX1_rowTold_44 rfl 2 rfl ?_
        refine v_iald (f := Fw 1) O (hRw.ar 1 rfl) (by omega) (by omega) dX1_rowTold_45 ?_
        exact v_iret O rfl dX1_rowTold_46 (by omega) (by omega) (⟨by rw [hsome, opRow_k (by omega) hl2, ← (hrow.2 r hsome).get k (by omega)], by rw [hsome, opRow_k (by omega) hl2], rfl⟩)
      · refine v_aload_n O dX1_rowTold_33 rfl 1 rfl ?_
        refine v_getfN (C := RX6) (T := TX6) (N := 5) (v := .int (nI (rowLen o))) O in_X6 hRw.ob rfl 2 (by decide) rfl q1217 (congrArg (fun z => some (Value.int z)) hrow.1) dX1_rowTold_34 ?_
        refine v_goto (tgt := 46) O dX1_rowTold_37 (by decide) ?_
        exact v_iret O rfl dX1_rowTold_46 (by omega) (by omega) (⟨by rw [hlr, hsome, h_30, opRow_m]; rfl, by rw [hsome, h_30, opRow_m], rfl⟩)
    · obtain ⟨hx2, rfl, hxp2⟩ := hx9
      exact v_out O (fun z hz => (htb z hz).elim) (by omega) (by omega) (⟨fun d => by rw [hsome]; exact opRow_x hl1 hl2 (by rw [← hlr]; exact hx2), rfl, hxp2⟩)
  · have hnone : o = none := by
      cases o with
      | none => rfl
      | some r => have h9 := (hro r rfl).1; have h8 : rowLen (some r) = r.length := rfl; omega
    refine v_iconst (v := (-1)) O dX1_rowTold_7 (by decide) ?_
    exact v_iret O rfl dX1_rowTold_8 (by omega) (by omega) (⟨by rw [hnone]; rfl, by rw [hnone]; rfl, rfl⟩)
