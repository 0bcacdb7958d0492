theorem c_X1_has {G : vGC} (hG : vGok G) {σ : vSt} {s k : Nat} (hs : s < 2 ^ 31) (hk : k < 31) : Ct G yX1_has (ws_ yX1_has cX1_has 2 (some .boolean)) 1 0 0 σ [.int (nI s), .int (nI k)] (fun v σ9 => v = some (.int (bI (s.testBit k))) ∧ σ9 = σ) vNo := by
  refine ct_of hG (by decide) (Nat.le_of_ble_eq_true rfl) fun X hN O hnm htb => ?_
  show V G X _ 0 0 σ 0 [(0, .int (nI s)), (1, .int (nI k))] []
  refine v_iload_n O dX1_has_0 rfl 0 rfl ?_
  refine v_iload_n O dX1_has_1 rfl 1 rfl ?_
  refine v_ishr (z := nI (s >>> k)) O dX1_has_2 (bx_shr (by omega) (by omega)) ?_
  refine v_iconst (v := nI 1) O dX1_has_3 (by decide) ?_
  refine v_iand (z := bI (s.testBit k)) O dX1_has_4 bx_has ?_
  refine v_iconst (v := nI 1) O dX1_has_5 (by decide) ?_
  refine v_icmp_ne (tgt := 13) O dX1_has_6 (by decide) (fun h_6 => ?_) (fun h_6 => ?_)
  · refine v_iconst (v := nI 0) O dX1_has_13 (by decide) ?_
    exact v_zret (ty := .boolean) O rfl rfl dX1_has_14 (by omega) (by omega) (⟨bIF (by simpa [bI_1] using h_6), rfl⟩)
  · refine v_iconst (v := nI 1) O dX1_has_9 (by decide) ?_
    refine v_goto (tgt := 14) O dX1_has_10 (by decide) ?_
    exact v_zret (ty := .boolean) O rfl rfl dX1_has_14 (by omega) (by omega) (⟨bIT (bI_1.mp h_6), rfl⟩)
theorem c_J17_bitCount {G : vGC} (hG : vGok G) {σ : vSt} {s : Nat} (hs : s < 4096) : Ct G yJ17_bitCount (ws_ yJ17_bitCount cJ17_bitCount 1 (some .int)) 1 0 0 σ [.int (nI s)] (fun v σ9 => v = some (.int (nI (pcn s))) ∧ σ9 = σ) vNo := by
  refine ct_of hG (by decide) (Nat.le_of_ble_eq_true rfl) fun X hN O hnm htb => ?_
  show V G X _ 0 0 σ 0 [(0, .int (nI s))] []
  refine v_iload_n O dJ17_bitCount_0 rfl 0 rfl ?_
  refine v_iload_n O dJ17_bitCount_1 rfl 0 rfl ?_
  refine v_iconst (v := nI 1) O dJ17_bitCount_2 (by decide) ?_
  refine v_iushr (z := (((nI s).toUInt32 >>> ((nI 1).toUInt32 &&& Int32.toUInt32 31)).toInt32)) O dJ17_bitCount_3 rfl ?_
  refine v_ldcw O q523 dJ17_bitCount_4 ?_
  refine v_iand (z := ((((nI s).toUInt32 >>> ((nI 1).toUInt32 &&& Int32.toUInt32 31)).toInt32) &&& 1431655765)) O dJ17_bitCount_7 rfl ?_
  refine v_isub (z := (nI s - ((((nI s).toUInt32 >>> ((nI 1).toUInt32 &&& Int32.toUInt32 31)).toInt32) &&& 1431655765))) O dJ17_bitCount_8 rfl ?_
  refine v_istore_n (lv' := [(0, .int (nI s - ((((nI s).toUInt32 >>> ((nI 1).toUInt32 &&& Int32.toUInt32 31)).toInt32) &&& 1431655765)))]) O hN dJ17_bitCount_9 rfl (by decide) rfl ?_
  refine v_iload_n O dJ17_bitCount_10 rfl 0 rfl ?_
  refine v_ldcw O q524 dJ17_bitCount_11 ?_
  refine v_iand (z := ((nI s - ((((nI s).toUInt32 >>> ((nI 1).toUInt32 &&& Int32.toUInt32 31)).toInt32) &&& 1431655765)) &&& 858993459)) O dJ17_bitCount_14 rfl ?_
  refine v_iload_n O dJ17_bitCount_15 rfl 0 rfl ?_
  refine v_iconst (v := nI 2) O dJ17_bitCount_16 (by decide) ?_
  refine v_iushr (z := (((nI s - ((((nI s).toUInt32 >>> ((nI 1).toUInt32 &&& Int32.toUInt32 31)).toInt32) &&& 1431655765)).toUInt32 >>> ((nI 2).toUInt32 &&& Int32.toUInt32 31)).toInt32)) O dJ17_bitCount_17 rfl ?_
  refine v_ldcw O q524 dJ17_bitCount_18 ?_
  refine v_iand (z := ((((nI s - ((((nI s).toUInt32 >>> ((nI 1).toUInt32 &&& Int32.toUInt32 31)).toInt32) &&& 1431655765)).toUInt32 >>> ((nI 2).toUInt32 &&& Int32.toUInt32 31)).toInt32) &&& 858993459)) O dJ17_bitCount_21 rfl ?_
  refine v_iadd (z := (((nI s - ((((nI s).toUInt32 >>> ((nI 1).toUInt32 &&& Int32.toUInt32 31)).toInt32) &&& 1431655765)) &&& 858993459) + ((((nI s - ((((nI s).toUInt32 >>> ((nI 1).toUInt32 &&& Int32.toUInt32 31)).toInt32) &&& 1431655765)).toUInt32 >>> ((nI 2).toUInt32 &&& Int32.toUInt32 31)).toInt32) &&& 858993459))) O dJ17_bitCount_22 rfl ?_
  refine v_istore_n (lv' := [(0, .int (((nI s - ((((nI s).toUInt32 >>> ((nI 1).toUInt32 &&& Int32.toUInt32 31)).toInt32) &&& 1431655765)) &&& 858993459) + ((((nI s - ((((nI s).toUInt32 >>> ((nI 1).toUInt32 &&& Int32.toUInt32 31)).toInt32) &&& 1431655765)).toUInt32 >>> ((nI 2).toUInt32 &&& Int32.toUInt32 31)).toInt32) &&& 858993459)))]) O hN dJ17_bitCount_23 rfl (by decide) rfl ?_
  refine v_iload_n O dJ17_bitCount_24 rfl 0 rfl ?_
  refine v_iload_n O dJ17_bitCount_25 rfl 0 rfl ?_
  refine v_iconst (v := nI 4) O dJ17_bitCount_26 (by decide) ?_
  refine v_iushr (z := (((((nI s - ((((nI s).toUInt32 >>> ((nI 1).toUInt32 &&& Int32.toUInt32 31)).toInt32) &&& 1431655765)) &&& 858993459) + ((((nI s - ((((nI s).toUInt32 >>> ((nI 1).toUInt32 &&& Int32.toUInt32 31)).toInt32) &&& 1431655765)).toUInt32 >>> ((nI 2).toUInt32 &&& Int32.toUInt32 31)).toInt32) &&& 858993459)).toUInt32 >>> ((nI 4).toUInt32 &&& Int32.toUInt32 31)).toInt32)) O dJ17_bitCount_27 rfl ?_
  refine v_iadd (z := ((((nI s - ((((nI s).toUInt32 >>> ((nI 1).toUInt32 &&& Int32.toUInt32 31)).toInt32) &&& 1431655765)) &&& 858993459) + ((((nI s - ((((nI s).toUInt32 >>> ((nI 1).toUInt32 &&& Int32.toUInt32 31)).toInt32) &&& 1431655765)).toUInt32 >>> ((nI 2).toUInt32 &&& Int32.toUInt32 31)).toInt32) &&& 858993459)) + (((((nI s - ((((nI s).toUInt32 >>> ((nI 1).toUInt32 &&& Int32.toUInt32 31)).toInt32) &&& 1431655765)) &&& 858993459) + ((((nI s - ((((nI s).toUInt32 >>> ((nI 1).toUInt32 &&& Int32.toUInt32 31)).toInt32) &&& 1431655765)).toUInt32 >>> ((nI 2).toUInt32 &&& Int32.toUInt32 31)).toInt32) &&& 858993459)).toUInt32 >>> ((nI 4).toUInt32 &&& Int32.toUInt32 31)).toInt32))) O dJ17_bitCount_28 rfl ?_
  refine v_ldcw O q525 dJ17_bitCount_29 ?_
  refine v_iand (z := (((((nI s - ((((nI s).toUInt32 >>> ((nI 1).toUInt32 &&& Int32.toUInt32 31)).toInt32) &&& 1431655765)) &&& 858993459) + ((((nI s - ((((nI s).toUInt32 >>> ((nI 1).toUInt32 &&& Int32.toUInt32 31)).toInt32) &&& 1431655765)).toUInt32 >>> ((nI 2).toUInt32 &&& Int32.toUInt32 31)).toInt32) &&& 858993459)) + (((((nI s - ((((nI s).toUInt32 >>> ((nI 1).toUInt32 &&& Int32.toUInt32 31)).toInt32) &&& 1431655765)) &&& 858993459) + ((((nI s - ((((nI s).toUInt32 >>> ((nI 1).toUInt32 &&& Int32.toUInt32 31)).toInt32) &&& 1431655765)).toUInt32 >>> ((nI 2).toUInt32 &&& Int32.toUInt32 31)).toInt32) &&& 858993459)).toUInt32 >>> ((nI 4).toUInt32 &&& Int32.toUInt32 31)).toInt32)) &&& 252645135)) O dJ17_bitCount_32 rfl ?_
  refine v_istore_n (lv' := [(0, .int (((((nI s - ((((nI s).toUInt32 >>> ((nI 1).toUInt32 &&& Int32.toUInt32 31)).toInt32) &&& 1431655765)) &&& 858993459) + ((((nI s - ((((nI s).toUInt32 >>> ((nI 1).toUInt32 &&& Int32.toUInt32 31)).toInt32) &&& 1431655765)).toUInt32 >>> ((nI 2).toUInt32 &&& Int32.toUInt32 31)).toInt32) &&& 858993459)) + (((((nI s - ((((nI s).toUInt32 >>> ((nI 1).toUInt32 &&& Int32.toUInt32 31)).toInt32) &&& 1431655765)) &&& 858993459) + ((((nI s - ((((nI s).toUInt32 >>> ((nI 1).toUInt32 &&& Int32.toUInt32 31)).toInt32) &&& 1431655765)).toUInt32 >>> ((nI 2).toUInt32 &&& Int32.toUInt32 31)).toInt32) &&& 858993459)).toUInt32 >>> ((nI 4).toUInt32 &&& Int32.toUInt32 31)).toInt32)) &&& 252645135))]) O hN dJ17_bitCount_33 rfl (by decide) rfl ?_
  refine v_iload_n O dJ17_bitCount_34 rfl 0 rfl ?_
  refine v_iload_n O dJ17_bitCount_35 rfl 0 rfl ?_
  refine v_bipush (v := nI 8) O dJ17_bitCount_36 (by decide) ?_
  refine v_iushr (z := (((((((nI s - ((((nI s).toUInt32 >>> ((nI 1).toUInt32 &&& Int32.toUInt32 31)).toInt32) &&& 1431655765)) &&& 858993459) + ((((nI s - ((((nI s).toUInt32 >>> ((nI 1).toUInt32 &&& Int32.toUInt32 31)).toInt32) &&& 1431655765)).toUInt32 >>> ((nI 2).toUInt32 &&& Int32.toUInt32 31)).toInt32) &&& 858993459)) + (((((nI s - ((((nI s).toUInt32 >>> ((nI 1).toUInt32 &&& Int32.toUInt32 31)).toInt32) &&& 1431655765)) &&& 858993459) + ((((nI s - ((((nI s).toUInt32 >>> ((nI 1).toUInt32 &&& Int32.toUInt32 31)).toInt32) &&& 1431655765)).toUInt32 >>> ((nI 2).toUInt32 &&& Int32.toUInt32 31)).toInt32) &&& 858993459)).toUInt32 >>> ((nI 4).toUInt32 &&& Int32.toUInt32 31)).toInt32)) &&& 252645135).toUInt32 >>> ((nI 8).toUInt32 &&& Int32.toUInt32 31)).toInt32)) O dJ17_bitCount_38 rfl ?_
  refine v_iadd (z := ((((((nI s - ((((nI s).toUInt32 >>> ((nI 1).toUInt32 &&& Int32.toUInt32 31)).toInt32) &&& 1431655765)) &&& 858993459) + ((((nI s - ((((nI s).toUInt32 >>> ((nI 1).toUInt32 &&& Int32.toUInt32 31)).toInt32) &&& 1431655765)).toUInt32 >>> ((nI 2).toUInt32 &&& Int32.toUInt32 31)).toInt32) &&& 858993459)) + (((((nI s - ((((nI s).toUInt32 >>> ((nI 1).toUInt32 &&& Int32.toUInt32 31)).toInt32) &&& 1431655765)) &&& 858993459) + ((((nI s - ((((nI s).toUInt32 >>> ((nI 1).toUInt32 &&& Int32.toUInt32 31)).toInt32) &&& 1431655765)).toUInt32 >>> ((nI 2).toUInt32 &&& Int32.toUInt32 31)).toInt32) &&& 858993459)).toUInt32 >>> ((nI 4).toUInt32 &&& Int32.toUInt32 31)).toInt32)) &&& 252645135) + (((((((nI s - ((((nI s).toUInt32 >>> ((nI 1).toUInt32 &&& Int32.toUInt32 31)).toInt32) &&& 1431655765)) &&& 858993459) + ((((nI s - ((((nI s).toUInt32 >>> ((nI 1).toUInt32 &&& Int32.toUInt32 31)).toInt32) &&& 1431655765)).toUInt32 >>> ((nI 2).toUInt32 &&& Int32.toUInt32 31)).toInt32) &&& 858993459)) + (((((nI s - ((((nI s).toUInt32 >>> ((nI 1).toUInt32 &&& Int32.toUInt32 31)).toInt32) &&& 1431655765)) &&& 858993459) + ((((nI s - ((((nI s).toUInt32 >>> ((nI 1).toUInt32 &&& Int32.toUInt32 31)).toInt32) &&& 1431655765)).toUInt32 >>> ((nI 2).toUInt32 &&& Int32.toUInt32 31)).toInt32) &&& 858993459)).toUInt32 >>> ((nI 4).toUInt32 &&& Int32.toUInt32 31)).toInt32)) &&& 252645135).toUInt32 >>> ((nI 8).toUInt32 &&& Int32.toUInt32 31)).toInt32))) O dJ17_bitCount_39 rfl ?_
  refine v_istore_n (lv' := [(0, .int ((((((nI s - ((((nI s).toUInt32 >>> ((nI 1).toUInt32 &&& Int32.toUInt32 31)).toInt32) &&& 1431655765)) &&& 858993459) + ((((nI s - ((((nI s).toUInt32 >>> ((nI 1).toUInt32 &&& Int32.toUInt32 31)).toInt32) &&& 1431655765)).toUInt32 >>> ((nI 2).toUInt32 &&& Int32.toUInt32 31)).toInt32) &&& 858993459)) + (((((nI s - ((((nI s).toUInt32 >>> ((nI 1).toUInt32 &&& Int32.toUInt32 31)).toInt32) &&& 1431655765)) &&& 858993459) + ((((nI s - ((((nI s).toUInt32 >>> ((nI 1).toUInt32 &&& Int32.toUInt32 31)).toInt32) &&& 1431655765)).toUInt32 >>> ((nI 2).toUInt32 &&& Int32.toUInt32 31)).toInt32) &&& 858993459)).toUInt32 >>> ((nI 4).toUInt32 &&& Int32.toUInt32 31)).toInt32)) &&& 252645135) + (((((((nI s - ((((nI s).toUInt32 >>> ((nI 1).toUInt32 &&& Int32.toUInt32 31)).toInt32) &&& 1431655765)) &&& 858993459) + ((((nI s - ((((nI s).toUInt32 >>> ((nI 1).toUInt32 &&& Int32.toUInt32 31)).toInt32) &&& 1431655765)).toUInt32 >>> ((nI 2).toUInt32 &&& Int32.toUInt32 31)).toInt32) &&& 858993459)) + (((((nI s - ((((nI s).toUInt32 >>> ((nI 1).toUInt32 &&& Int32.toUInt32 31)).toInt32) &&& 1431655765)) &&& 858993459) + ((((nI s - ((((nI s).toUInt32 >>> ((nI 1).toUInt32 &&& Int32.toUInt32 31)).toInt32) &&& 1431655765)).toUInt32 >>> ((nI 2).toUInt32 &&& Int32.toUInt32 31)).toInt32) &&& 858993459)).toUInt32 >>> ((nI 4).toUInt32 &&& Int32.toUInt32 31)).toInt32)) &&& 252645135).toUInt32 >>> ((nI 8).toUInt32 &&& Int32.toUInt32 31)).toInt32)))]) O hN dJ17_bitCount_40 rfl (by decide) rfl ?_
  refine v_iload_n O dJ17_bitCount_41 rfl 0 rfl ?_
  refine v_iload_n O dJ17_bitCount_42 rfl 0 rfl ?_
  refine v_bipush (v := nI 16) O dJ17_bitCount_43 (by decide) ?_
  refine v_iushr (z := ((((((((nI s - ((((nI s).toUInt32 >>> ((nI 1).toUInt32 &&& Int32.toUInt32 31)).toInt32) &&& 1431655765)) &&& 858993459) + ((((nI s - ((((nI s).toUInt32 >>> ((nI 1).toUInt32 &&& Int32.toUInt32 31)).toInt32) &&& 1431655765)).toUInt32 >>> ((nI 2).toUInt32 &&& Int32.toUInt32 31)).toInt32) &&& 858993459)) + (((((nI s - ((((nI s).toUInt32 >>> ((nI 1).toUInt32 &&& Int32.toUInt32 31)).toInt32) &&& 1431655765)) &&& 858993459) + ((((nI s - ((((nI s).toUInt32 >>> ((nI 1).toUInt32 &&& Int32.toUInt32 31)).toInt32) &&& 1431655765)).toUInt32 >>> ((nI 2).toUInt32 &&& Int32.toUInt32 31)).toInt32) &&& 858993459)).toUInt32 >>> ((nI 4).toUInt32 &&& Int32.toUInt32 31)).toInt32)) &&& 252645135) + (((((((nI s - ((((nI s).toUInt32 >>> ((nI 1).toUInt32 &&& Int32.toUInt32 31)).toInt32) &&& 1431655765)) &&& 858993459) + ((((nI s - ((((nI s).toUInt32 >>> ((nI 1).toUInt32 &&& Int32.toUInt32 31)).toInt32) &&& 1431655765)).toUInt32 >>> ((nI 2).toUInt32 &&& Int32.toUInt32 31)).toInt32) &&& 858993459)) + (((((nI s - ((((nI s).toUInt32 >>> ((nI 1).toUInt32 &&& Int32.toUInt32 31)).toInt32) &&& 1431655765)) &&& 858993459) + ((((nI s - ((((nI s).toUInt32 >>> ((nI 1).toUInt32 &&& Int32.toUInt32 31)).toInt32) &&& 1431655765)).toUInt32 >>> ((nI 2).toUInt32 &&& Int32.toUInt32 31)).toInt32) &&& 858993459)).toUInt32 >>> ((nI 4).toUInt32 &&& Int32.toUInt32 31)).toInt32)) &&& 252645135).toUInt32 >>> ((nI 8).toUInt32 &&& Int32.toUInt32 31)).toInt32)).toUInt32 >>> ((nI 16).toUInt32 &&& Int32.toUInt32 31)).toInt32)) O dJ17_bitCount_45 rfl ?_
  refine v_iadd (z := (((((((nI s - ((((nI s).toUInt32 >>> ((nI 1).toUInt32 &&& Int32.toUInt32 31)).toInt32) &&& 1431655765)) &&& 858993459) + ((((nI s - ((((nI s).toUInt32 >>> ((nI 1).toUInt32 &&& Int32.toUInt32 31)).toInt32) &&& 1431655765)).toUInt32 >>> ((nI 2).toUInt32 &&& Int32.toUInt32 31)).toInt32) &&& 858993459)) + (((((nI s - ((((nI s).toUInt32 >>> ((nI 1).toUInt32 &&& Int32.toUInt32 31)).toInt32) &&& 1431655765)) &&& 858993459) + ((((nI s - ((((nI s).toUInt32 >>> ((nI 1).toUInt32 &&& Int32.toUInt32 31)).toInt32) &&& 1431655765)).toUInt32 >>> ((nI 2).toUInt32 &&& Int32.toUInt32 31)).toInt32) &&& 858993459)).toUInt32 >>> ((nI 4).toUInt32 &&& Int32.toUInt32 31)).toInt32)) &&& 252645135) + (((((((nI s - ((((nI s).toUInt32 >>> ((nI 1).toUInt32 &&& Int32.toUInt32 31)).toInt32) &&& 1431655765)) &&& 858993459) + ((((nI s - ((((nI s).toUInt32 >>> ((nI 1).toUInt32 &&& Int32.toUInt32 31)).toInt32) &&& 1431655765)).toUInt32 >>> ((nI 2).toUInt32 &&& Int32.toUInt32 31)).toInt32) &&& 858993459)) + (((((nI s - ((((nI s).toUInt32 >>> ((nI 1).toUInt32 &&& Int32.toUInt32 31)).toInt32) &&& 1431655765)) &&& 858993459) + ((((nI s - ((((nI s).toUInt32 >>> ((nI 1).toUInt32 &&& Int32.toUInt32 31)).toInt32) &&& 1431655765)).toUInt32 >>> ((nI 2).toUInt32 &&& Int32.toUInt32 31)).toInt32) &&& 858993459)).toUInt32 >>> ((nI 4).toUInt32 &&& Int32.toUInt32 31)).toInt32)) &&& 252645135).toUInt32 >>> ((nI 8).toUInt32 &&& Int32.toUInt32 31)).toInt32)) + ((((((((nI s - ((((nI s).toUInt32 >>> ((nI 1).toUInt32 &&& Int32.toUInt32 31)).toInt32) &&& 1431655765)) &&& 858993459) + ((((nI s - ((((nI s).toUInt32 >>> ((nI 1).toUInt32 &&& Int32.toUInt32 31)).toInt32) &&& 1431655765)).toUInt32 >>> ((nI 2).toUInt32 &&& Int32.toUInt32 31)).toInt32) &&& 858993459)) + (((((nI s - ((((nI s).toUInt32 >>> ((nI 1).toUInt32 &&& Int32.toUInt32 31)).toInt32) &&& 1431655765)) &&& 858993459) + ((((nI s - ((((nI s).toUInt32 >>> ((nI 1).toUInt32 &&& Int32.toUInt32 31)).toInt32) &&& 1431655765)).toUInt32 >>> ((nI 2).toUInt32 &&& Int32.toUInt32 31)).toInt32) &&& 858993459)).toUInt32 >>> ((nI 4).toUInt32 &&& Int32.toUInt32 31)).toInt32)) &&& 252645135) + (((((((nI s - ((((nI s).toUInt32 >>> ((nI 1).toUInt32 &&& Int32.toUInt32 31)).toInt32) &&& 1431655765)) &&& 858993459) + ((((nI s - ((((nI s).toUInt32 >>> ((nI 1).toUInt32 &&& Int32.toUInt32 31)).toInt32) &&& 1431655765)).toUInt32 >>> ((nI 2).toUInt32 &&& Int32.toUInt32 31)).toInt32) &&& 858993459)) + (((((nI s - ((((nI s).toUInt32 >>> ((nI 1).toUInt32 &&& Int32.toUInt32 31)).toInt32) &&& 1431655765)) &&& 858993459) + ((((nI s - ((((nI s).toUInt32 >>> ((nI 1).toUInt32 &&& Int32.toUInt32 31)).toInt32) &&& 1431655765)).toUInt32 >>> ((nI 2).toUInt32 &&& Int32.toUInt32 31)).toInt32) &&& 858993459)).toUInt32 >>> ((nI 4).toUInt32 &&& Int32.toUInt32 31)).toInt32)) &&& 252645135).toUInt32 >>> ((nI 8).toUInt32 &&& Int32.toUInt32 31)).toInt32)).toUInt32 >>> ((nI 16).toUInt32 &&& Int32.toUInt32 31)).toInt32))) O dJ17_bitCount_46 rfl ?_
  refine v_istore_n (lv' := [(0, .int (((((((nI s - ((((nI s).toUInt32 >>> ((nI 1).toUInt32 &&& Int32.toUInt32 31)).toInt32) &&& 1431655765)) &&& 858993459) + ((((nI s - ((((nI s).toUInt32 >>> ((nI 1).toUInt32 &&& Int32.toUInt32 31)).toInt32) &&& 1431655765)).toUInt32 >>> ((nI 2).toUInt32 &&& Int32.toUInt32 31)).toInt32) &&& 858993459)) + (((((nI s - ((((nI s).toUInt32 >>> ((nI 1).toUInt32 &&& Int32.toUInt32 31)).toInt32) &&& 1431655765)) &&& 858993459) + ((((nI s - ((((nI s).toUInt32 >>> ((nI 1).toUInt32 &&& Int32.toUInt32 31)).toInt32) &&& 1431655765)).toUInt32 >>> ((nI 2).toUInt32 &&& Int32.toUInt32 31)).toInt32) &&& 858993459)).toUInt32 >>> ((nI 4).toUInt32 &&& Int32.toUInt32 31)).toInt32)) &&& 252645135) + (((((((nI s - ((((nI s).toUInt32 >>> ((nI 1).toUInt32 &&& Int32.toUInt32 31)).toInt32) &&& 1431655765)) &&& 858993459) + ((((nI s - ((((nI s).toUInt32 >>> ((nI 1).toUInt32 &&& Int32.toUInt32 31)).toInt32) &&& 1431655765)).toUInt32 >>> ((nI 2).toUInt32 &&& Int32.toUInt32 31)).toInt32) &&& 858993459)) + (((((nI s - ((((nI s).toUInt32 >>> ((nI 1).toUInt32 &&& Int32.toUInt32 31)).toInt32) &&& 1431655765)) &&& 858993459) + ((((nI s - ((((nI s).toUInt32 >>> ((nI 1).toUInt32 &&& Int32.toUInt32 31)).toInt32) &&& 1431655765)).toUInt32 >>> ((nI 2).toUInt32 &&& Int32.toUInt32 31)).toInt32) &&& 858993459)).toUInt32 >>> ((nI 4).toUInt32 &&& Int32.toUInt32 31)).toInt32)) &&& 252645135).toUInt32 >>> ((nI 8).toUInt32 &&& Int32.toUInt32 31)).toInt32)) + ((((((((nI s - ((((nI s).toUInt32 >>> ((nI 1).toUInt32 &&& Int32.toUInt32 31)).toInt32) &&& 1431655765)) &&& 858993459) + ((((nI s - ((((nI s).toUInt32 >>> ((nI 1).toUInt32 &&& Int32.toUInt32 31)).toInt32) &&& 1431655765)).toUInt32 >>> ((nI 2).toUInt32 &&& Int32.toUInt32 31)).toInt32) &&& 858993459)) + (((((nI s - ((((nI s).toUInt32 >>> ((nI 1).toUInt32 &&& Int32.toUInt32 31)).toInt32) &&& 1431655765)) &&& 858993459) + ((((nI s - ((((nI s).toUInt32 >>> ((nI 1).toUInt32 &&& Int32.toUInt32 31)).toInt32) &&& 1431655765)).toUInt32 >>> ((nI 2).toUInt32 &&& Int32.toUInt32 31)).toInt32) &&& 858993459)).toUInt32 >>> ((nI 4).toUInt32 &&& Int32.toUInt32 31)).toInt32)) &&& 252645135) + (((((((nI s - ((((nI s).toUInt32 >>> ((nI 1).toUInt32 &&& Int32.toUInt32 31)).toInt32) &&& 1431655765)) &&& 858993459) + ((((nI s - ((((nI s).toUInt32 >>> ((nI 1).toUInt32 &&& Int32.toUInt32 31)).toInt32) &&& 1431655765)).toUInt32 >>> ((nI 2).toUInt32 &&& Int32.toUInt32 31)).toInt32) &&& 858993459)) + (((((nI s - ((((nI s).toUInt32 >>> ((nI 1).toUInt32 &&& Int32.toUInt32 31)).toInt32) &&& 1431655765)) &&& 858993459) + ((((nI s - ((((nI s).toUInt32 >>> ((nI 1).toUInt32 &&& Int32.toUInt32 31)).toInt32) &&& 1431655765)).toUInt32 >>> ((nI 2).toUInt32 &&& Int32.toUInt32 31)).toInt32) &&& 858993459)).toUInt32 >>> ((nI 4).toUInt32 &&& Int32.toUInt32 31)).toInt32)) &&& 252645135).toUInt32 >>> ((nI 8).toUInt32 &&& Int32.toUInt32 31)).toInt32)).toUInt32 >>> ((nI 16).toUInt32 &&& Int32.toUInt32 31)).toInt32)))]) O hN dJ17_bitCount_47 rfl (by decide) rfl ?_
  refine v_iload_n O dJ17_bitCount_48 rfl 0 rfl ?_
  refine v_bipush (v := nI 63) O dJ17_bitCount_49 (by decide) ?_
  refine v_iand (z := ((((((((nI s - ((((nI s).toUInt32 >>> ((nI 1).toUInt32 &&& Int32.toUInt32 31)).toInt32) &&& 1431655765)) &&& 858993459) + ((((nI s - ((((nI s).toUInt32 >>> ((nI 1).toUInt32 &&& Int32.toUInt32 31)).toInt32) &&& 1431655765)).toUInt32 >>> ((nI 2).toUInt32 &&& Int32.toUInt32 31)).toInt32) &&& 858993459)) + (((((nI s - ((((nI s).toUInt32 >>> ((nI 1).toUInt32 &&& Int32.toUInt32 31)).toInt32) &&& 1431655765)) &&& 858993459) + ((((nI s - ((((nI s).toUInt32 >>> ((nI 1).toUInt32 &&& Int32.toUInt32 31)).toInt32) &&& 1431655765)).toUInt32 >>> ((nI 2).toUInt32 &&& Int32.toUInt32 31)).toInt32) &&& 858993459)).toUInt32 >>> ((nI 4).toUInt32 &&& Int32.toUInt32 31)).toInt32)) &&& 252645135) + (((((((nI s - ((((nI s).toUInt32 >>> ((nI 1).toUInt32 &&& Int32.toUInt32 31)).toInt32) &&& 1431655765)) &&& 858993459) + ((((nI s - ((((nI s).toUInt32 >>> ((nI 1).toUInt32 &&& Int32.toUInt32 31)).toInt32) &&& 1431655765)).toUInt32 >>> ((nI 2).toUInt32 &&& Int32.toUInt32 31)).toInt32) &&& 858993459)) + (((((nI s - ((((nI s).toUInt32 >>> ((nI 1).toUInt32 &&& Int32.toUInt32 31)).toInt32) &&& 1431655765)) &&& 858993459) + ((((nI s - ((((nI s).toUInt32 >>> ((nI 1).toUInt32 &&& Int32.toUInt32 31)).toInt32) &&& 1431655765)).toUInt32 >>> ((nI 2).toUInt32 &&& Int32.toUInt32 31)).toInt32) &&& 858993459)).toUInt32 >>> ((nI 4).toUInt32 &&& Int32.toUInt32 31)).toInt32)) &&& 252645135).toUInt32 >>> ((nI 8).toUInt32 &&& Int32.toUInt32 31)).toInt32)) + ((((((((nI s - ((((nI s).toUInt32 >>> ((nI 1).toUInt32 &&& Int32.toUInt32 31)).toInt32) &&& 1431655765)) &&& 858993459) + ((((nI s - ((((nI s).toUInt32 >>> ((nI 1).toUInt32 &&& Int32.toUInt32 31)).toInt32) &&& 1431655765)).toUInt32 >>> ((nI 2).toUInt32 &&& Int32.toUInt32 31)).toInt32) &&& 858993459)) + (((((nI s - ((((nI s).toUInt32 >>> ((nI 1).toUInt32 &&& Int32.toUInt32 31)).toInt32) &&& 1431655765)) &&& 858993459) + ((((nI s - ((((nI s).toUInt32 >>> ((nI 1).toUInt32 &&& Int32.toUInt32 31)).toInt32) &&& 1431655765)).toUInt32 >>> ((nI 2).toUInt32 &&& Int32.toUInt32 31)).toInt32) &&& 858993459)).toUInt32 >>> ((nI 4).toUInt32 &&& Int32.toUInt32 31)).toInt32)) &&& 252645135) + (((((((nI s - ((((nI s).toUInt32 >>> ((nI 1).toUInt32 &&& Int32.toUInt32 31)).toInt32) &&& 1431655765)) &&& 858993459) + ((((nI s - ((((nI s).toUInt32 >>> ((nI 1).toUInt32 &&& Int32.toUInt32 31)).toInt32) &&& 1431655765)).toUInt32 >>> ((nI 2).toUInt32 &&& Int32.toUInt32 31)).toInt32) &&& 858993459)) + (((((nI s - ((((nI s).toUInt32 >>> ((nI 1).toUInt32 &&& Int32.toUInt32 31)).toInt32) &&& 1431655765)) &&& 858993459) + ((((nI s - ((((nI s).toUInt32 >>> ((nI 1).toUInt32 &&& Int32.toUInt32 31)).toInt32) &&& 1431655765)).toUInt32 >>> ((nI 2).toUInt32 &&& Int32.toUInt32 31)).toInt32) &&& 858993459)).toUInt32 >>> ((nI 4).toUInt32 &&& Int32.toUInt32 31)).toInt32)) &&& 252645135).toUInt32 >>> ((nI 8).toUInt32 &&& Int32.toUInt32 31)).toInt32)).toUInt32 >>> ((nI 16).toUInt32 &&& Int32.toUInt32 31)).toInt32)) &&& (nI 63))) O dJ17_bitCount_51 rfl ?_
  exact v_iret O rfl dJ17_bitCount_52 (by omega) (by omega) (⟨congrArg (fun z => some (Value.int z)) (bitc_ok s hs), rfl⟩)
theorem l_J2_fill {G : vGC} (hG : vGok G) {X : vCX} {Q : State → Prop} {c0 n0 : Nat} (O : vOk G X yJ2_fill.cls cJ2_fill none 1 0 0) (hN : xn X = 4) (hcm0 : c0 ≤ 0) (hsm0 : n0 ≤ 0) {a l n : Nat} {v : Int32} (hl : l ≠ 0) (hn : n < 2 ^ 31) {σ0 : vSt} (kx : ∀ σ : vSt, FrL [l] σ0 σ → (∀ b, b ≠ a → σ b = σ0 b) → (∃ f : Nat → Int32, σ a = some (l, .inl (0, n, .inl f)) ∧ ∀ j, j < n → f j = v) → V G X Q c0 n0 σ 20 [(0, .ref a), (1, .int v), (3, .int (nI n)), (2, .int (nI n))] []) : ∀ (k : Nat) (i : Nat) (σ : vSt) (f : Nat → Int32), (n < i + k) → (i ≤ n) → (FrL [l] σ0 σ) → (∀ b, b ≠ a → σ b = σ0 b) → (σ a = some (l, .inl (0, n, .inl f)) ∧ ∀ j, j < i → f j = v) → V G X Q c0 n0 σ 5 [(0, .ref a), (1, .int v), (3, .int (nI n)), (2, .int (nI i))] [] := by
  intro k
  induction k with
  | zero => intro i σ f h0 h1 h2 h4 h3; exact absurd h0 (by omega)
  | succ k ih =>
    intro i σ f h0 h1 h2 h4 h3
    refine v_iload_n O dJ2_fill_5 rfl 3 rfl ?_
    refine v_iload_n O dJ2_fill_6 rfl 2 rfl ?_
    refine v_icmp_geN (tgt := 20) O dJ2_fill_7 (by decide) (by omega) (by omega) (fun h_7 => ?_) (fun h_7 => ?_)
    · obtain rfl : i = n := by omega
      exact kx σ h2 h4 ⟨f, h3⟩
    · refine v_aload_n O dJ2_fill_10 rfl 0 rfl ?_
      refine v_iload_n O dJ2_fill_11 rfl 3 rfl ?_
      refine v_iload_n O dJ2_fill_12 rfl 1 rfl ?_
      refine v_iast O hl h3.1 (by omega) (by omega) dJ2_fill_13 ?_
      refine v_iinc (v := nI (i + 1)) (lv' := [(2, .int (nI (i + 1))), (0, .ref a), (1, .int v), (3, .int (nI n))]) O hN dJ2_fill_14 3 rfl (nI_add i 1) (by decide) rfl ?_
      refine v_goto (tgt := 5) O dJ2_fill_17 (by decide) ?_
      refine v_lv [1, 2, 3, 0] rfl ?_
      exact ih (i + 1) _ _ (by omega) (by omega) (h2.trans (FrL.up h3.1 (by simp))) (fun b hb => (vUp_n hb).trans (h4 b hb)) ⟨vUp_s, fun j hj => by
        by_cases e : j = i
        · simp [va_up, e]
        · simp only [va_up, e, if_false]; exact h3.2 j (by omega)⟩
theorem c_J2_fill {G : vGC} (hG : vGok G) {σ : vSt} {a l n : Nat} {v : Int32} {f : Nat → Int32} (hl : l ≠ 0) (hn : n < 2 ^ 31) (ha : σ a = some (l, .inl (0, n, .inl f))) : Ct G yJ2_fill (ws_ yJ2_fill cJ2_fill 4 none) 1 0 0 σ [.ref a, .int v] (fun r σ9 => r = none ∧ FrL [l] σ σ9 ∧ (∀ b, b ≠ a → σ9 b = σ b) ∧ ∃ f : Nat → Int32, σ9 a = some (l, .inl (0, n, .inl f)) ∧ ∀ j, j < n → f j = v) vNo := by
  refine ct_of hG (by decide) (Nat.le_of_ble_eq_true rfl) fun X hN O hnm htb => ?_
  show V G X _ 0 0 σ 0 [(0, .ref a), (1, .int v)] []
  refine v_iconst (v := nI 0) O dJ2_fill_0 (by decide) ?_
  refine v_istore_n (lv' := [(2, .int (nI 0)), (0, .ref a), (1, .int v)]) O hN dJ2_fill_1 rfl (by decide) rfl ?_
  refine v_aload_n O dJ2_fill_2 rfl 1 rfl ?_
  refine v_alen (v := nI n) O ha rfl rfl dJ2_fill_3 ?_
  refine v_istore_n (lv' := [(3, .int (nI n)), (2, .int (nI 0)), (0, .ref a), (1, .int v)]) O hN dJ2_fill_4 rfl (by decide) rfl ?_
  refine v_lv [2, 3, 0, 1] rfl ?_
  refine l_J2_fill hG O hN (by omega) (by omega) hl hn (fun σ8 h1 h2 h3 => ?_) (n + 1) 0 σ f (by omega) (by omega) FrL.rf (fun _ _ => rfl) ⟨ha, fun j h => absurd h (by omega)⟩
  exact v_vret O rfl dJ2_fill_20 (by omega) (by omega) ⟨rfl, h1, h2, h3⟩
theorem c_X2_isLine {G : vGC} (hG : vGok G) {σ : vSt} {h : Nat} {N : NetM} (hN0 : NetAt σ h N) (hn : N.1 ≤ 12) {a b : Nat} (ha : a < N.1) (hb : b < N.1) : Ct G yX2_isLine (ws_ yX2_isLine cX2_isLine 3 (some .boolean)) 1 0 0 σ [.ref h, .int (nI a), .int (nI b)] (fun v σ9 => v = some (.int (bI (ln N a b))) ∧ σ9 = σ) vNo := by
  refine ct_of hG (by decide) (Nat.le_of_ble_eq_true rfl) fun X hN O hnm htb => ?_
  show V G X _ 0 0 σ 0 [(0, .ref h), (1, .int (nI a)), (2, .int (nI b))] []
  obtain ⟨ad, I, F, L, hR, hn0, hw, hm⟩ := id hN0
  refine v_aload_n O dX2_isLine_0 rfl 0 rfl ?_
  refine v_getf (C := RX2) (T := TX2) (N := 3) (v := .ref (ad 1)) O in_X2 hR.ob rfl 1 (by decide) rfl q155 rfl dX2_isLine_1 ?_
  refine v_iload_n O dX2_isLine_4 rfl 1 rfl ?_
  refine v_aald (r := .ref (ad (100 + a))) O (hR.og 1 rfl) rfl rfl (by omega) (by omega) rfl dX2_isLine_5 ?_
  refine v_iload_n O dX2_isLine_6 rfl 2 rfl ?_
  refine v_iald O (hR.ar (100 + a) (layN_row (by omega))) (by omega) (by omega) dX2_isLine_7 ?_
  refine v_top (y := (N.2.1 a b)) (hw a b (by omega) (by omega)) ?_
  refine v_iconst (v := (-1)) O dX2_isLine_8 (by decide) ?_
  refine v_icmp_eq (tgt := 16) O dX2_isLine_9 (by decide) (fun h_9 => ?_) (fun h_9 => ?_)
  · refine v_iconst (v := nI 0) O dX2_isLine_16 (by decide) ?_
    exact v_zret (ty := .boolean) O rfl rfl dX2_isLine_17 (by omega) (by omega) (⟨bIF (by simpa [ln] using h_9), rfl⟩)
  · refine v_iconst (v := nI 1) O dX2_isLine_12 (by decide) ?_
    refine v_goto (tgt := 17) O dX2_isLine_13 (by decide) ?_
    exact v_zret (ty := .boolean) O rfl rfl dX2_isLine_17 (by omega) (by omega) (⟨bIT (by simpa [ln] using h_9), rfl⟩)
theorem c_X2_all {G : vGC} (hG : vGok G) {σ : vSt} {h : Nat} {N : NetM} (hN0 : NetAt σ h N) (hn : N.1 ≤ 12) : Ct G yX2_all (ws_ yX2_all cX2_all 1 (some .int)) 1 0 0 σ [.ref h] (fun v σ9 => v = some (.int (nI (allN N))) ∧ σ9 = σ) vNo := by
  refine ct_of hG (by decide) (Nat.le_of_ble_eq_true rfl) fun X hN O hnm htb => ?_
  show V G X _ 0 0 σ 0 [(0, .ref h)] []
  obtain ⟨ad, I, F, L, hR, hn0, hw, hm⟩ := id hN0
  have h2 : 1 ≤ 2 ^ N.1 := Nat.one_le_two_pow
  refine v_iconst (v := nI 1) O dX2_all_0 (by decide) ?_
  refine v_aload_n O dX2_all_1 rfl 0 rfl ?_
  refine v_getf (C := RX2) (T := TX2) (N := 3) (v := .int (nI N.1)) O in_X2 hR.ob rfl 0 (by decide) rfl q149 (congrArg (fun z => some (Value.int z)) hn0) dX2_all_2 ?_
  refine v_ishl (z := nI (2 ^ N.1)) O dX2_all_5 (bx_shl1 (by omega)) ?_
  refine v_iconst (v := nI 1) O dX2_all_6 (by decide) ?_
  refine v_isub (z := nI ((2 ^ N.1) - 1)) O dX2_all_7 (pk_sub (by omega)) ?_
  exact v_iret O rfl dX2_all_8 (by omega) (by omega) (⟨rfl, rfl⟩)
theorem mdX2_isLine : vMd yX2_isLine 2 := ⟨by decide +kernel, by decide +kernel, by decide +kernel⟩
theorem l_X2_beside {G : vGC} (hG : vGok G) {X : vCX} {Q : State → Prop} {c0 n0 : Nat} (O : vOk G X yX2_beside.cls cX2_beside (some .int) 2 0 0) (hN : xn X = 4) (hcm0 : c0 ≤ 0) (hsm0 : n0 ≤ 0) {σ : vSt} {h : Nat} {N : NetM} (hN0 : NetAt σ h N) (hn : N.1 ≤ 12) {a : Nat} (ha : a < N.1) (kx : V G X Q c0 n0 σ 37 [(0, .ref h), (1, .int (nI a)), (2, .int (nI (besN N a))), (3, .int (nI N.1))] []) : ∀ (k : Nat) (b : Nat) (s : Nat), (N.1 < b + k) → (b ≤ N.1) → (s = mk (fun b => ln N a b) b) → V G X Q c0 n0 σ 4 [(0, .ref h), (1, .int (nI a)), (2, .int (nI s)), (3, .int (nI b))] [] := by
  intro k
  induction k with
  | zero => intro b s h0 h1 h2; exact absurd h0 (by omega)
  | succ k ih =>
    intro b s h0 h1 h2
    obtain ⟨ad, I, F, L, hR, hn0, hw, hm⟩ := id hN0
    refine v_iload_n O dX2_beside_4 rfl 3 rfl ?_
    refine v_aload_n O dX2_beside_5 rfl 0 rfl ?_
    refine v_getf (C := RX2) (T := TX2) (N := 3) (v := .int (nI N.1)) O in_X2 hR.ob rfl 0 (by decide) rfl q149 (congrArg (fun z => some (Value.int z)) hn0) dX2_beside_6 ?_
    refine v_icmp_geN (tgt := 37) O dX2_beside_9 (by decide) (by omega) (by omega) (fun h_9 => ?_) (fun h_9 => ?_)
    · obtain rfl : b = N.1 := by omega
      subst h2
      exact kx
    · refine v_iload_n O dX2_beside_12 rfl 2 rfl ?_
      refine v_aload_n O dX2_beside_13 rfl 0 rfl ?_
      refine v_iload_n O dX2_beside_14 rfl 1 rfl ?_
      refine v_iload_n O dX2_beside_15 rfl 3 rfl ?_
      refine v_callV (as := [.int (nI a), .int (nI b)]) (rest := [.int (nI s)]) O (c_X2_isLine hG hN0 (by omega) (a := a) (b := b) (by omega) (by omega)) q1045 q281 q282 q75 q283 hR.ob (show vcl[1]? = some (RX2, TX2, 3) from rfl) rfl mdX2_isLine rfl (by decide) (by omega) (by omega) (by omega) (Nat.le_of_ble_eq_true rfl) rfl dX2_beside_16 (fun v9 σ9 hp9 => ?_) (fun _ _ _ h => False.elim h)
      obtain ⟨rfl, rfl⟩ := hp9
      refine v_if_eqB (tgt := 28) O dX2_beside_19 (by decide) (fun h_19 => ?_) (fun h_19 => ?_)
      · refine v_iconst (v := nI 0) O dX2_beside_28 (by decide) ?_
        refine v_ior (z := nI (s ||| 0)) O dX2_beside_29 (bx_or s 0) ?_
        refine v_istore_n (lv' := [(2, .int (nI (s ||| 0))), (0, .ref h), (1, .int (nI a)), (3, .int (nI b))]) O hN dX2_beside_30 rfl (by decide) rfl ?_
        refine v_iinc (v := nI (b + 1)) (lv' := [(3, .int (nI (b + 1))), (2, .int (nI (s ||| 0))), (0, .ref h), (1, .int (nI a))]) O hN dX2_beside_31 3 rfl (nI_add b 1) (by decide) rfl ?_
        refine v_goto (tgt := 4) O dX2_beside_34 (by decide) ?_
        refine v_lv [2, 3, 1, 0] rfl ?_
        exact ih (b + 1) _ (by omega) (by omega) (by simp [mk, h2, h_19])
      · refine v_iconst (v := nI 1) O dX2_beside_22 (by decide) ?_
        refine v_iload_n O dX2_beside_23 rfl 3 rfl ?_
        refine v_ishl (z := nI (2 ^ b)) O dX2_beside_24 (bx_shl1 (by omega)) ?_
        refine v_goto (tgt := 29) O dX2_beside_25 (by decide) ?_
        refine v_ior (z := nI (s ||| (2 ^ b))) O dX2_beside_29 (bx_or s (2 ^ b)) ?_
        refine v_istore_n (lv' := [(2, .int (nI (s ||| (2 ^ b)))), (0, .ref h), (1, .int (nI a)), (3, .int (nI b))]) O hN dX2_beside_30 rfl (by decide) rfl ?_
        refine v_iinc (v := nI (b + 1)) (lv' := [(3, .int (nI (b + 1))), (2, .int (nI (s ||| (2 ^ b)))), (0, .ref h), (1, .int (nI a))]) O hN dX2_beside_31 3 rfl (nI_add b 1) (by decide) rfl ?_
        refine v_goto (tgt := 4) O dX2_beside_34 (by decide) ?_
        refine v_lv [2, 3, 1, 0] rfl ?_
        exact ih (b + 1) _ (by omega) (by omega) (by simp [mk, h2, h_19])
theorem c_X2_beside {G : vGC} (hG : vGok G) {σ : vSt} {h : Nat} {N : NetM} (hN0 : NetAt σ h N) (hn : N.1 ≤ 12) {a : Nat} (ha : a < N.1) : Ct G yX2_beside (ws_ yX2_beside cX2_beside 4 (some .int)) 2 0 0 σ [.ref h, .int (nI a)] (fun v σ9 => v = some (.int (nI (besN N a))) ∧ σ9 = σ) vNo := by
  refine ct_of hG (by decide) (Nat.le_of_ble_eq_true rfl) fun X hN O hnm htb => ?_
  show V G X _ 0 0 σ 0 [(0, .ref h), (1, .int (nI a))] []
  refine v_iconst (v := nI 0) O dX2_beside_0 (by decide) ?_
  refine v_istore_n (lv' := [(2, .int (nI 0)), (0, .ref h), (1, .int (nI a))]) O hN dX2_beside_1 rfl (by decide) rfl ?_
  refine v_iconst (v := nI 0) O dX2_beside_2 (by decide) ?_
  refine v_istore_n (lv' := [(3, .int (nI 0)), (2, .int (nI 0)), (0, .ref h), (1, .int (nI a))]) O hN dX2_beside_3 rfl (by decide) rfl ?_
  refine v_lv [2, 3, 1, 0] rfl ?_
  refine l_X2_beside hG O hN (by omega) (by omega) hN0 hn ha ?_ (N.1 + 1) 0 0 (by omega) (by omega) rfl
  refine v_iload_n O dX2_beside_37 rfl 2 rfl ?_
  exact v_iret O rfl dX2_beside_38 (by omega) (by omega) ⟨rfl, rfl⟩
theorem besN_4096 {N : NetM} {a : Nat} (h : N.1 ≤ 12) : besN N a < 4096 := mk_4096 _ h
theorem mdX2_beside : vMd yX2_beside 1 := ⟨by decide +kernel, by decide +kernel, by decide +kernel⟩
theorem mdJ17_bitCount : vMd yJ17_bitCount 1 := ⟨by decide +kernel, by decide +kernel, by decide +kernel⟩
theorem l_X2_lines {G : vGC} (hG : vGok G) {X : vCX} {Q : State → Prop} {c0 n0 : Nat} (O : vOk G X yX2_lines.cls cX2_lines (some .int) 3 0 0) (hN : xn X = 3) (hcm0 : c0 ≤ 0) (hsm0 : n0 ≤ 0) {σ : vSt} {h : Nat} {N : NetM} (hN0 : NetAt σ h N) (hn : N.1 ≤ 12) (kx : V G X Q c0 n0 σ 29 [(0, .ref h), (1, .int (nI (sumN (fun a => pcn (besN N a)) N.1))), (2, .int (nI N.1))] []) : ∀ (k : Nat) (a : Nat) (s : Nat), (N.1 < a + k) → (a ≤ N.1) → (s = sumN (fun a => pcn (besN N a)) a) → V G X Q c0 n0 σ 4 [(0, .ref h), (1, .int (nI s)), (2, .int (nI a))] [] := by
  intro k
  induction k with
  | zero => intro a s h0 h1 h2; exact absurd h0 (by omega)
  | succ k ih =>
    intro a s h0 h1 h2
    obtain ⟨ad, I, F, L, hR, hn0, hw, hm⟩ := id hN0
    have h4 := @besN_4096 N a hn
    refine v_iload_n O dX2_lines_4 rfl 2 rfl ?_
    refine v_aload_n O dX2_lines_5 rfl 0 rfl ?_
    refine v_getf (C := RX2) (T := TX2) (N := 3) (v := .int (nI N.1)) O in_X2 hR.ob rfl 0 (by decide) rfl q149 (congrArg (fun z => some (Value.int z)) hn0) dX2_lines_6 ?_
    refine v_icmp_geN (tgt := 29) O dX2_lines_9 (by decide) (by omega) (by omega) (fun h_9 => ?_) (fun h_9 => ?_)
    · obtain rfl : a = N.1 := by omega
      subst h2
      exact kx
    · refine v_iload_n O dX2_lines_12 rfl 1 rfl ?_
      refine v_aload_n O dX2_lines_13 rfl 0 rfl ?_
      refine v_iload_n O dX2_lines_14 rfl 2 rfl ?_
      refine v_callV (as := [.int (nI a)]) (rest := [.int (nI s)]) O (c_X2_beside hG hN0 (by omega) (a := a) (by omega)) q1136 q1137 q1138 q75 q1139 hR.ob (show vcl[1]? = some (RX2, TX2, 3) from rfl) rfl mdX2_beside rfl (by decide) (by omega) (by omega) (by omega) (Nat.le_of_ble_eq_true rfl) rfl dX2_lines_15 (fun v9 σ9 hp9 => ?_) (fun _ _ _ h => False.elim h)
      obtain ⟨rfl, rfl⟩ := hp9
      refine v_callS (as := [.int (nI (besN N a))]) (rest := [.int (nI s)]) O (c_J17_bitCount hG (s := besN N a) (by omega)) q1140 q521 q95 q522 mdJ17_bitCount rfl (by decide) (by omega) (by omega) (by omega) (Nat.le_of_ble_eq_true rfl) rfl dX2_lines_18 (fun v9 σ9 hp9 => ?_) (fun _ _ _ h => False.elim h)
      obtain ⟨rfl, rfl⟩ := hp9
      refine v_iadd (z := nI (s + (pcn (besN N a)))) O dX2_lines_21 (nI_add s (pcn (besN N a))) ?_
      refine v_istore_n (lv' := [(1, .int (nI (s + (pcn (besN N a))))), (0, .ref h), (2, .int (nI a))]) O hN dX2_lines_22 rfl (by decide) rfl ?_
      refine v_iinc (v := nI (a + 1)) (lv' := [(2, .int (nI (a + 1))), (1, .int (nI (s + (pcn (besN N a))))), (0, .ref h)]) O hN dX2_lines_23 2 rfl (nI_add a 1) (by decide) rfl ?_
      refine v_goto (tgt := 4) O dX2_lines_26 (by decide) ?_
      refine v_lv [2, 1, 0] rfl ?_
      exact ih (a + 1) _ (by omega) (by omega) (by rw [sumN, h2])
theorem c_X2_lines {G : vGC} (hG : vGok G) {σ : vSt} {h : Nat} {N : NetM} (hN0 : NetAt σ h N) (hn : N.1 ≤ 12) : Ct G yX2_lines (ws_ yX2_lines cX2_lines 3 (some .int)) 3 0 0 σ [.ref h] (fun v σ9 => v = some (.int (nI (linesN N))) ∧ σ9 = σ) vNo := by
  refine ct_of hG (by decide) (Nat.le_of_ble_eq_true rfl) fun X hN O hnm htb => ?_
  show V G X _ 0 0 σ 0 [(0, .ref h)] []
  refine v_iconst (v := nI 0) O dX2_lines_0 (by decide) ?_
  refine v_istore_n (lv' := [(1, .int (nI 0)), (0, .ref h)]) O hN dX2_lines_1 rfl (by decide) rfl ?_
  refine v_iconst (v := nI 0) O dX2_lines_2 (by decide) ?_
  refine v_istore_n (lv' := [(2, .int (nI 0)), (1, .int (nI 0)), (0, .ref h)]) O hN dX2_lines_3 rfl (by decide) rfl ?_
  refine v_lv [2, 1, 0] rfl ?_
  refine l_X2_lines hG O hN (by omega) (by omega) hN0 hn ?_ (N.1 + 1) 0 0 (by omega) (by omega) rfl
  have h5 : sumN (fun a => pcn (besN N a)) N.1 ≤ N.1 * 12 := sumN_le (fun _ => pcn_le _) _
  refine v_iload_n O dX2_lines_29 rfl 1 rfl ?_
  refine v_iconst (v := nI 2) O dX2_lines_30 (by decide) ?_
  refine v_idiv (z := nI (linesN N)) O dX2_lines_31 (by decide) (pk_div (by omega) (by omega) (by omega)) ?_
  exact v_iret O rfl dX2_lines_32 (by omega) (by omega) ⟨rfl, rfl⟩
theorem l_X2_pairMany {G : vGC} (hG : vGok G) {X : vCX} {Q : State → Prop} {c0 n0 : Nat} (O : vOk G X yX2_pairMany.cls cX2_pairMany (some .int) 1 0 0) (hN : xn X = 6) (hcm0 : c0 ≤ 0) (hsm0 : n0 ≤ 0) {σ : vSt} {h : Nat} {N : NetM} (hN0 : NetAt σ h N) (hn : N.1 ≤ 12) {ma : Nat} {f : Nat → Int32} (hma : σ ma = some (h, .inl (0, N.1, .inl f))) (hf : ∀ i, i < N.1 → f i = N.2.2 i) (kx : V G X Q c0 n0 σ 45 [(0, .ref h), (1, .int (nI (matedN N)))] []) : ∀ (k : Nat) (a : Nat) (s : Nat), (N.1 < a + k) → (a ≤ N.1) → (s = cnt (fun a => decide (N.2.2 a ≠ -1)) a) → V G X Q c0 n0 σ 13 [(0, .ref h), (2, .ref ma), (3, .int (nI N.1)), (1, .int (nI s)), (4, .int (nI a))] [] := by
  intro k
  induction k with
  | zero => intro a s h0 h1 h2; exact absurd h0 (by omega)
  | succ k ih =>
    intro a s h0 h1 h2
    refine v_iload O dX2_pairMany_13 4 rfl ?_
    refine v_iload_n O dX2_pairMany_15 rfl 2 rfl ?_
    refine v_icmp_geN (tgt := 45) O dX2_pairMany_16 (by decide) (by omega) (by omega) (fun h_16 => ?_) (fun h_16 => ?_)
    · obtain rfl : a = N.1 := by omega
      subst h2
      exact v_lv [0, 3] rfl kx
    · refine v_aload_n O dX2_pairMany_19 rfl 1 rfl ?_
      refine v_iload O dX2_pairMany_20 4 rfl ?_
      refine v_iald O hma (by omega) (by omega) dX2_pairMany_22 ?_
      refine v_top (y := (N.2.2 a)) (hf a (by omega)) ?_
      refine v_istore (lv' := [(5, .int (N.2.2 a)), (0, .ref h), (2, .ref ma), (3, .int (nI N.1)), (1, .int (nI s)), (4, .int (nI a))]) O hN dX2_pairMany_23 (by decide) rfl ?_
      refine v_iload_n O dX2_pairMany_25 rfl 4 rfl ?_
      refine v_iload O dX2_pairMany_26 0 rfl ?_
      refine v_iconst (v := (-1)) O dX2_pairMany_28 (by decide) ?_
      refine v_icmp_ne (tgt := 36) O dX2_pairMany_29 (by decide) (fun h_29 => ?_) (fun h_29 => ?_)
      · refine v_iconst (v := nI 1) O dX2_pairMany_36 (by decide) ?_
        refine v_iadd (z := nI (s + 1)) O dX2_pairMany_37 (nI_add s 1) ?_
        refine v_istore_n (lv' := [(1, .int (nI (s + 1))), (5, .int (N.2.2 a)), (0, .ref h), (2, .ref ma), (3, .int (nI N.1)), (4, .int (nI a))]) O hN dX2_pairMany_38 rfl (by decide) rfl ?_
        refine v_iinc (v := nI (a + 1)) (lv' := [(4, .int (nI (a + 1))), (1, .int (nI (s + 1))), (5, .int (N.2.2 a)), (0, .ref h), (2, .ref ma), (3, .int (nI N.1))]) O hN dX2_pairMany_39 5 rfl (nI_add a 1) (by decide) rfl ?_
        refine v_goto (tgt := 13) O dX2_pairMany_42 (by decide) ?_
        refine v_lv [3, 4, 5, 1, 0] rfl ?_
        exact ih (a + 1) _ (by omega) (by omega) (by simp [cnt, h2, h_29])
      · refine v_iconst (v := nI 0) O dX2_pairMany_32 (by decide) ?_
        refine v_goto (tgt := 37) O dX2_pairMany_33 (by decide) ?_
        refine v_iadd (z := nI (s + 0)) O dX2_pairMany_37 (nI_add s 0) ?_
        refine v_istore_n (lv' := [(1, .int (nI (s + 0))), (5, .int (N.2.2 a)), (0, .ref h), (2, .ref ma), (3, .int (nI N.1)), (4, .int (nI a))]) O hN dX2_pairMany_38 rfl (by decide) rfl ?_
        refine v_iinc (v := nI (a + 1)) (lv' := [(4, .int (nI (a + 1))), (1, .int (nI (s + 0))), (5, .int (N.2.2 a)), (0, .ref h), (2, .ref ma), (3, .int (nI N.1))]) O hN dX2_pairMany_39 5 rfl (nI_add a 1) (by decide) rfl ?_
        refine v_goto (tgt := 13) O dX2_pairMany_42 (by decide) ?_
        refine v_lv [3, 4, 5, 1, 0] rfl ?_
        exact ih (a + 1) _ (by omega) (by omega) (by simp [cnt, h2, h_29])
theorem c_X2_pairMany {G : vGC} (hG : vGok G) {σ : vSt} {h : Nat} {N : NetM} (hN0 : NetAt σ h N) (hn : N.1 ≤ 12) : Ct G yX2_pairMany (ws_ yX2_pairMany cX2_pairMany 6 (some .int)) 1 0 0 σ [.ref h] (fun v σ9 => v = some (.int (nI (pairsN N))) ∧ σ9 = σ) vNo := by
  refine ct_of hG (by decide) (Nat.le_of_ble_eq_true rfl) fun X hN O hnm htb => ?_
  show V G X _ 0 0 σ 0 [(0, .ref h)] []
  obtain ⟨ad, I, F, L, hR, hn0, hw, hm⟩ := id hN0
  refine v_iconst (v := nI 0) O dX2_pairMany_0 (by decide) ?_
  refine v_istore_n (lv' := [(1, .int (nI 0)), (0, .ref h)]) O hN dX2_pairMany_1 rfl (by decide) rfl ?_
  refine v_aload_n O dX2_pairMany_2 rfl 1 rfl ?_
  refine v_getf (C := RX2) (T := TX2) (N := 3) (v := .ref (ad 2)) O in_X2 hR.ob rfl 2 (by decide) rfl q159 rfl dX2_pairMany_3 ?_
  refine v_astore_n (lv' := [(2, .ref (ad 2)), (1, .int (nI 0)), (0, .ref h)]) O hN dX2_pairMany_6 rfl (by decide) rfl ?_
  refine v_aload_n O dX2_pairMany_7 rfl 0 rfl ?_
  refine v_alen (v := nI N.1) O (hR.ar 2 rfl) rfl rfl dX2_pairMany_8 ?_
  refine v_istore_n (lv' := [(3, .int (nI N.1)), (2, .ref (ad 2)), (1, .int (nI 0)), (0, .ref h)]) O hN dX2_pairMany_9 rfl (by decide) rfl ?_
  refine v_iconst (v := nI 0) O dX2_pairMany_10 (by decide) ?_
  refine v_istore (lv' := [(4, .int (nI 0)), (3, .int (nI N.1)), (2, .ref (ad 2)), (1, .int (nI 0)), (0, .ref h)]) O hN dX2_pairMany_11 (by decide) rfl ?_
  refine v_lv [4, 2, 1, 3, 0] rfl ?_
  refine l_X2_pairMany hG O hN (by omega) (by omega) hN0 hn (hR.ar 2 rfl) hm ?_ (N.1 + 1) 0 0 (by omega) (by omega) rfl
  have h5 := cnt_le (fun a => decide (N.2.2 a ≠ -1)) N.1
  have h6 : matedN N ≤ N.1 := h5
  refine v_iload_n O dX2_pairMany_45 rfl 1 rfl ?_
  refine v_iconst (v := nI 2) O dX2_pairMany_46 (by decide) ?_
  refine v_idiv (z := nI (pairsN N)) O dX2_pairMany_47 (by decide) (pk_div (by omega) (by omega) (by omega)) ?_
  exact v_iret O rfl dX2_pairMany_48 (by omega) (by omega) ⟨rfl, rfl⟩
theorem vu {α : Type} (f : Nat → α) (k : Nat) (v : α) (j : Nat) : va_up f k v j = if j = k then v else f j := rfl
theorem setW_ok {N : NetM} {F : Nat → Nat → Int32} {a b : Nat} {w : Int32} (hw : ∀ i j, i < N.1 → j < N.1 → F (100 + i) j = N.2.1 i j) : ∀ i j, i < N.1 → j < N.1 →
    (va_up (va_up F (100 + a) (va_up (F (100 + a)) b w)) (100 + b) (va_up ((va_up F (100 + a) (va_up (F (100 + a)) b w)) (100 + b)) a w)) (100 + i) j = (setW N a b w).2.1 i j := by
  intro i j hi hj
  have h1 := hw i j hi hj
  show _ = if i = b ∧ j = a then w else if i = a ∧ j = b then w else N.2.1 i j
  by_cases e1 : i = b
  · rw [vu, if_pos (by omega), vu]
    by_cases e2 : j = a
    · rw [if_pos e2, if_pos ⟨e1, e2⟩]
    · rw [if_neg e2, if_neg (fun h => e2 h.2), vu]
      by_cases e3 : i = a
      · rw [if_pos (by omega), vu]
        by_cases e4 : j = b
        · rw [if_pos e4, if_pos ⟨e3, e4⟩]
        · rw [if_neg e4, if_neg (fun h => e4 h.2), ← h1, e3]
      · rw [if_neg (by omega), if_neg (fun h => e3 h.1), ← h1, e1]
  · rw [vu, if_neg (by omega), if_neg (fun h => e1 h.1), vu]
    by_cases e3 : i = a
    · rw [if_pos (by omega), vu]
      by_cases e4 : j = b
      · rw [if_pos e4, if_pos ⟨e3, e4⟩]
      · rw [if_neg e4, if_neg (fun h => e4 h.2), ← h1, e3]
    · rw [if_neg (by omega), if_neg (fun h => e3 h.1), ← h1]
theorem setW_m {F : Nat → Nat → Int32} {a b : Nat} {f g : Nat → Int32} {i : Nat} : (va_up (va_up F (100 + a) f) (100 + b) g) 2 i = F 2 i := by
  have h1 : ¬ (2 = 100 + a) := by omega
  have h2 : ¬ (2 = 100 + b) := by omega
  simp only [va_up, h1, h2, if_false]
theorem setM_ok {N : NetM} {F : Nat → Nat → Int32} {a b : Nat} {x y : Int32} (hm : ∀ i, i < N.1 → F 2 i = N.2.2 i) : ∀ i, i < N.1 →
    (va_up (va_up F 2 (va_up (F 2) a x)) 2 (va_up ((va_up F 2 (va_up (F 2) a x)) 2) b y)) 2 i = if i = b then y else if i = a then x else N.2.2 i := by
  intro i hi
  have h1 := hm i hi
  simp only [va_up, if_true]
  by_cases e1 : i = b
  · simp [e1]
  · by_cases e2 : i = a
    · simp [e1, e2]
    · simp [e1, e2, h1]
theorem setM_w {F : Nat → Nat → Int32} {f g : Nat → Int32} {i j : Nat} : (va_up (va_up F 2 f) 2 g) (100 + i) j = F (100 + i) j := by
  have h1 : ¬ (100 + i = 2) := by omega
  simp only [va_up, h1, if_false]
theorem c_X2_joins {G : vGC} (hG : vGok G) {σ : vSt} {h : Nat} {N : NetM} (hN0 : NetAt σ h N) (hn : N.1 ≤ 12) {a b : Nat} {w : Int32} (ha : a < N.1) (hb : b < N.1) : Ct G yX2_joins (ws_ yX2_joins cX2_joins 4 none) 1 0 0 σ [.ref h, .int (nI a), .int (nI b), .int w] (fun v σ9 => v = none ∧ NetAt σ9 h (setW N a b w) ∧ FrL [h] σ σ9) vNo := by
  refine ct_of hG (by decide) (Nat.le_of_ble_eq_true rfl) fun X hN O hnm htb => ?_
  show V G X _ 0 0 σ 0 [(0, .ref h), (1, .int (nI a)), (2, .int (nI b)), (3, .int w)] []
  obtain ⟨ad, I, F, L, hR, hn0, hw, hm⟩ := id hN0
  refine v_aload_n O dX2_joins_0 rfl 0 rfl ?_
  refine v_getf (C := RX2) (T := TX2) (N := 3) (v := .ref (ad 1)) O in_X2 hR.ob rfl 1 (by decide) rfl q155 rfl dX2_joins_1 ?_
  refine v_iload_n O dX2_joins_4 rfl 1 rfl ?_
  refine v_aald (r := .ref (ad (100 + a))) O (hR.og 1 rfl) rfl rfl (by omega) (by omega) rfl dX2_joins_5 ?_
  refine v_iload_n O dX2_joins_6 rfl 2 rfl ?_
  refine v_iload_n O dX2_joins_7 rfl 3 rfl ?_
  refine r_iast O hR (100 + a) (layN_row (by omega)) (by omega) (by omega) dX2_joins_8 (fun σ1 hR1 hf1 => ?_)
  refine v_aload_n O dX2_joins_9 rfl 0 rfl ?_
  refine v_getf (C := RX2) (T := TX2) (N := 3) (v := .ref (ad 1)) O in_X2 hR1.ob rfl 1 (by decide) rfl q155 rfl dX2_joins_10 ?_
  refine v_iload_n O dX2_joins_13 rfl 2 rfl ?_
  refine v_aald (r := .ref (ad (100 + b))) O (hR1.og 1 rfl) rfl rfl (by omega) (by omega) rfl dX2_joins_14 ?_
  refine v_iload_n O dX2_joins_15 rfl 1 rfl ?_
  refine v_iload_n O dX2_joins_16 rfl 3 rfl ?_
  refine r_iast O hR1 (100 + b) (layN_row (by omega)) (by omega) (by omega) dX2_joins_17 (fun σ2 hR2 hf2 => ?_)
  exact v_vret O rfl dX2_joins_18 (by omega) (by omega) (⟨rfl, ⟨ad, I, _, L, hR2, hn0, setW_ok hw, fun i hi => setW_m.trans (hm i hi)⟩, (hf1.trans hf2)⟩)
theorem c_X2_pairs {G : vGC} (hG : vGok G) {σ : vSt} {h : Nat} {N : NetM} (hN0 : NetAt σ h N) (hn : N.1 ≤ 12) {a b : Nat} (ha : a < N.1) (hb : b < N.1) : Ct G yX2_pairs (ws_ yX2_pairs cX2_pairs 3 none) 1 0 0 σ [.ref h, .int (nI a), .int (nI b)] (fun v σ9 => v = none ∧ NetAt σ9 h (setM N a b) ∧ FrL [h] σ σ9) vNo := by
  refine ct_of hG (by decide) (Nat.le_of_ble_eq_true rfl) fun X hN O hnm htb => ?_
  show V G X _ 0 0 σ 0 [(0, .ref h), (1, .int (nI a)), (2, .int (nI b))] []
  obtain ⟨ad, I, F, L, hR, hn0, hw, hm⟩ := id hN0
  refine v_aload_n O dX2_pairs_0 rfl 0 rfl ?_
  refine v_getf (C := RX2) (T := TX2) (N := 3) (v := .ref (ad 2)) O in_X2 hR.ob rfl 2 (by decide) rfl q159 rfl dX2_pairs_1 ?_
  refine v_iload_n O dX2_pairs_4 rfl 1 rfl ?_
  refine v_iload_n O dX2_pairs_5 rfl 2 rfl ?_
  refine r_iast O hR (2) rfl (by omega) (by omega) dX2_pairs_6 (fun σ1 hR1 hf1 => ?_)
  refine v_aload_n O dX2_pairs_7 rfl 0 rfl ?_
  refine v_getf (C := RX2) (T := TX2) (N := 3) (v := .ref (ad 2)) O in_X2 hR1.ob rfl 2 (by decide) rfl q159 rfl dX2_pairs_8 ?_
  refine v_iload_n O dX2_pairs_11 rfl 2 rfl ?_
  refine v_iload_n O dX2_pairs_12 rfl 1 rfl ?_
  refine r_iast O hR1 (2) rfl (by omega) (by omega) dX2_pairs_13 (fun σ2 hR2 hf2 => ?_)
  exact v_vret O rfl dX2_pairs_14 (by omega) (by omega) (⟨rfl, ⟨ad, I, _, L, hR2, hn0, fun i j hi hj => setM_w.trans (hw i j hi hj), setM_ok hm⟩, (hf1.trans hf2)⟩)
theorem c_X2_parts {G : vGC} (hG : vGok G) {σ : vSt} {h : Nat} {N : NetM} (hN0 : NetAt σ h N) (hn : N.1 ≤ 12) {a b : Nat} (ha : a < N.1) (hb : b < N.1) (hab : N.2.2 a = nI b) : Ct G yX2_parts (ws_ yX2_parts cX2_parts 3 (some .int)) 1 0 0 σ [.ref h, .int (nI a)] (fun v σ9 => v = some (.int (nI b)) ∧ NetAt σ9 h (unM N a b) ∧ FrL [h] σ σ9) vNo := by
  refine ct_of hG (by decide) (Nat.le_of_ble_eq_true rfl) fun X hN O hnm htb => ?_
  show V G X _ 0 0 σ 0 [(0, .ref h), (1, .int (nI a))] []
  obtain ⟨ad, I, F, L, hR, hn0, hw, hm⟩ := id hN0
  refine v_aload_n O dX2_parts_0 rfl 0 rfl ?_
  refine v_getf (C := RX2) (T := TX2) (N := 3) (v := .ref (ad 2)) O in_X2 hR.ob rfl 2 (by decide) rfl q159 rfl dX2_parts_1 ?_
  refine v_iload_n O dX2_parts_4 rfl 1 rfl ?_
  refine v_iald O (hR.ar 2 rfl) (by omega) (by omega) dX2_parts_5 ?_
  refine v_top (y := nI b) ((hm a (by omega)).trans hab) ?_
  refine v_istore_n (lv' := [(2, .int (nI b)), (0, .ref h), (1, .int (nI a))]) O hN dX2_parts_6 rfl (by decide) rfl ?_
  refine v_aload_n O dX2_parts_7 rfl 1 rfl ?_
  refine v_getf (C := RX2) (T := TX2) (N := 3) (v := .ref (ad 2)) O in_X2 hR.ob rfl 2 (by decide) rfl q159 rfl dX2_parts_8 ?_
  refine v_iload_n O dX2_parts_11 rfl 2 rfl ?_
  refine v_iconst (v := (-1)) O dX2_parts_12 (by decide) ?_
  refine r_iast O hR (2) rfl (by omega) (by omega) dX2_parts_13 (fun σ1 hR1 hf1 => ?_)
  refine v_aload_n O dX2_parts_14 rfl 1 rfl ?_
  refine v_getf (C := RX2) (T := TX2) (N := 3) (v := .ref (ad 2)) O in_X2 hR1.ob rfl 2 (by decide) rfl q159 rfl dX2_parts_15 ?_
  refine v_iload_n O dX2_parts_18 rfl 0 rfl ?_
  refine v_iconst (v := (-1)) O dX2_parts_19 (by decide) ?_
  refine r_iast O hR1 (2) rfl (by omega) (by omega) dX2_parts_20 (fun σ2 hR2 hf2 => ?_)
  refine v_iload_n O dX2_parts_21 rfl 0 rfl ?_
  exact v_iret O rfl dX2_parts_22 (by omega) (by omega) (⟨rfl, ⟨ad, I, _, L, hR2, hn0, fun i j hi hj => setM_w.trans (hw i j hi hj), setM_ok hm⟩, (hf1.trans hf2)⟩)
