set_option maxRecDepth 100000 in
theorem ntz_ok : ∀ s, s < 4096 → s = 0 ∨ (nI s ^^^ -1) &&& nI (s - 1) = nI (2 ^ fstb s - 1) := by decide +kernel
theorem c_J17_numberOfTrailingZeros {G : vGC} (hG : vGok G) {σ : vSt} {s : Nat} (hs : s < 4096) (h0 : s ≠ 0) : Ct G yJ17_numberOfTrailingZeros (ws_ yJ17_numberOfTrailingZeros cJ17_numberOfTrailingZeros 2 (some .int)) 1 0 0 σ [.int (nI s)] (fun v σ9 => v = some (.int (nI (fstb s))) ∧ σ9 = σ) vNo := by
  refine ct_of hG (by decide) (Nat.le_of_ble_eq_true rfl) fun X hN O hnm htb => ?_
  show V G X _ 0 0 σ 0 [(0, .int (nI s))] []
  have hk : fstb s < 12 := ((fstb_ok s hs).resolve_left h0).2.1
  have hi := (ntz_ok s hs).resolve_left h0
  have hv12 : 2 ^ fstb s ≤ 2048 := Nat.pow_le_pow_right (show 0 < 2 by omega) (show fstb s ≤ 11 by omega)
  generalize hv : 2 ^ fstb s - 1 = v at hi
  have hv2 : v ≤ 2047 := by omega
  by_cases hvz : v = 0
  · refine v_iload_n O dJ17_numberOfTrailingZeros_0 rfl 0 rfl ?_
    refine v_iconst (v := (-1)) O dJ17_numberOfTrailingZeros_1 (by decide) ?_
    refine v_ixor (z := nI s ^^^ -1) O dJ17_numberOfTrailingZeros_2 rfl ?_
    refine v_iload_n O dJ17_numberOfTrailingZeros_3 rfl 0 rfl ?_
    refine v_iconst (v := nI 1) O dJ17_numberOfTrailingZeros_4 (by decide) ?_
    refine v_isub (z := nI (s - 1)) O dJ17_numberOfTrailingZeros_5 (pk_sub (by omega)) ?_
    refine v_iand (z := nI v) O dJ17_numberOfTrailingZeros_6 hi ?_
    refine v_istore_n (lv' := [(0, .int (nI v))]) O hN dJ17_numberOfTrailingZeros_7 rfl (by decide) rfl ?_
    refine v_iload_n O dJ17_numberOfTrailingZeros_8 rfl 0 rfl ?_
    refine v_if_gtN (tgt := 17) O dJ17_numberOfTrailingZeros_9 (by decide) (by omega) (fun h_9 => ?_) (fun h_9 => ?_)
    · exact absurd h_9 (by omega)
    · refine v_iload_n O dJ17_numberOfTrailingZeros_12 rfl 0 rfl ?_
      refine v_bipush (v := nI 32) O dJ17_numberOfTrailingZeros_13 (by decide) ?_
      refine v_iand (z := nI (v &&& 32)) O dJ17_numberOfTrailingZeros_15 (bx_and v 32) ?_
      exact v_iret O rfl dJ17_numberOfTrailingZeros_16 (by omega) (by omega) (⟨by
        subst hv
        have h9 : fstb s = 0 := (by decide : ∀ k, k < 12 → 2 ^ k - 1 = 0 → k = 0) (fstb s) hk hvz
        rw [hvz, h9]
        rfl, rfl⟩)
  refine v_iload_n O dJ17_numberOfTrailingZeros_0 rfl 0 rfl ?_
  refine v_iconst (v := (-1)) O dJ17_numberOfTrailingZeros_1 (by decide) ?_
  refine v_ixor (z := nI s ^^^ -1) O dJ17_numberOfTrailingZeros_2 rfl ?_
  refine v_iload_n O dJ17_numberOfTrailingZeros_3 rfl 0 rfl ?_
  refine v_iconst (v := nI 1) O dJ17_numberOfTrailingZeros_4 (by decide) ?_
  refine v_isub (z := nI (s - 1)) O dJ17_numberOfTrailingZeros_5 (pk_sub (by omega)) ?_
  refine v_iand (z := nI v) O dJ17_numberOfTrailingZeros_6 hi ?_
  refine v_istore_n (lv' := [(0, .int (nI v))]) O hN dJ17_numberOfTrailingZeros_7 rfl (by decide) rfl ?_
  refine v_iload_n O dJ17_numberOfTrailingZeros_8 rfl 0 rfl ?_
  refine v_if_gtN (tgt := 17) O dJ17_numberOfTrailingZeros_9 (by decide) (by omega) (fun h_9 => ?_) (fun h_9 => ?_)
  · refine v_iconst (v := nI 1) O dJ17_numberOfTrailingZeros_17 (by decide) ?_
    refine v_istore_n (lv' := [(1, .int (nI 1)), (0, .int (nI v))]) O hN dJ17_numberOfTrailingZeros_18 rfl (by decide) rfl ?_
    refine v_iload_n O dJ17_numberOfTrailingZeros_19 rfl 1 rfl ?_
    refine v_ldcw O q529 dJ17_numberOfTrailingZeros_20 ?_
    rw [show (65536 : Int32) = nI 65536 from rfl]
    refine v_icmp_leN (tgt := 34) O dJ17_numberOfTrailingZeros_23 (by decide) (by omega) (by omega) (fun h_23 => ?_) (fun h_23 => ?_)
    · refine v_iload_n O dJ17_numberOfTrailingZeros_34 rfl 1 rfl ?_
      refine v_sipush (v := nI 256) O dJ17_numberOfTrailingZeros_35 (by decide) ?_
      refine v_icmp_leN (tgt := 49) O dJ17_numberOfTrailingZeros_38 (by decide) (by omega) (by omega) (fun h_38 => ?_) (fun h_38 => ?_)
      · refine v_iload_n O dJ17_numberOfTrailingZeros_49 rfl 1 rfl ?_
        refine v_bipush (v := nI 16) O dJ17_numberOfTrailingZeros_50 (by decide) ?_
        refine v_icmp_leN (tgt := 62) O dJ17_numberOfTrailingZeros_52 (by decide) (by omega) (by omega) (fun h_52 => ?_) (fun h_52 => ?_)
        · refine v_iload_n O dJ17_numberOfTrailingZeros_62 rfl 1 rfl ?_
          refine v_iconst (v := nI 4) O dJ17_numberOfTrailingZeros_63 (by decide) ?_
          refine v_icmp_leN (tgt := 74) O dJ17_numberOfTrailingZeros_64 (by decide) (by omega) (by omega) (fun h_64 => ?_) (fun h_64 => ?_)
          · refine v_iload_n O dJ17_numberOfTrailingZeros_74 rfl 0 rfl ?_
            refine v_iload_n O dJ17_numberOfTrailingZeros_75 rfl 1 rfl ?_
            refine v_iconst (v := nI 1) O dJ17_numberOfTrailingZeros_76 (by decide) ?_
            refine v_iushr (z := nI (v / 2)) O dJ17_numberOfTrailingZeros_77 (pk_ushrN (by omega) (nI 1) 1 (by decide)) ?_
            refine v_iadd (z := nI (1 + (v / 2))) O dJ17_numberOfTrailingZeros_78 (nI_add 1 (v / 2)) ?_
            exact v_iret O rfl dJ17_numberOfTrailingZeros_79 (by omega) (by omega) (⟨by
              subst hv
              exact congrArg (fun z => some (Value.int (nI z))) ((by decide : ∀ k, k < 12 → 0 < 2 ^ k - 1 → (2 ^ k - 1) ≤ 256 → (2 ^ k - 1) ≤ 16 → (2 ^ k - 1) ≤ 4 → 1 + ((2 ^ k - 1) / 2) = k) (fstb s) hk h_9 h_38 h_52 h_64), rfl⟩)
          · refine v_iinc (v := nI (1 + 2)) (lv' := [(1, .int (nI (1 + 2))), (0, .int (nI v))]) O hN dJ17_numberOfTrailingZeros_67 0 rfl (nI_add 1 2) (by decide) rfl ?_
            refine v_iload_n O dJ17_numberOfTrailingZeros_70 rfl 1 rfl ?_
            refine v_iconst (v := nI 2) O dJ17_numberOfTrailingZeros_71 (by decide) ?_
            refine v_iushr (z := nI (v / 4)) O dJ17_numberOfTrailingZeros_72 (pk_ushrN (by omega) (nI 2) 2 (by decide)) ?_
            refine v_istore_n (lv' := [(0, .int (nI (v / 4))), (1, .int (nI (1 + 2)))]) O hN dJ17_numberOfTrailingZeros_73 rfl (by decide) rfl ?_
            refine v_iload_n O dJ17_numberOfTrailingZeros_74 rfl 1 rfl ?_
            refine v_iload_n O dJ17_numberOfTrailingZeros_75 rfl 0 rfl ?_
            refine v_iconst (v := nI 1) O dJ17_numberOfTrailingZeros_76 (by decide) ?_
            refine v_iushr (z := nI ((v / 4) / 2)) O dJ17_numberOfTrailingZeros_77 (pk_ushrN (by omega) (nI 1) 1 (by decide)) ?_
            refine v_iadd (z := nI (1 + 2 + ((v / 4) / 2))) O dJ17_numberOfTrailingZeros_78 (nI_add (1 + 2) ((v / 4) / 2)) ?_
            exact v_iret O rfl dJ17_numberOfTrailingZeros_79 (by omega) (by omega) (⟨by
              subst hv
              exact congrArg (fun z => some (Value.int (nI z))) ((by decide : ∀ k, k < 12 → 0 < 2 ^ k - 1 → (2 ^ k - 1) ≤ 256 → (2 ^ k - 1) ≤ 16 → 4 < (2 ^ k - 1) → 1 + 2 + (((2 ^ k - 1) / 4) / 2) = k) (fstb s) hk h_9 h_38 h_52 h_64), rfl⟩)
        · refine v_iinc (v := nI (1 + 4)) (lv' := [(1, .int (nI (1 + 4))), (0, .int (nI v))]) O hN dJ17_numberOfTrailingZeros_55 0 rfl (nI_add 1 4) (by decide) rfl ?_
          refine v_iload_n O dJ17_numberOfTrailingZeros_58 rfl 1 rfl ?_
          refine v_iconst (v := nI 4) O dJ17_numberOfTrailingZeros_59 (by decide) ?_
          refine v_iushr (z := nI (v / 16)) O dJ17_numberOfTrailingZeros_60 (pk_ushrN (by omega) (nI 4) 4 (by decide)) ?_
          refine v_istore_n (lv' := [(0, .int (nI (v / 16))), (1, .int (nI (1 + 4)))]) O hN dJ17_numberOfTrailingZeros_61 rfl (by decide) rfl ?_
          refine v_iload_n O dJ17_numberOfTrailingZeros_62 rfl 0 rfl ?_
          refine v_iconst (v := nI 4) O dJ17_numberOfTrailingZeros_63 (by decide) ?_
          refine v_icmp_leN (tgt := 74) O dJ17_numberOfTrailingZeros_64 (by decide) (by omega) (by omega) (fun h_64 => ?_) (fun h_64 => ?_)
          · refine v_iload_n O dJ17_numberOfTrailingZeros_74 rfl 1 rfl ?_
            refine v_iload_n O dJ17_numberOfTrailingZeros_75 rfl 0 rfl ?_
            refine v_iconst (v := nI 1) O dJ17_numberOfTrailingZeros_76 (by decide) ?_
            refine v_iushr (z := nI ((v / 16) / 2)) O dJ17_numberOfTrailingZeros_77 (pk_ushrN (by omega) (nI 1) 1 (by decide)) ?_
            refine v_iadd (z := nI (1 + 4 + ((v / 16) / 2))) O dJ17_numberOfTrailingZeros_78 (nI_add (1 + 4) ((v / 16) / 2)) ?_
            exact v_iret O rfl dJ17_numberOfTrailingZeros_79 (by omega) (by omega) (⟨by
              subst hv
              exact congrArg (fun z => some (Value.int (nI z))) ((by decide : ∀ k, k < 12 → 0 < 2 ^ k - 1 → (2 ^ k - 1) ≤ 256 → 16 < (2 ^ k - 1) → (2 ^ k - 1) / 16 ≤ 4 → 1 + 4 + (((2 ^ k - 1) / 16) / 2) = k) (fstb s) hk h_9 h_38 h_52 h_64), rfl⟩)
          · refine v_iinc (v := nI (1 + 4 + 2)) (lv' := [(1, .int (nI (1 + 4 + 2))), (0, .int (nI (v / 16)))]) O hN dJ17_numberOfTrailingZeros_67 1 rfl (nI_add (1 + 4) 2) (by decide) rfl ?_
            refine v_iload_n O dJ17_numberOfTrailingZeros_70 rfl 1 rfl ?_
            refine v_iconst (v := nI 2) O dJ17_numberOfTrailingZeros_71 (by decide) ?_
            refine v_iushr (z := nI ((v / 16) / 4)) O dJ17_numberOfTrailingZeros_72 (pk_ushrN (by omega) (nI 2) 2 (by decide)) ?_
            refine v_istore_n (lv' := [(0, .int (nI ((v / 16) / 4))), (1, .int (nI (1 + 4 + 2)))]) O hN dJ17_numberOfTrailingZeros_73 rfl (by decide) rfl ?_
            refine v_iload_n O dJ17_numberOfTrailingZeros_74 rfl 1 rfl ?_
            refine v_iload_n O dJ17_numberOfTrailingZeros_75 rfl 0 rfl ?_
            refine v_iconst (v := nI 1) O dJ17_numberOfTrailingZeros_76 (by decide) ?_
            refine v_iushr (z := nI (((v / 16) / 4) / 2)) O dJ17_numberOfTrailingZeros_77 (pk_ushrN (by omega) (nI 1) 1 (by decide)) ?_
            refine v_iadd (z := nI (1 + 4 + 2 + (((v / 16) / 4) / 2))) O dJ17_numberOfTrailingZeros_78 (nI_add (1 + 4 + 2) (((v / 16) / 4) / 2)) ?_
            exact v_iret O rfl dJ17_numberOfTrailingZeros_79 (by omega) (by omega) (⟨by
              subst hv
              exact congrArg (fun z => some (Value.int (nI z))) ((by decide : ∀ k, k < 12 → 0 < 2 ^ k - 1 → (2 ^ k - 1) ≤ 256 → 16 < (2 ^ k - 1) → 4 < (2 ^ k - 1) / 16 → 1 + 4 + 2 + ((((2 ^ k - 1) / 16) / 4) / 2) = k) (fstb s) hk h_9 h_38 h_52 h_64), rfl⟩)
      · refine v_iinc (v := nI (1 + 8)) (lv' := [(1, .int (nI (1 + 8))), (0, .int (nI v))]) O hN dJ17_numberOfTrailingZeros_41 0 rfl (nI_add 1 8) (by decide) rfl ?_
        refine v_iload_n O dJ17_numberOfTrailingZeros_44 rfl 1 rfl ?_
        refine v_bipush (v := nI 8) O dJ17_numberOfTrailingZeros_45 (by decide) ?_
        refine v_iushr (z := nI (v / 256)) O dJ17_numberOfTrailingZeros_47 (pk_ushrN (by omega) (nI 8) 8 (by decide)) ?_
        refine v_istore_n (lv' := [(0, .int (nI (v / 256))), (1, .int (nI (1 + 8)))]) O hN dJ17_numberOfTrailingZeros_48 rfl (by decide) rfl ?_
        refine v_iload_n O dJ17_numberOfTrailingZeros_49 rfl 0 rfl ?_
        refine v_bipush (v := nI 16) O dJ17_numberOfTrailingZeros_50 (by decide) ?_
        refine v_icmp_leN (tgt := 62) O dJ17_numberOfTrailingZeros_52 (by decide) (by omega) (by omega) (fun h_52 => ?_) (fun h_52 => ?_)
        · refine v_iload_n O dJ17_numberOfTrailingZeros_62 rfl 0 rfl ?_
          refine v_iconst (v := nI 4) O dJ17_numberOfTrailingZeros_63 (by decide) ?_
          refine v_icmp_leN (tgt := 74) O dJ17_numberOfTrailingZeros_64 (by decide) (by omega) (by omega) (fun h_64 => ?_) (fun h_64 => ?_)
          · refine v_iload_n O dJ17_numberOfTrailingZeros_74 rfl 1 rfl ?_
            refine v_iload_n O dJ17_numberOfTrailingZeros_75 rfl 0 rfl ?_
            refine v_iconst (v := nI 1) O dJ17_numberOfTrailingZeros_76 (by decide) ?_
            refine v_iushr (z := nI ((v / 256) / 2)) O dJ17_numberOfTrailingZeros_77 (pk_ushrN (by omega) (nI 1) 1 (by decide)) ?_
            refine v_iadd (z := nI (1 + 8 + ((v / 256) / 2))) O dJ17_numberOfTrailingZeros_78 (nI_add (1 + 8) ((v / 256) / 2)) ?_
            exact v_iret O rfl dJ17_numberOfTrailingZeros_79 (by omega) (by omega) (⟨by
              subst hv
              exact congrArg (fun z => some (Value.int (nI z))) ((by decide : ∀ k, k < 12 → 0 < 2 ^ k - 1 → 256 < (2 ^ k - 1) → (2 ^ k - 1) / 256 ≤ 16 → (2 ^ k - 1) / 256 ≤ 4 → 1 + 8 + (((2 ^ k - 1) / 256) / 2) = k) (fstb s) hk h_9 h_38 h_52 h_64), rfl⟩)
          · refine v_iinc (v := nI (1 + 8 + 2)) (lv' := [(1, .int (nI (1 + 8 + 2))), (0, .int (nI (v / 256)))]) O hN dJ17_numberOfTrailingZeros_67 1 rfl (nI_add (1 + 8) 2) (by decide) rfl ?_
            refine v_iload_n O dJ17_numberOfTrailingZeros_70 rfl 1 rfl ?_
            refine v_iconst (v := nI 2) O dJ17_numberOfTrailingZeros_71 (by decide) ?_
            refine v_iushr (z := nI ((v / 256) / 4)) O dJ17_numberOfTrailingZeros_72 (pk_ushrN (by omega) (nI 2) 2 (by decide)) ?_
            refine v_istore_n (lv' := [(0, .int (nI ((v / 256) / 4))), (1, .int (nI (1 + 8 + 2)))]) O hN dJ17_numberOfTrailingZeros_73 rfl (by decide) rfl ?_
            refine v_iload_n O dJ17_numberOfTrailingZeros_74 rfl 1 rfl ?_
            refine v_iload_n O dJ17_numberOfTrailingZeros_75 rfl 0 rfl ?_
            refine v_iconst (v := nI 1) O dJ17_numberOfTrailingZeros_76 (by decide) ?_
            refine v_iushr (z := nI (((v / 256) / 4) / 2)) O dJ17_numberOfTrailingZeros_77 (pk_ushrN (by omega) (nI 1) 1 (by decide)) ?_
            refine v_iadd (z := nI (1 + 8 + 2 + (((v / 256) / 4) / 2))) O dJ17_numberOfTrailingZeros_78 (nI_add (1 + 8 + 2) (((v / 256) / 4) / 2)) ?_
            exact v_iret O rfl dJ17_numberOfTrailingZeros_79 (by omega) (by omega) (⟨by
              subst hv
              exact congrArg (fun z => some (Value.int (nI z))) ((by decide : ∀ k, k < 12 → 0 < 2 ^ k - 1 → 256 < (2 ^ k - 1) → (2 ^ k - 1) / 256 ≤ 16 → 4 < (2 ^ k - 1) / 256 → 1 + 8 + 2 + ((((2 ^ k - 1) / 256) / 4) / 2) = k) (fstb s) hk h_9 h_38 h_52 h_64), rfl⟩)
        · refine v_iinc (v := nI (1 + 8 + 4)) (lv' := [(1, .int (nI (1 + 8 + 4))), (0, .int (nI (v / 256)))]) O hN dJ17_numberOfTrailingZeros_55 1 rfl (nI_add (1 + 8) 4) (by decide) rfl ?_
          refine v_iload_n O dJ17_numberOfTrailingZeros_58 rfl 1 rfl ?_
          refine v_iconst (v := nI 4) O dJ17_numberOfTrailingZeros_59 (by decide) ?_
          refine v_iushr (z := nI ((v / 256) / 16)) O dJ17_numberOfTrailingZeros_60 (pk_ushrN (by omega) (nI 4) 4 (by decide)) ?_
          refine v_istore_n (lv' := [(0, .int (nI ((v / 256) / 16))), (1, .int (nI (1 + 8 + 4)))]) O hN dJ17_numberOfTrailingZeros_61 rfl (by decide) rfl ?_
          refine v_iload_n O dJ17_numberOfTrailingZeros_62 rfl 0 rfl ?_
          refine v_iconst (v := nI 4) O dJ17_numberOfTrailingZeros_63 (by decide) ?_
          refine v_icmp_leN (tgt := 74) O dJ17_numberOfTrailingZeros_64 (by decide) (by omega) (by omega) (fun h_64 => ?_) (fun h_64 => ?_)
          · refine v_iload_n O dJ17_numberOfTrailingZeros_74 rfl 1 rfl ?_
            refine v_iload_n O dJ17_numberOfTrailingZeros_75 rfl 0 rfl ?_
            refine v_iconst (v := nI 1) O dJ17_numberOfTrailingZeros_76 (by decide) ?_
            refine v_iushr (z := nI (((v / 256) / 16) / 2)) O dJ17_numberOfTrailingZeros_77 (pk_ushrN (by omega) (nI 1) 1 (by decide)) ?_
            refine v_iadd (z := nI (1 + 8 + 4 + (((v / 256) / 16) / 2))) O dJ17_numberOfTrailingZeros_78 (nI_add (1 + 8 + 4) (((v / 256) / 16) / 2)) ?_
            exact v_iret O rfl dJ17_numberOfTrailingZeros_79 (by omega) (by omega) (⟨by
              subst hv
              exact congrArg (fun z => some (Value.int (nI z))) ((by decide : ∀ k, k < 12 → 0 < 2 ^ k - 1 → 256 < (2 ^ k - 1) → 16 < (2 ^ k - 1) / 256 → (2 ^ k - 1) / 256 / 16 ≤ 4 → 1 + 8 + 4 + ((((2 ^ k - 1) / 256) / 16) / 2) = k) (fstb s) hk h_9 h_38 h_52 h_64), rfl⟩)
          · refine v_iinc (v := nI (1 + 8 + 4 + 2)) (lv' := [(1, .int (nI (1 + 8 + 4 + 2))), (0, .int (nI ((v / 256) / 16)))]) O hN dJ17_numberOfTrailingZeros_67 1 rfl (nI_add (1 + 8 + 4) 2) (by decide) rfl ?_
            refine v_iload_n O dJ17_numberOfTrailingZeros_70 rfl 1 rfl ?_
            refine v_iconst (v := nI 2) O dJ17_numberOfTrailingZeros_71 (by decide) ?_
            refine v_iushr (z := nI (((v / 256) / 16) / 4)) O dJ17_numberOfTrailingZeros_72 (pk_ushrN (by omega) (nI 2) 2 (by decide)) ?_
            refine v_istore_n (lv' := [(0, .int (nI (((v / 256) / 16) / 4))), (1, .int (nI (1 + 8 + 4 + 2)))]) O hN dJ17_numberOfTrailingZeros_73 rfl (by decide) rfl ?_
            refine v_iload_n O dJ17_numberOfTrailingZeros_74 rfl 1 rfl ?_
            refine v_iload_n O dJ17_numberOfTrailingZeros_75 rfl 0 rfl ?_
            refine v_iconst (v := nI 1) O dJ17_numberOfTrailingZeros_76 (by decide) ?_
            refine v_iushr (z := nI ((((v / 256) / 16) / 4) / 2)) O dJ17_numberOfTrailingZeros_77 (pk_ushrN (by omega) (nI 1) 1 (by decide)) ?_
            refine v_iadd (z := nI (1 + 8 + 4 + 2 + ((((v / 256) / 16) / 4) / 2))) O dJ17_numberOfTrailingZeros_78 (nI_add (1 + 8 + 4 + 2) ((((v / 256) / 16) / 4) / 2)) ?_
            exact v_iret O rfl dJ17_numberOfTrailingZeros_79 (by omega) (by omega) (⟨by
              subst hv
              exact congrArg (fun z => some (Value.int (nI z))) ((by decide : ∀ k, k < 12 → 0 < 2 ^ k - 1 → 256 < (2 ^ k - 1) → 16 < (2 ^ k - 1) / 256 → 4 < (2 ^ k - 1) / 256 / 16 → 1 + 8 + 4 + 2 + (((((2 ^ k - 1) / 256) / 16) / 4) / 2) = k) (fstb s) hk h_9 h_38 h_52 h_64), rfl⟩)
    · exact absurd h_23 (by omega)
  · exact absurd h_9 (by omega)
