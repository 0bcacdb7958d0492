def vCom (G : vGC) : Prop := va_Z "java/lang/String" "COMPACT_STRINGS" "Z" (.int (nI 1)) (vA G) (vGs G) (vGs G).heap
theorem c_J11_isLatin1 {G : vGC} (hG : vGok G) (hCm : vCom G) {σ : vSt} {sa : Nat} {w : List Nat} (hS : StrIs σ sa w) : Ct G yJ11_isLatin1 (ws_ yJ11_isLatin1 cJ11_isLatin1 1 (some .boolean)) 1 0 0 σ [.ref sa] (fun v σ9 => v = some (.int (bI true)) ∧ σ9 = σ) vNo := by
  refine ct_of hG (by decide) (Nat.le_of_ble_eq_true rfl) fun X hN O hnm htb => ?_
  show V G X _ 0 0 σ 0 [(0, .ref sa)] []
  obtain ⟨ba, hh, hz, hob, har⟩ := hS
  refine v_gets (v := .int (nI 1)) O hCm q856 dJ11_isLatin1_0 ?_
  refine v_if_eqN (tgt := 17) O dJ11_isLatin1_3 (by decide) (by omega) (fun h_3 => ?_) (fun h_3 => ?_)
  · omega
  · refine v_aload_n O dJ11_isLatin1_6 rfl 0 rfl ?_
    refine v_getf (C := RJ11) (T := TJ11) (N := 4) (v := .int (nI 0)) O in_J11 hob rfl 1 (by decide) rfl q891 rfl dJ11_isLatin1_7 ?_
    refine v_if_neN (tgt := 17) O dJ11_isLatin1_10 (by decide) (by omega) (fun h_10 => ?_) (fun h_10 => ?_)
    · omega
    · refine v_iconst (v := nI 1) O dJ11_isLatin1_13 (by decide) ?_
      refine v_goto (tgt := 18) O dJ11_isLatin1_14 (by decide) ?_
      exact v_zret (ty := .boolean) O rfl rfl dJ11_isLatin1_18 (by omega) (by omega) (⟨rfl, rfl⟩)
theorem c_J11_coder {G : vGC} (hG : vGok G) (hCm : vCom G) {σ : vSt} {sa : Nat} {w : List Nat} (hS : StrIs σ sa w) : Ct G yJ11_coder (ws_ yJ11_coder cJ11_coder 1 (some .byte)) 1 0 0 σ [.ref sa] (fun v σ9 => v = some (.int (nI 0)) ∧ σ9 = σ) vNo := by
  refine ct_of hG (by decide) (Nat.le_of_ble_eq_true rfl) fun X hN O hnm htb => ?_
  show V G X _ 0 0 σ 0 [(0, .ref sa)] []
  obtain ⟨ba, hh, hz, hob, har⟩ := hS
  refine v_gets (v := .int (nI 1)) O hCm q856 dJ11_coder_0 ?_
  refine v_if_eqN (tgt := 13) O dJ11_coder_3 (by decide) (by omega) (fun h_3 => ?_) (fun h_3 => ?_)
  · omega
  · refine v_aload_n O dJ11_coder_6 rfl 0 rfl ?_
    refine v_getf (C := RJ11) (T := TJ11) (N := 4) (v := .int (nI 0)) O in_J11 hob rfl 1 (by decide) rfl q891 rfl dJ11_coder_7 ?_
    refine v_goto (tgt := 14) O dJ11_coder_10 (by decide) ?_
    exact v_zret O rfl rfl dJ11_coder_14 (by omega) (by omega) (⟨rfl, rfl⟩)
theorem mdJ11_coder : vMd yJ11_coder 0 := ⟨by decide +kernel, by decide +kernel, by decide +kernel⟩
theorem c_J11_length {G : vGC} (hG : vGok G) (hCm : vCom G) {σ : vSt} {sa : Nat} {w : List Nat} (hS : StrIs σ sa w) (hw : w.length ≤ 100) : Ct G yJ11_length (ws_ yJ11_length cJ11_length 1 (some .int)) 2 0 0 σ [.ref sa] (fun v σ9 => v = some (.int (nI w.length)) ∧ σ9 = σ) vNo := by
  refine ct_of hG (by decide) (Nat.le_of_ble_eq_true rfl) fun X hN O hnm htb => ?_
  show V G X _ 0 0 σ 0 [(0, .ref sa)] []
  obtain ⟨ba, hh, hz, hob, har⟩ := id hS
  refine v_aload_n O dJ11_length_0 rfl 0 rfl ?_
  refine v_getf (C := RJ11) (T := TJ11) (N := 4) (v := .ref ba) O in_J11 hob rfl 0 (by decide) rfl q890 rfl dJ11_length_1 ?_
  refine v_alen (v := nI w.length) O har rfl rfl dJ11_length_4 ?_
  refine v_aload_n O dJ11_length_5 rfl 0 rfl ?_
  refine v_callV (as := []) (rest := [.int (nI w.length)]) O (c_J11_coder hG hCm hS) q852 q853 q854 q87 q855 hob (show vcl[13]? = some (RJ11, TJ11, 4) from rfl) rfl mdJ11_coder rfl (by decide) (by omega) (by omega) (by omega) (Nat.le_of_ble_eq_true rfl) rfl dJ11_length_6 (fun v9 σ9 hp9 => ?_) (fun _ _ _ h => False.elim h)
  obtain ⟨rfl, hs9⟩ := hp9
  obtain rfl := hs9.symm
  refine v_ishr (z := nI w.length) O dJ11_length_9 ((bx_shr (a := w.length) (k := 0) (by omega) (by omega)).trans rfl) ?_
  exact v_iret O rfl dJ11_length_10 (by omega) (by omega) (⟨rfl, rfl⟩)
