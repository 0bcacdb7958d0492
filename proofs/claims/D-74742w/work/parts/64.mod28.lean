def vFm (G : vGC) (v : Value) : Prop := va_Z "jdk/internal/util/Preconditions" "SIOOBE_FORMATTER" "Ljava/util/function/BiFunction;" v (vA G) (vGs G) (vGs G).heap
def vFmt (G : vGC) : Prop := vFm G .null ∨ ∃ t : Nat, vFm G (.ref t)
theorem c_J16_checkIndex_n {G : vGC} (hG : vGok G) {σ : vSt} {i n9 : Nat} (hi : i < n9) (hn9 : n9 ≤ 1000) : Ct G yJ16_checkIndex (ws_ yJ16_checkIndex cJ16_checkIndex 3 (some .int)) 1 0 0 σ [.int (nI i), .int (nI n9), .null] (fun v σ9 => v = some (.int (nI i)) ∧ σ9 = σ) vNo := by
  refine ct_of hG (by decide) (Nat.le_of_ble_eq_true rfl) fun X hN O hnm htb => ?_
  show V G X _ 0 0 σ 0 [(0, .int (nI i)), (1, .int (nI n9)), (2, .null)] []
  refine v_iload_n O dJ16_checkIndex_0 rfl 0 rfl ?_
  refine v_if_ltN (tgt := 9) O dJ16_checkIndex_1 (by decide) (by omega) (fun h_1 => ?_) (fun h_1 => ?_)
  · exact absurd h_1 id
  · refine v_iload_n O dJ16_checkIndex_4 rfl 0 rfl ?_
    refine v_iload_n O dJ16_checkIndex_5 rfl 1 rfl ?_
    refine v_icmp_ltN (tgt := 16) O dJ16_checkIndex_6 (by decide) (by omega) (by omega) (fun h_6 => ?_) (fun h_6 => ?_)
    · refine v_iload_n O dJ16_checkIndex_16 rfl 0 rfl ?_
      exact v_iret O rfl dJ16_checkIndex_17 (by omega) (by omega) (⟨rfl, rfl⟩)
    · exact absurd h_6 (by omega)
theorem mdJ16_checkIndex : vMd yJ16_checkIndex 3 := ⟨by decide +kernel, by decide +kernel, by decide +kernel⟩
theorem c_J11_checkIndex_n {G : vGC} (hG : vGok G) {σ : vSt} {i n9 : Nat} (hi : i < n9) (hn9 : n9 ≤ 1000) (hF : vFm G .null) : Ct G yJ11_checkIndex (ws_ yJ11_checkIndex cJ11_checkIndex 2 none) 2 0 0 σ [.int (nI i), .int (nI n9)] (fun v σ9 => v = none ∧ σ9 = σ) vNo := by
  refine ct_of hG (by decide) (Nat.le_of_ble_eq_true rfl) fun X hN O hnm htb => ?_
  show V G X _ 0 0 σ 0 [(0, .int (nI i)), (1, .int (nI n9))] []
  refine v_iload_n O dJ11_checkIndex_0 rfl 0 rfl ?_
  refine v_iload_n O dJ11_checkIndex_1 rfl 1 rfl ?_
  refine v_gets (v := .null) O hF q734 dJ11_checkIndex_2 ?_
  refine v_callS (as := [.int (nI i), .int (nI n9), .null]) (rest := []) O (c_J16_checkIndex_n hG hi hn9) q757 q758 q93 q759 mdJ16_checkIndex rfl (by decide) (by omega) (by omega) (by omega) (Nat.le_of_ble_eq_true rfl) rfl dJ11_checkIndex_5 (fun v9 σ9 hp9 => ?_) (fun _ _ _ h => False.elim h)
  obtain ⟨rfl, hs9⟩ := hp9
  obtain rfl := hs9.symm
  refine v_pop O dJ11_checkIndex_8 rfl ?_
  exact v_vret O rfl dJ11_checkIndex_9 (by omega) (by omega) (⟨rfl, rfl⟩)
theorem c_J16_checkIndex_r {G : vGC} (hG : vGok G) {σ : vSt} {i n9 : Nat} (hi : i < n9) (hn9 : n9 ≤ 1000) {fm : Nat} : Ct G yJ16_checkIndex (ws_ yJ16_checkIndex cJ16_checkIndex 3 (some .int)) 1 0 0 σ [.int (nI i), .int (nI n9), .ref fm] (fun v σ9 => v = some (.int (nI i)) ∧ σ9 = σ) vNo := by
  refine ct_of hG (by decide) (Nat.le_of_ble_eq_true rfl) fun X hN O hnm htb => ?_
  show V G X _ 0 0 σ 0 [(0, .int (nI i)), (1, .int (nI n9)), (2, .ref fm)] []
  refine v_iload_n O dJ16_checkIndex_0 rfl 0 rfl ?_
  refine v_if_ltN (tgt := 9) O dJ16_checkIndex_1 (by decide) (by omega) (fun h_1 => ?_) (fun h_1 => ?_)
  · exact absurd h_1 id
  · refine v_iload_n O dJ16_checkIndex_4 rfl 0 rfl ?_
    refine v_iload_n O dJ16_checkIndex_5 rfl 1 rfl ?_
    refine v_icmp_ltN (tgt := 16) O dJ16_checkIndex_6 (by decide) (by omega) (by omega) (fun h_6 => ?_) (fun h_6 => ?_)
    · refine v_iload_n O dJ16_checkIndex_16 rfl 0 rfl ?_
      exact v_iret O rfl dJ16_checkIndex_17 (by omega) (by omega) (⟨rfl, rfl⟩)
    · exact absurd h_6 (by omega)
theorem c_J11_checkIndex_r {G : vGC} (hG : vGok G) {σ : vSt} {i n9 : Nat} (hi : i < n9) (hn9 : n9 ≤ 1000) {fm : Nat} (hF : vFm G (.ref fm)) : Ct G yJ11_checkIndex (ws_ yJ11_checkIndex cJ11_checkIndex 2 none) 2 0 0 σ [.int (nI i), .int (nI n9)] (fun v σ9 => v = none ∧ σ9 = σ) vNo := by
  refine ct_of hG (by decide) (Nat.le_of_ble_eq_true rfl) fun X hN O hnm htb => ?_
  show V G X _ 0 0 σ 0 [(0, .int (nI i)), (1, .int (nI n9))] []
  refine v_iload_n O dJ11_checkIndex_0 rfl 0 rfl ?_
  refine v_iload_n O dJ11_checkIndex_1 rfl 1 rfl ?_
  refine v_gets (v := .ref fm) O hF q734 dJ11_checkIndex_2 ?_
  refine v_callS (as := [.int (nI i), .int (nI n9), .ref fm]) (rest := []) O (c_J16_checkIndex_r hG hi hn9) q757 q758 q93 q759 mdJ16_checkIndex rfl (by decide) (by omega) (by omega) (by omega) (Nat.le_of_ble_eq_true rfl) rfl dJ11_checkIndex_5 (fun v9 σ9 hp9 => ?_) (fun _ _ _ h => False.elim h)
  obtain ⟨rfl, hs9⟩ := hp9
  obtain rfl := hs9.symm
  refine v_pop O dJ11_checkIndex_8 rfl ?_
  exact v_vret O rfl dJ11_checkIndex_9 (by omega) (by omega) (⟨rfl, rfl⟩)
theorem c_J11_checkIndex {G : vGC} (hG : vGok G) (hF : vFmt G) {σ : vSt} {i n9 : Nat} (hi : i < n9) (hn9 : n9 ≤ 1000) : Ct G yJ11_checkIndex (ws_ yJ11_checkIndex cJ11_checkIndex 2 none) 2 0 0 σ [.int (nI i), .int (nI n9)] (fun v σ9 => v = none ∧ σ9 = σ) vNo := by
  rcases hF with hF | ⟨fm, hF⟩
  · exact c_J11_checkIndex_n hG hi hn9 hF
  · exact c_J11_checkIndex_r hG hi hn9 hF
theorem and255 : ∀ x, x < 256 → x &&& 255 = x := by decide +kernel
theorem i2c_n : ∀ x, x < 256 → UInt32.toInt32 (Int32.toUInt32 (nI x) % 65536) = nI x := by decide +kernel
theorem narC : ∀ x, x < 256 → narrow .char (.int (nI x)) = .int (nI x) := by decide +kernel
theorem mdJ11_checkIndex : vMd yJ11_checkIndex 2 := ⟨by decide +kernel, by decide +kernel, by decide +kernel⟩
theorem c_J15_charAt {G : vGC} (hG : vGok G) (hF : vFmt G) {σ : vSt} {ba : Nat} {w : List Nat} (har : σ ba = some (0, .inl (1, w.length, .inl (fun i => nI (w.getD i 0))))) (hw : w.length ≤ 100) {i : Nat} (hi : i < w.length) (hc : w.getD i 0 < 256) : Ct G yJ15_charAt (ws_ yJ15_charAt cJ15_charAt 2 (some .char)) 3 0 0 σ [.ref ba, .int (nI i)] (fun v σ9 => v = some (.int (nI (w.getD i 0))) ∧ σ9 = σ) vNo := by
  refine ct_of hG (by decide) (Nat.le_of_ble_eq_true rfl) fun X hN O hnm htb => ?_
  show V G X _ 0 0 σ 0 [(0, .ref ba), (1, .int (nI i))] []
  refine v_iload_n O dJ15_charAt_0 rfl 1 rfl ?_
  refine v_aload_n O dJ15_charAt_1 rfl 0 rfl ?_
  refine v_alen (v := nI w.length) O har rfl rfl dJ15_charAt_2 ?_
  refine v_callS (as := [.int (nI i), .int (nI w.length)]) (rest := []) O (c_J11_checkIndex hG hF hi (by omega)) q1619 q755 q87 q756 mdJ11_checkIndex rfl (by decide) (by omega) (by omega) (by omega) (Nat.le_of_ble_eq_true rfl) rfl dJ15_charAt_3 (fun v9 σ9 hp9 => ?_) (fun _ _ _ h => False.elim h)
  obtain ⟨rfl, hs9⟩ := hp9
  obtain rfl := hs9.symm
  refine v_aload_n O dJ15_charAt_6 rfl 0 rfl ?_
  refine v_iload_n O dJ15_charAt_7 rfl 1 rfl ?_
  refine v_bald (f := (fun i => nI (w.getD i 0))) O har (by omega) (by omega) dJ15_charAt_8 ?_
  refine v_top (y := nI (w.getD i 0)) rfl ?_
  refine v_sipush (v := nI 255) O dJ15_charAt_9 (by decide) ?_
  refine v_iand (z := nI (w.getD i 0)) O dJ15_charAt_12 ((bx_and _ _).trans (congrArg nI (and255 _ hc))) ?_
  refine v_i2c (z := nI (w.getD i 0)) O dJ15_charAt_13 (i2c_n _ hc) ?_
  exact v_zret O rfl (narC _ hc) dJ15_charAt_14 (by omega) (by omega) (⟨rfl, rfl⟩)
theorem mdJ11_isLatin1 : vMd yJ11_isLatin1 0 := ⟨by decide +kernel, by decide +kernel, by decide +kernel⟩
theorem mdJ15_charAt : vMd yJ15_charAt 2 := ⟨by decide +kernel, by decide +kernel, by decide +kernel⟩
theorem c_J11_charAt {G : vGC} (hG : vGok G) (hCm : vCom G) {σ : vSt} {sa : Nat} {w : List Nat} (hS : StrIs σ sa w) (hF : vFmt G) (hw : w.length ≤ 100) {i : Nat} (hi : i < w.length) (hc : w.getD i 0 < 256) : Ct G yJ11_charAt (ws_ yJ11_charAt cJ11_charAt 2 (some .char)) 4 0 0 σ [.ref sa, .int (nI i)] (fun v σ9 => v = some (.int (nI (w.getD i 0))) ∧ σ9 = σ) vNo := by
  refine ct_of hG (by decide) (Nat.le_of_ble_eq_true rfl) fun X hN O hnm htb => ?_
  show V G X _ 0 0 σ 0 [(0, .ref sa), (1, .int (nI i))] []
  obtain ⟨ba, hh, hz, hob, har⟩ := id hS
  refine v_aload_n O dJ11_charAt_0 rfl 0 rfl ?_
  refine v_callV (as := []) (rest := []) O (c_J11_isLatin1 hG hCm hS) q970 q971 q972 q87 q973 hob (show vcl[13]? = some (RJ11, TJ11, 4) from rfl) rfl mdJ11_isLatin1 rfl (by decide) (by omega) (by omega) (by omega) (Nat.le_of_ble_eq_true rfl) rfl dJ11_charAt_1 (fun v9 σ9 hp9 => ?_) (fun _ _ _ h => False.elim h)
  obtain ⟨rfl, hs9⟩ := hp9
  obtain rfl := hs9.symm
  refine v_if_eqB (tgt := 16) O dJ11_charAt_4 (by decide) (fun h_4 => ?_) (fun h_4 => ?_)
  · exact absurd h_4 (by decide)
  · refine v_aload_n O dJ11_charAt_7 rfl 0 rfl ?_
    refine v_getf (C := RJ11) (T := TJ11) (N := 4) (v := .ref ba) O in_J11 hob rfl 0 (by decide) rfl q890 rfl dJ11_charAt_8 ?_
    refine v_iload_n O dJ11_charAt_11 rfl 1 rfl ?_
    refine v_callS (as := [.ref ba, .int (nI i)]) (rest := []) O (c_J15_charAt hG hF har hw hi hc) q1616 q1617 q92 q1618 mdJ15_charAt rfl (by decide) (by omega) (by omega) (by omega) (Nat.le_of_ble_eq_true rfl) rfl dJ11_charAt_12 (fun v9 σ9 hp9 => ?_) (fun _ _ _ h => False.elim h)
    obtain ⟨rfl, hs9⟩ := hp9
    obtain rfl := hs9.symm
    exact v_zret O rfl (narC _ hc) dJ11_charAt_15 (by omega) (by omega) (⟨rfl, rfl⟩)
