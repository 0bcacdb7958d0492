def rowLen : Option (List Nat) → Nat
  | none => 0
  | some r => r.length
def RowOk (I : Nat → Int32) (F : Nat → Nat → Int32) (o : Option (List Nat)) : Prop := I 2 = nI (rowLen o) ∧ ∀ r, o = some r → RowIs (F 1) r
theorem pthF_s {N : NetM} {a f due : Nat} : pthF N a (f + 1) due = if N.1 < due then none else match betF N due 12 [a] with | some r => some r | none => pthF N a f (due + 2) := rfl
theorem flwF_s {N : NetM} {a f due : Nat} : flwF N a (f + 1) due = if N.1 < due then none else match ringF N due a 12 [a] with | some r => some r | none => flwF N a f (due + 2) := rfl
theorem l_X6_path {G : vGC} (hG : vGok G) {X : vCX} {Q : State → Prop} {c0 n0 : Nat} (O : vOk G X yX6_path.cls cX6_path (some (.object "OddPairs$Walk")) 9 0 0) (hN : xn X = 3) (hcm0 : c0 ≤ 0) (hsm0 : n0 ≤ 0) {σ0 : vSt} {w : Nat} {ad : Nat → Nat} {I : Nat → Int32} {F : Nat → Nat → Int32} {L : Nat → Nat → Int64} {N : NetM} (hOk : okN N) (hne : ad 0 ≠ w) {a : Nat} (haN : a < N.1) (h2 : I 2 = nI 0) {r0 : Option (List Nat)} (kx : ∀ (σ : vSt) (F' : Nat → Nat → Int32) (I' : Nat → Int32), RecAt layW σ w ad I' F' L → FrL [w] σ0 σ → (∀ j, j ≠ 2 → I' j = I j) → RowOk I' F' r0 → V G X Q c0 n0 σ 65 [(0, .ref w)] []) : ∀ (k : Nat) (due : Nat) (fl : Nat) (σ : vSt) (F' : Nat → Nat → Int32), (14 < due + k) → (due % 2 = 0 ∧ 2 ≤ due) → (2 * fl + due = 16 ∧ due ≤ 14) → (RecAt layW σ w ad I F' L) → (FrL [w] σ0 σ) → (F' 1 0 = nI a) → (NetAt σ (ad 0) N) → (N.2.2 a = -1 → pthF N a fl due = r0) → (N.2.2 a ≠ -1 → r0 = none) → V G X Q c0 n0 σ 9 [(0, .ref w), (1, .int (nI a)), (2, .int (nI due))] [] := by
  intro k
  induction k with
  | zero => intro due fl σ F' h0 hd2 hfd hR hfr hF0 hNt hpt hpn; exact absurd hfd.2 (by omega)
  | succ k ih =>
    intro due fl σ F' h0 hd2 hfd hR hfr hF0 hNt hpt hpn
    obtain ⟨wa, ma, hob⟩ := hNt.ob
    have hn := hOk.2.1
    refine v_iload_n O dX6_path_9 rfl 2 rfl ?_
    refine v_aload_n O dX6_path_10 rfl 0 rfl ?_
    refine v_getf (C := RX6) (T := TX6) (N := 5) (v := .ref (ad 0)) O in_X6 hR.ob rfl 0 (by decide) rfl q1213 rfl dX6_path_11 ?_
    refine v_getfN (C := RX2) (T := TX2) (N := 3) (v := .int (nI N.1)) O in_X2 hob rfl 0 (by decide) rfl q151 rfl dX6_path_14 ?_
    refine v_icmp_gtN (tgt := 65) O dX6_path_17 (by decide) (by omega) (by omega) (fun h_17 => ?_) (fun h_17 => ?_)
    · have hr0 : r0 = none := by
        by_cases hh : N.2.2 a = -1
        · rw [← hpt hh, show fl = fl - 1 + 1 by omega, pthF_s, if_pos (by omega)]
        · exact hpn hh
      exact v_lv [0] rfl (kx σ F' I hR hfr (fun _ _ => rfl) ⟨by rw [hr0]; exact h2, fun r2 h9 => by rw [hr0] at h9; cases h9⟩)
    · refine v_aload_n O dX6_path_20 rfl 0 rfl ?_
      refine v_getf (C := RX6) (T := TX6) (N := 5) (v := .int (nI 0)) O in_X6 hR.ob rfl 2 (by decide) rfl q1216 (congrArg (fun z => some (Value.int z)) h2) dX6_path_21 ?_
      refine v_if_neN (tgt := 65) O dX6_path_24 (by decide) (by omega) (fun h_24 => ?_) (fun h_24 => ?_)
      · exact absurd h_24 (by omega)
      · refine v_aload_n O dX6_path_27 rfl 0 rfl ?_
        obtain ⟨adN1, IN1, FN1, LN1, hRN1, hn0N1, hwN1, hmN1⟩ := id hNt
        refine v_getf (C := RX6) (T := TX6) (N := 5) (v := .ref (ad 0)) O in_X6 hR.ob rfl 0 (by decide) rfl q1213 rfl dX6_path_28 ?_
        refine v_getfN (C := RX2) (T := TX2) (N := 3) (v := .ref (adN1 2)) O in_X2 hRN1.ob rfl 2 (by decide) rfl q160 rfl dX6_path_31 ?_
        refine v_iload_n O dX6_path_34 rfl 1 rfl ?_
        refine v_iald (f := FN1 2) O (hRN1.ar 2 rfl) (by omega) (by omega) dX6_path_35 ?_
        refine v_top (y := (N.2.2 a)) (hmN1 a (by omega)) ?_
        refine v_iconst (v := (-1)) O dX6_path_36 (by decide) ?_
        refine v_icmp_ne (tgt := 65) O dX6_path_37 (by decide) (fun h_37 => ?_) (fun h_37 => ?_)
        · have hr0 := hpn (fun hh => h_37 hh)
          exact v_lv [0] rfl (kx σ F' I hR hfr (fun _ _ => rfl) ⟨by rw [hr0]; exact h2, fun r2 h9 => by rw [hr0] at h9; cases h9⟩)
        · refine v_aload_n O dX6_path_40 rfl 0 rfl ?_
          refine v_iload_n O dX6_path_41 rfl 1 rfl ?_
          refine v_iconst (v := nI 1) O dX6_path_42 (by decide) ?_
          refine v_iload_n O dX6_path_43 rfl 1 rfl ?_
          refine v_ishl (z := nI (2 ^ a)) O dX6_path_44 (bx_shl1 (by omega)) ?_
          refine v_iconst (v := nI 1) O dX6_path_45 (by decide) ?_
          refine v_iload_n O dX6_path_46 rfl 2 rfl ?_
          refine v_iconst (v := nI 0) O dX6_path_47 (by decide) ?_
          rw [show 2 ^ a = msk [a] by rw [msk, msk, Nat.zero_or]]
          refine v_callV (as := [.int (nI a), .int (nI (msk [a])), .int (nI 1), .int (nI due), .int (nI 0)]) (rest := []) O (c_X6_goesP hG 6 hR hOk hNt hne (a := a) (l := []) (len := 1) (size := due) (RgL.one hn haN) rfl ⟨hF0, trivial⟩ rfl (by omega) (by omega) (by omega) (by omega)) q1237 q1239 qs28 q100 q1240 hR.ob (show vcl[5]? = some (RX6, TX6, 5) from rfl) rfl mdX6_goes rfl (by decide) (by omega) (by omega) (by omega) (Nat.le_of_ble_eq_true rfl) rfl dX6_path_48 (fun v9 σ3 hp9 => ?_) (fun _ _ _ h => False.elim h)
          obtain ⟨rfl, F2, hR2, hf2, hF2, hr2⟩ := hp9
          have hN_4 := hNt.fr hf2 (by simp [hne])
          obtain ⟨wa4, ma4, hob4⟩ := hN_4.ob
          refine v_if_eqB (tgt := 59) O dX6_path_51 (by decide) (fun h_51 => ?_) (fun h_51 => ?_)
          · refine v_iinc (v := nI (due + 2)) (lv' := [(2, .int (nI (due + 2))), (0, .ref w), (1, .int (nI a))]) O hN dX6_path_59 2 rfl (nI_add due 2) (by decide) rfl ?_
            refine v_goto (tgt := 9) O dX6_path_62 (by decide) ?_
            refine v_lv [1, 2, 0] rfl ?_
            exact ih (due + 2) (fl - 1) _ _ (by omega) (by omega) (by omega) hR2 (hfr.trans hf2) (by rw [hF2 0 (by omega)]; exact hF0) hN_4 (fun hh => by have h9 := hpt hh; rw [show fl = fl - 1 + 1 by omega, pthF_s, if_neg (by omega), show betF N due 12 [a] = none from isN h_51] at h9; exact h9) hpn
          · obtain ⟨r, hyr⟩ := isS h_51
            have hr0 : r0 = some r := by rw [← hpt h_37, show fl = fl - 1 + 1 by omega, pthF_s, if_neg (by omega), show betF N due 12 [a] = some r from hyr]
            have hrl := betF_len hn 12 [a] r (RgL.one hn haN) hyr
            refine v_aload_n O dX6_path_54 rfl 0 rfl ?_
            refine v_iload_n O dX6_path_55 rfl 2 rfl ?_
            refine r_puti (K := layW) (I' := (va_up I 2 (nI due))) (ty0 := tyX6) O hR2 in_X6 tyX6_ok nmX6 (show vcl[5]? = some (RX6, TX6, 5) from rfl) 2 (by decide) rfl q1216 rfl (tyX6_ok 2 (by decide)) rfl rfl (Nat.le_of_ble_eq_true rfl) rfl dX6_path_56 (fun σ5 hR5 hf5 => ?_)
            have hN_6 := hN_4.fr hf5 (by simp [hne])
            obtain ⟨wa6, ma6, hob6⟩ := hN_6.ob
            refine v_iinc (v := nI (due + 2)) (lv' := [(2, .int (nI (due + 2))), (0, .ref w), (1, .int (nI a))]) O hN dX6_path_59 2 rfl (nI_add due 2) (by decide) rfl ?_
            refine v_goto (tgt := 9) O dX6_path_62 (by decide) ?_
            refine v_iload_n O dX6_path_9 rfl 0 rfl ?_
            refine v_aload_n O dX6_path_10 rfl 1 rfl ?_
            refine v_getf (C := RX6) (T := TX6) (N := 5) (v := .ref (ad 0)) O in_X6 hR5.ob rfl 0 (by decide) rfl q1213 rfl dX6_path_11 ?_
            refine v_getfN (C := RX2) (T := TX2) (N := 3) (v := .int (nI N.1)) O in_X2 hob6 rfl 0 (by decide) rfl q151 rfl dX6_path_14 ?_
            refine v_icmp_gtN (tgt := 65) O dX6_path_17 (by decide) (by omega) (by omega) (fun h_17 => ?_) (fun h_17 => ?_)
            · exact v_lv [1] rfl (kx _ _ _ hR5 (hfr.trans (hf2.trans hf5)) (fun j hj => by simp [va_up, hj]) ⟨by rw [hr0, rowLen, hrl.1]; simp [va_up], fun r2 h9 => by rw [hr0] at h9; cases h9; exact hr2 r hyr⟩)
            · refine v_aload_n O dX6_path_20 rfl 1 rfl ?_
              refine v_getf (C := RX6) (T := TX6) (N := 5) (v := .int (nI due)) O in_X6 hR5.ob rfl 2 (by decide) rfl q1216 rfl dX6_path_21 ?_
              refine v_if_neN (tgt := 65) O dX6_path_24 (by decide) (by omega) (fun h_24 => ?_) (fun h_24 => ?_)
              · exact v_lv [1] rfl (kx _ _ _ hR5 (hfr.trans (hf2.trans hf5)) (fun j hj => by simp [va_up, hj]) ⟨by rw [hr0, rowLen, hrl.1]; simp [va_up], fun r2 h9 => by rw [hr0] at h9; cases h9; exact hr2 r hyr⟩)
              · exact absurd h_24 (by omega)
theorem c_X6_path {G : vGC} (hG : vGok G) {σ : vSt} {w : Nat} {ad : Nat → Nat} {I : Nat → Int32} {F : Nat → Nat → Int32} {L : Nat → Nat → Int64} (hR : RecAt layW σ w ad I F L) {N : NetM} (hOk : okN N) (hNt : NetAt σ (ad 0) N) (hne : ad 0 ≠ w) {a : Nat} (haN : a < N.1) (h2 : I 2 = nI 0) : Ct G yX6_path (ws_ yX6_path cX6_path 3 (some (.object "OddPairs$Walk"))) 9 0 0 σ [.ref w, .int (nI a)] (fun v σ9 => v = some (.ref w) ∧ ∃ (F' : Nat → Nat → Int32) (I' : Nat → Int32), RecAt layW σ9 w ad I' F' L ∧ FrL [w] σ σ9 ∧ (∀ j, j ≠ 2 → I' j = I j) ∧ RowOk I' F' (pathN N a)) vNo := by
  refine ct_of hG (by decide) (Nat.le_of_ble_eq_true rfl) fun X hN O hnm htb => ?_
  show V G X _ 0 0 σ 0 [(0, .ref w), (1, .int (nI a))] []
  obtain ⟨wa, ma, hob⟩ := hNt.ob
  have hn := hOk.2.1
  refine v_aload_n O dX6_path_0 rfl 0 rfl ?_
  refine v_getf (C := RX6) (T := TX6) (N := 5) (v := .ref (ad 1)) O in_X6 hR.ob rfl 1 (by decide) rfl q1214 rfl dX6_path_1 ?_
  refine v_iconst (v := nI 0) O dX6_path_4 (by decide) ?_
  refine v_iload_n O dX6_path_5 rfl 1 rfl ?_
  refine r_iast (K := layW) O hR 1 rfl (by omega) (by omega) dX6_path_6 (fun σ1 hR1 hf1 => ?_)
  have hN_2 := hNt.fr hf1 (by simp [hne])
  obtain ⟨wa2, ma2, hob2⟩ := hN_2.ob
  refine v_iconst (v := nI 2) O dX6_path_7 (by decide) ?_
  refine v_istore_n (lv' := [(2, .int (nI 2)), (0, .ref w), (1, .int (nI a))]) O hN dX6_path_8 rfl (by decide) rfl ?_
  refine v_lv [1, 2, 0] rfl ?_
  refine l_X6_path hG O hN (by omega) (by omega) (σ0 := σ1) (F := F) hOk hne haN h2 (r0 := pathN N a) (fun σZ FZ IZ hRZ hfZ hIZ hZ => ?_) 15 2 7 _ _ (by omega) (by omega) (by omega) hR1 FrL.rf (by simp [va_up]) hN_2 (fun hh => by rw [pathN, if_pos hh]) (fun hh => by rw [pathN, if_neg hh])
  refine v_aload_n O dX6_path_65 rfl 0 rfl ?_
  exact v_aret O rfl (Or.inl ⟨_, rfl⟩) (Or.inr ⟨_, rfl⟩) dX6_path_66 (by omega) (by omega) (⟨rfl, FZ, IZ, hRZ, hf1.trans hfZ, hIZ, hZ⟩)
theorem l_X6_flower {G : vGC} (hG : vGok G) {X : vCX} {Q : State → Prop} {c0 n0 : Nat} (O : vOk G X yX6_flower.cls cX6_flower (some (.object "OddPairs$Walk")) 9 0 0) (hN : xn X = 4) (hcm0 : c0 ≤ 0) (hsm0 : n0 ≤ 0) {σ0 : vSt} {w : Nat} {ad : Nat → Nat} {I : Nat → Int32} {F : Nat → Nat → Int32} {L : Nat → Nat → Int64} {N : NetM} (hOk : okN N) (hne : ad 0 ≠ w) {a : Nat} (haN : a < N.1) {out : Nat} (hou : out < 4096) (hout : (N.2.2 a = -1 ∧ out = 0) ∨ (N.2.2 a ≠ -1 ∧ out = 2 ^ cl (N.2.2 a))) (h2 : I 2 = nI 0) {r0 : Option (List Nat)} (kx : ∀ (σ : vSt) (F' : Nat → Nat → Int32) (I' : Nat → Int32), RecAt layW σ w ad I' F' L → FrL [w] σ0 σ → (∀ j, j ≠ 2 → I' j = I j) → RowOk I' F' r0 → V G X Q c0 n0 σ 83 [(0, .ref w)] []) : ∀ (k : Nat) (due : Nat) (fl : Nat) (σ : vSt) (F' : Nat → Nat → Int32), (15 < due + k) → (due % 2 = 1 ∧ 3 ≤ due) → (2 * fl + due = 17 ∧ due ≤ 15) → (RecAt layW σ w ad I F' L) → (FrL [w] σ0 σ) → (F' 1 0 = nI a) → (NetAt σ (ad 0) N) → (flwF N a fl due = r0) → V G X Q c0 n0 σ 38 [(0, .ref w), (1, .int (nI a)), (2, .int (nI out)), (3, .int (nI due))] [] := by
  intro k
  induction k with
  | zero => intro due fl σ F' h0 hd2 hfd hR hfr hF0 hNt hpt; exact absurd hfd.2 (by omega)
  | succ k ih =>
    intro due fl σ F' h0 hd2 hfd hR hfr hF0 hNt hpt
    obtain ⟨wa, ma, hob⟩ := hNt.ob
    have hn := hOk.2.1
    refine v_iload_n O dX6_flower_38 rfl 3 rfl ?_
    refine v_aload_n O dX6_flower_39 rfl 0 rfl ?_
    refine v_getf (C := RX6) (T := TX6) (N := 5) (v := .ref (ad 0)) O in_X6 hR.ob rfl 0 (by decide) rfl q1213 rfl dX6_flower_40 ?_
    refine v_getfN (C := RX2) (T := TX2) (N := 3) (v := .int (nI N.1)) O in_X2 hob rfl 0 (by decide) rfl q151 rfl dX6_flower_43 ?_
    refine v_icmp_gtN (tgt := 83) O dX6_flower_46 (by decide) (by omega) (by omega) (fun h_46 => ?_) (fun h_46 => ?_)
    · have hr0 : r0 = none := by rw [← hpt, show fl = fl - 1 + 1 by omega, flwF_s, if_pos (by omega)]
      exact v_lv [0] rfl (kx σ F' I hR hfr (fun _ _ => rfl) ⟨by rw [hr0]; exact h2, fun r2 h9 => by rw [hr0] at h9; cases h9⟩)
    · refine v_aload_n O dX6_flower_49 rfl 0 rfl ?_
      refine v_getf (C := RX6) (T := TX6) (N := 5) (v := .int (nI 0)) O in_X6 hR.ob rfl 2 (by decide) rfl q1216 (congrArg (fun z => some (Value.int z)) h2) dX6_flower_50 ?_
      refine v_if_neN (tgt := 83) O dX6_flower_53 (by decide) (by omega) (fun h_53 => ?_) (fun h_53 => ?_)
      · exact absurd h_53 (by omega)
      · refine v_aload_n O dX6_flower_56 rfl 0 rfl ?_
        refine v_iload_n O dX6_flower_57 rfl 1 rfl ?_
        refine v_iconst (v := nI 1) O dX6_flower_58 (by decide) ?_
        refine v_iload_n O dX6_flower_59 rfl 1 rfl ?_
        refine v_ishl (z := nI (2 ^ a)) O dX6_flower_60 (bx_shl1 (by omega)) ?_
        refine v_iload_n O dX6_flower_61 rfl 2 rfl ?_
        refine v_ior (z := nI ((2 ^ a) ||| out)) O dX6_flower_62 (bx_or (2 ^ a) out) ?_
        refine v_iconst (v := nI 1) O dX6_flower_63 (by decide) ?_
        refine v_iload_n O dX6_flower_64 rfl 3 rfl ?_
        refine v_iconst (v := nI 1) O dX6_flower_65 (by decide) ?_
        rw [show 2 ^ a = msk [a] by rw [msk, msk, Nat.zero_or]]
        refine v_callV (as := [.int (nI a), .int (nI (msk [a] ||| out)), .int (nI 1), .int (nI due), .int (nI 1)]) (rest := []) O (c_X6_goesR hG 6 hR hOk hNt hne (a := a) (l := []) (len := 1) (size := due) (base := a) (out := out) (f := 12) (RgL.one hn haN) rfl ⟨hF0, trivial⟩ rfl (by omega) (by omega) (by omega) (by omega) hF0 ⟨by rw [msk, msk, Nat.zero_or, Nat.testBit_two_pow_self], haN⟩ hout (by omega)) q1237 q1239 qs28 q100 q1240 hR.ob (show vcl[5]? = some (RX6, TX6, 5) from rfl) rfl mdX6_goes rfl (by decide) (by omega) (by omega) (by omega) (Nat.le_of_ble_eq_true rfl) rfl dX6_flower_66 (fun v9 σ2 hp9 => ?_) (fun _ _ _ h => False.elim h)
        obtain ⟨rfl, F1, hR1, hf1, hF1, hr1⟩ := hp9
        have hN_3 := hNt.fr hf1 (by simp [hne])
        obtain ⟨wa3, ma3, hob3⟩ := hN_3.ob
        refine v_if_eqB (tgt := 77) O dX6_flower_69 (by decide) (fun h_69 => ?_) (fun h_69 => ?_)
        · refine v_iinc (v := nI (due + 2)) (lv' := [(3, .int (nI (due + 2))), (0, .ref w), (1, .int (nI a)), (2, .int (nI out))]) O hN dX6_flower_77 3 rfl (nI_add due 2) (by decide) rfl ?_
          refine v_goto (tgt := 38) O dX6_flower_80 (by decide) ?_
          refine v_lv [1, 2, 3, 0] rfl ?_
          exact ih (due + 2) (fl - 1) _ _ (by omega) (by omega) (by omega) hR1 (hfr.trans hf1) (by rw [hF1 0 (by omega)]; exact hF0) hN_3 (by rw [show fl = fl - 1 + 1 by omega, flwF_s, if_neg (by omega), isN h_69] at hpt; exact hpt)
        · obtain ⟨r, hyr⟩ := isS h_69
          have hr0 : r0 = some r := by rw [← hpt, show fl = fl - 1 + 1 by omega, flwF_s, if_neg (by omega), hyr]
          have hrl := ringF_len hOk 12 [a] r (RgL.one hn haN) hyr
          refine v_aload_n O dX6_flower_72 rfl 0 rfl ?_
          refine v_iload_n O dX6_flower_73 rfl 3 rfl ?_
          refine r_puti (K := layW) (I' := (va_up I 2 (nI due))) (ty0 := tyX6) O hR1 in_X6 tyX6_ok nmX6 (show vcl[5]? = some (RX6, TX6, 5) from rfl) 2 (by decide) rfl q1216 rfl (tyX6_ok 2 (by decide)) rfl rfl (Nat.le_of_ble_eq_true rfl) rfl dX6_flower_74 (fun σ4 hR4 hf4 => ?_)
          have hN_5 := hN_3.fr hf4 (by simp [hne])
          obtain ⟨wa5, ma5, hob5⟩ := hN_5.ob
          refine v_iinc (v := nI (due + 2)) (lv' := [(3, .int (nI (due + 2))), (0, .ref w), (1, .int (nI a)), (2, .int (nI out))]) O hN dX6_flower_77 3 rfl (nI_add due 2) (by decide) rfl ?_
          refine v_goto (tgt := 38) O dX6_flower_80 (by decide) ?_
          refine v_iload_n O dX6_flower_38 rfl 0 rfl ?_
          refine v_aload_n O dX6_flower_39 rfl 1 rfl ?_
          refine v_getf (C := RX6) (T := TX6) (N := 5) (v := .ref (ad 0)) O in_X6 hR4.ob rfl 0 (by decide) rfl q1213 rfl dX6_flower_40 ?_
          refine v_getfN (C := RX2) (T := TX2) (N := 3) (v := .int (nI N.1)) O in_X2 hob5 rfl 0 (by decide) rfl q151 rfl dX6_flower_43 ?_
          refine v_icmp_gtN (tgt := 83) O dX6_flower_46 (by decide) (by omega) (by omega) (fun h_46 => ?_) (fun h_46 => ?_)
          · exact v_lv [1] rfl (kx _ _ _ hR4 (hfr.trans (hf1.trans hf4)) (fun j hj => by simp [va_up, hj]) ⟨by rw [hr0, rowLen, hrl.1]; simp [va_up], fun r2 h9 => by rw [hr0] at h9; cases h9; exact hr1 r hyr⟩)
          · refine v_aload_n O dX6_flower_49 rfl 1 rfl ?_
            refine v_getf (C := RX6) (T := TX6) (N := 5) (v := .int (nI due)) O in_X6 hR4.ob rfl 2 (by decide) rfl q1216 rfl dX6_flower_50 ?_
            refine v_if_neN (tgt := 83) O dX6_flower_53 (by decide) (by omega) (fun h_53 => ?_) (fun h_53 => ?_)
            · exact v_lv [1] rfl (kx _ _ _ hR4 (hfr.trans (hf1.trans hf4)) (fun j hj => by simp [va_up, hj]) ⟨by rw [hr0, rowLen, hrl.1]; simp [va_up], fun r2 h9 => by rw [hr0] at h9; cases h9; exact hr1 r hyr⟩)
            · exact absurd h_53 (by omega)
theorem c_X6_flower {G : vGC} (hG : vGok G) {σ : vSt} {w : Nat} {ad : Nat → Nat} {I : Nat → Int32} {F : Nat → Nat → Int32} {L : Nat → Nat → Int64} (hR : RecAt layW σ w ad I F L) {N : NetM} (hOk : okN N) (hNt : NetAt σ (ad 0) N) (hne : ad 0 ≠ w) {a : Nat} (haN : a < N.1) (h2 : I 2 = nI 0) : Ct G yX6_flower (ws_ yX6_flower cX6_flower 4 (some (.object "OddPairs$Walk"))) 9 0 0 σ [.ref w, .int (nI a)] (fun v σ9 => v = some (.ref w) ∧ ∃ (F' : Nat → Nat → Int32) (I' : Nat → Int32), RecAt layW σ9 w ad I' F' L ∧ FrL [w] σ σ9 ∧ (∀ j, j ≠ 2 → I' j = I j) ∧ RowOk I' F' (flowN N a)) vNo := by
  refine ct_of hG (by decide) (Nat.le_of_ble_eq_true rfl) fun X hN O hnm htb => ?_
  show V G X _ 0 0 σ 0 [(0, .ref w), (1, .int (nI a))] []
  obtain ⟨wa, ma, hob⟩ := hNt.ob
  have hn := hOk.2.1
  refine v_aload_n O dX6_flower_0 rfl 0 rfl ?_
  refine v_getf (C := RX6) (T := TX6) (N := 5) (v := .ref (ad 1)) O in_X6 hR.ob rfl 1 (by decide) rfl q1214 rfl dX6_flower_1 ?_
  refine v_iconst (v := nI 0) O dX6_flower_4 (by decide) ?_
  refine v_iload_n O dX6_flower_5 rfl 1 rfl ?_
  refine r_iast (K := layW) O hR 1 rfl (by omega) (by omega) dX6_flower_6 (fun σ1 hR1 hf1 => ?_)
  have hN_2 := hNt.fr hf1 (by simp [hne])
  obtain ⟨wa2, ma2, hob2⟩ := hN_2.ob
  refine v_aload_n O dX6_flower_7 rfl 0 rfl ?_
  obtain ⟨adN3, IN3, FN3, LN3, hRN3, hn0N3, hwN3, hmN3⟩ := id hN_2
  refine v_getf (C := RX6) (T := TX6) (N := 5) (v := .ref (ad 0)) O in_X6 hR1.ob rfl 0 (by decide) rfl q1213 rfl dX6_flower_8 ?_
  refine v_getfN (C := RX2) (T := TX2) (N := 3) (v := .ref (adN3 2)) O in_X2 hRN3.ob rfl 2 (by decide) rfl q160 rfl dX6_flower_11 ?_
  refine v_iload_n O dX6_flower_14 rfl 1 rfl ?_
  refine v_iald (f := FN3 2) O (hRN3.ar 2 rfl) (by omega) (by omega) dX6_flower_15 ?_
  refine v_top (y := (N.2.2 a)) (hmN3 a (by omega)) ?_
  refine v_iconst (v := (-1)) O dX6_flower_16 (by decide) ?_
  refine v_icmp_ne (tgt := 24) O dX6_flower_17 (by decide) (fun h_17 => ?_) (fun h_17 => ?_)
  · obtain ⟨c9, hcN, hcI, hcc⟩ := mate_or hOk haN h_17
    have hout : (N.2.2 a = -1 ∧ 2 ^ c9 = 0) ∨ (N.2.2 a ≠ -1 ∧ 2 ^ c9 = 2 ^ cl (N.2.2 a)) := .inr ⟨h_17, by rw [hcc]⟩
    have hou : 2 ^ c9 < 4096 := Nat.pow_lt_pow_right (by omega) (show c9 < 12 by omega)
    refine v_iconst (v := nI 1) O dX6_flower_24 (by decide) ?_
    refine v_aload_n O dX6_flower_25 rfl 0 rfl ?_
    obtain ⟨adN4, IN4, FN4, LN4, hRN4, hn0N4, hwN4, hmN4⟩ := id hN_2
    refine v_getf (C := RX6) (T := TX6) (N := 5) (v := .ref (ad 0)) O in_X6 hR1.ob rfl 0 (by decide) rfl q1213 rfl dX6_flower_26 ?_
    refine v_getfN (C := RX2) (T := TX2) (N := 3) (v := .ref (adN4 2)) O in_X2 hRN4.ob rfl 2 (by decide) rfl q160 rfl dX6_flower_29 ?_
    refine v_iload_n O dX6_flower_32 rfl 1 rfl ?_
    refine v_iald (f := FN4 2) O (hRN4.ar 2 rfl) (by omega) (by omega) dX6_flower_33 ?_
    refine v_top (y := nI c9) ((hmN4 a haN).trans hcI) ?_
    refine v_ishl (z := nI (2 ^ c9)) O dX6_flower_34 (bx_shl1 (by omega)) ?_
    refine v_istore_n (lv' := [(2, .int (nI (2 ^ c9))), (0, .ref w), (1, .int (nI a))]) O hN dX6_flower_35 rfl (by decide) rfl ?_
    refine v_iconst (v := nI 3) O dX6_flower_36 (by decide) ?_
    refine v_istore_n (lv' := [(3, .int (nI 3)), (2, .int (nI (2 ^ c9))), (0, .ref w), (1, .int (nI a))]) O hN dX6_flower_37 rfl (by decide) rfl ?_
    refine v_lv [2, 3, 1, 0] rfl ?_
    refine l_X6_flower hG O hN (by omega) (by omega) (σ0 := σ1) (F := F) hOk hne haN hou hout h2 (r0 := flowN N a) (fun σZ FZ IZ hRZ hfZ hIZ hZ => ?_) 16 3 7 _ _ (by omega) (by omega) (by omega) hR1 FrL.rf (by simp [va_up]) hN_2 rfl
    refine v_aload_n O dX6_flower_83 rfl 0 rfl ?_
    exact v_aret O rfl (Or.inl ⟨_, rfl⟩) (Or.inr ⟨_, rfl⟩) dX6_flower_84 (by omega) (by omega) (⟨rfl, FZ, IZ, hRZ, hf1.trans hfZ, hIZ, hZ⟩)
  · have hout : (N.2.2 a = -1 ∧ (0 : Nat) = 0) ∨ (N.2.2 a ≠ -1 ∧ (0 : Nat) = 2 ^ cl (N.2.2 a)) := .inl ⟨h_17, rfl⟩
    have hou : (0 : Nat) < 4096 := by omega
    refine v_iconst (v := nI 0) O dX6_flower_20 (by decide) ?_
    refine v_goto (tgt := 35) O dX6_flower_21 (by decide) ?_
    refine v_istore_n (lv' := [(2, .int (nI 0)), (0, .ref w), (1, .int (nI a))]) O hN dX6_flower_35 rfl (by decide) rfl ?_
    refine v_iconst (v := nI 3) O dX6_flower_36 (by decide) ?_
    refine v_istore_n (lv' := [(3, .int (nI 3)), (2, .int (nI 0)), (0, .ref w), (1, .int (nI a))]) O hN dX6_flower_37 rfl (by decide) rfl ?_
    refine v_lv [2, 3, 1, 0] rfl ?_
    refine l_X6_flower hG O hN (by omega) (by omega) (σ0 := σ1) (F := F) hOk hne haN hou hout h2 (r0 := flowN N a) (fun σZ FZ IZ hRZ hfZ hIZ hZ => ?_) 16 3 7 _ _ (by omega) (by omega) (by omega) hR1 FrL.rf (by simp [va_up]) hN_2 rfl
    refine v_aload_n O dX6_flower_83 rfl 0 rfl ?_
    exact v_aret O rfl (Or.inl ⟨_, rfl⟩) (Or.inr ⟨_, rfl⟩) dX6_flower_84 (by omega) (by omega) (⟨rfl, FZ, IZ, hRZ, hf1.trans hfZ, hIZ, hZ⟩)
theorem layW_fin {x : Nat × Nat} : ∀ j, layW.2.2.1 j = some x → (if j = 1 then some (0, 13) else none) = some x := fun _ h => h
theorem c_X6_init {G : vGC} (hG : vGok G) {σ : vSt} {w h : Nat} (hz : w ≠ 0) (hh : σ w = some (w, .inr (5, [.null, .null, .int 0, .int 0, .int 0]))) : Ct G yX6_init (ws_ yX6_init cX6_init 2 none) 2 1 13 σ [.ref w, .ref h] (fun v σ9 => v = none ∧ FrL [w] σ σ9 ∧ ∃ (ad : Nat → Nat) (I : Nat → Int32) (F : Nat → Nat → Int32) (L : Nat → Nat → Int64), RecAt layW σ9 w ad I F L ∧ ad 0 = h ∧ I 2 = nI 0 ∧ I 3 = nI 0 ∧ I 4 = nI 0) vNo := by
  refine ct_of hG (by decide) (Nat.le_of_ble_eq_true rfl) fun X hN O hnm htb => ?_
  show V G X _ 0 0 σ 0 [(0, .ref w), (1, .ref h)] []
  have hR0 : RecAt (lay0 5 (fun I ad => [.null, .null, .int (I 2), .int (I 3), .int (I 4)])) σ w (fun _ => 0) (fun _ => 0) (fun _ _ => 0) (fun _ _ => 0) := RecAt.mk0 hz hh
  refine v_aload_n O dX6_init_0 rfl 0 rfl ?_
  refine v_objInit O q1212 q113 q114 dX6_init_1 (by decide) (Nat.le_of_ble_eq_true rfl) ?_
  refine v_aload_n O dX6_init_4 rfl 0 rfl ?_
  refine v_bipush (v := nI 13) O dX6_init_5 (by decide) ?_
  refine v_newa (N := 13) (t := 0) (ty := .int) (a0 := (13, .inl (fun _ => 0))) O (fun _ => w) q137 rfl rfl (fun _ h => by cases h) (fun cA => rfl) (by omega) (by omega) (by omega) dX6_init_7 (fun m1 hm1 hmz1 => ?_)
  refine v_putF (ty0 := tyX6) O hnm in_X6 tyX6_ok nmX6 hR0.nz ((vUp_n (fun e => by rw [← e, hR0.ob] at hm1; cases hm1)).trans hR0.ob) (show vcl[5]? = some (RX6, TX6, 5) from rfl) 1 (by decide) rfl q1214 rfl rfl (tyX6_ok 1 (by decide)) rfl rfl (Nat.le_of_ble_eq_true rfl) dX6_init_9 ?_
  obtain ⟨hR2, hf2⟩ := RecAt.grow (k := 1) (t := 0) (N := 13) (f := fun _ => 0) (fs := (fun I ad => [.null, .ref (ad 1), .int (I 2), .int (I 3), .int (I 4)])) hR0 rfl (fun _ _ _ e => nomatch e) hm1 rfl
  change RecAt _ (vUp (vUp σ m1 (w, .inl (0, 13, .inl (fun _ => 0)))) w (w, .inr (5, [.null, .ref ((va_up (fun _ => 0) 1 m1) 1), .int 0, .int 0, .int 0]))) _ _ _ _ _ at hR2
  change FrL _ _ (vUp (vUp σ m1 (w, .inl (0, 13, .inl (fun _ => 0)))) w (w, .inr (5, [.null, .ref ((va_up (fun _ => 0) 1 m1) 1), .int 0, .int 0, .int 0]))) at hf2
  show V G X _ _ _ (vUp (vUp σ m1 (w, .inl (0, 13, .inl (fun _ => 0)))) w (w, .inr (5, [.null, .ref ((va_up (fun _ => 0) 1 m1) 1), .int 0, .int 0, .int 0]))) 12 [(0, .ref w), (1, .ref h)] []
  generalize (vUp (vUp σ m1 (w, .inl (0, 13, .inl (fun _ => 0)))) w (w, .inr (5, [.null, .ref ((va_up (fun _ => 0) 1 m1) 1), .int 0, .int 0, .int 0]))) = σ2 at hR2 hf2 ⊢
  refine v_aload_n O dX6_init_12 rfl 0 rfl ?_
  refine v_aload_n O dX6_init_13 rfl 1 rfl ?_
  refine v_putF (ty0 := tyX6) O hnm in_X6 tyX6_ok nmX6 hR2.nz hR2.ob (show vcl[5]? = some (RX6, TX6, 5) from rfl) 0 (by decide) rfl q1213 rfl rfl (tyX6_ok 0 (by decide)) rfl rfl (Nat.le_of_ble_eq_true rfl) dX6_init_14 ?_
  have hR9 := RecAt.adf (K' := layW) (ad' := (va_up (va_up (fun _ => 0) 1 m1) 0 h)) hR2 (vs := [.ref ((va_up (va_up (fun _ => 0) 1 m1) 0 h) 0), .ref ((va_up (va_up (fun _ => 0) 1 m1) 0 h) 1), .int 0, .int 0, .int 0]) rfl (fun j x h => layW_fin j h) (fun j x h => nomatch h) (fun j x h => nomatch h) (fun j h => if_neg (fun e => by rw [e] at h; cases h)) (fun j N g h => nomatch h) rfl
  have hf9 : FrL [w] σ2 (vUp σ2 w (w, .inr (5, [.ref ((va_up (va_up (fun _ => 0) 1 m1) 0 h) 0), .ref ((va_up (va_up (fun _ => 0) 1 m1) 0 h) 1), .int 0, .int 0, .int 0]))) := FrL.up hR2.ob (by simp)
  change RecAt _ (vUp σ2 w (w, .inr (5, [.ref ((va_up (va_up (fun _ => 0) 1 m1) 0 h) 0), .ref ((va_up (va_up (fun _ => 0) 1 m1) 0 h) 1), .int 0, .int 0, .int 0]))) _ _ _ _ _ at hR9
  show V G X _ _ _ (vUp σ2 w (w, .inr (5, [.ref ((va_up (va_up (fun _ => 0) 1 m1) 0 h) 0), .ref ((va_up (va_up (fun _ => 0) 1 m1) 0 h) 1), .int 0, .int 0, .int 0]))) 17 [(0, .ref w), (1, .ref h)] []
  generalize (vUp σ2 w (w, .inr (5, [.ref ((va_up (va_up (fun _ => 0) 1 m1) 0 h) 0), .ref ((va_up (va_up (fun _ => 0) 1 m1) 0 h) 1), .int 0, .int 0, .int 0]))) = σ9 at hR9 hf9 ⊢
  exact v_vret O rfl dX6_init_17 (by omega) (by omega) (⟨rfl, (hf2.trans hf9), _, _, _, _, hR9, rfl, rfl, rfl, rfl⟩)
