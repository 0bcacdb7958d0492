/-- what an object that picks does at its one call site: to be shown of the two lambdas -/
def PickOk (G : vGC) (b : Nat) (op : Nat → Nat → Nat) : Prop := ∀ {X : vCX} {Q : State → Prop} {cc : ByteArray} {ret : Option FieldType} {fr mc ms c n : Nat} {σ : vSt} {pc : Nat} {lv : List (Nat × Value)} {st : List Value} {x y : Nat}, vOk G X RX7 cc ret fr mc ms → 6 ≤ fr → st = [] → x < 2 ^ 20 → y < 2 ^ 20 → decode cc pc = .ok (.invokeinterface 72 3, 5) → V G X Q c n σ (pc + 5) lv (.int (nI (op x y)) :: st) → V G X Q c n σ pc lv (.int (nI y) :: .int (nI x) :: .ref b :: st)
def wv (m : Bool) (d : D4) : Nat := if m then d.2.2.1 else d.2.2.2
def opM (m : Bool) (x y : Nat) : Nat := if m then max x y else min x y
def wgtV (m : Bool) (d : D4) (need : Nat) : Int32 := if d.1 = need then nI (wv m d) else -1
theorem wgt_no {m : Bool} {c e : D4} {w need : Nat} (hc : c.1 ≤ need) (he : e.1 + 1 ≤ need) (hn : e.1 ≠ need - 1) : wgtV m (comb c (bump e w)) need = wgtV m c need := by
  unfold wgtV
  have h1 : (comb c (bump e w)).1 = max c.1 (e.1 + 1) := comb_fst _ _
  by_cases h2 : c.1 = need
  · rw [if_pos h2, if_pos (by rw [h1]; omega)]
    unfold comb
    rw [if_pos (show (bump e w).1 < c.1 by show e.1 + 1 < c.1; omega)]
  · rw [if_neg h2, if_neg (by rw [h1]; omega)]
theorem wgt_new {m : Bool} {c e : D4} {w need : Nat} (hc : c.1 ≤ need) (hn : c.1 ≠ need) (he : e.1 + 1 = need) : wgtV m (comb c (bump e w)) need = nI (wv m e + w) := by
  unfold wgtV comb
  rw [if_neg (show ¬ (bump e w).1 < c.1 by show ¬ e.1 + 1 < c.1; omega), if_pos (show c.1 < (bump e w).1 by show c.1 < e.1 + 1; omega), if_pos (show (bump e w).1 = need from he)]
  unfold wv bump
  cases m <;> rfl
theorem wgt_both {m : Bool} {c e : D4} {w need : Nat} (hc : c.1 = need) (he : e.1 + 1 = need) : wgtV m (comb c (bump e w)) need = nI (opM m (wv m c) (wv m e + w)) := by
  unfold wgtV comb
  rw [if_neg (show ¬ (bump e w).1 < c.1 by show ¬ e.1 + 1 < c.1; omega), if_neg (show ¬ c.1 < (bump e w).1 by show ¬ c.1 < e.1 + 1; omega)]
  rw [if_pos (show (c.1, c.2.1 + (bump e w).2.1, max c.2.2.1 (bump e w).2.2.1, min c.2.2.2 (bump e w).2.2.2).1 = need from hc)]
  unfold wv opM bump
  cases m <;> rfl
theorem wgt_m1 {m : Bool} {d : D4} {need : Nat} (hb : wv m d < 2 ^ 31) : wgtV m d need = -1 ↔ d.1 ≠ need := by
  unfold wgtV
  by_cases h : d.1 = need
  · rw [if_pos h]; exact ⟨fun e => absurd e (nI_ne hb), fun e => absurd h e⟩
  · rw [if_neg h]; exact ⟨fun _ => h, fun _ => rfl⟩
theorem wv_le {m : Bool} {d : D4} {b : Nat} (h1 : d.2.2.1 ≤ b) (h2 : d.2.2.2 ≤ b) : wv m d ≤ b := by
  unfold wv
  cases m
  · exact h2
  · exact h1
theorem dfold_small {N : NetM} (hOk : okN N) {a rest : Nat} (ha : a < N.1) (hr : rest < 2 ^ N.1) {m : Bool} {k : Nat} (hk : k ≤ N.1) : wv m (dfold N.2.1 a rest (dp N.1 N.2.1) k) ≤ 20000 := by
  have hb : ∀ s, s < 2 ^ N.1 → bnd 12 (dp N.1 N.2.1 s) := fun s hs => by
    have h1 := dp_bnd hOk.w hOk.2.1 (pcn s) s hs rfl
    have h2 := pcn_le s
    exact ⟨by have := h1.1; omega, Nat.le_trans h1.2.1 (Nat.pow_le_pow_right (by omega) h2), by have := h1.2.2.1; omega, by have := h1.2.2.2; omega⟩
  have h3 := bn_fold hOk.w ha (r := dp N.1 N.2.1) (hb rest hr) (fun k _ => hb _ (Nat.lt_of_le_of_lt (sd_le _ _) hr)) k hk
  exact wv_le (by have := h3.2.2.1; omega) (by have := h3.2.2.2; omega)
theorem dp_wv {N : NetM} (hOk : okN N) {s : Nat} (hs : s < 2 ^ N.1) {m : Bool} : wv m (dp N.1 N.2.1 s) ≤ 11988 := by
  have h := dp_small hOk.w hOk.2.1 hs
  exact wv_le h.2.2.1 h.2.2.2
def WgtC (G : vGC) (k : Nat) : Prop := ∀ {σ : vSt} {g t h : Nat} {N : NetM} (hOk : okN N) (hGr : GreAt σ g t h N) {s need : Nat} (hs : s < 2 ^ N.1) (hd : (dpN N s).1 ≤ need) (hnd : need ≤ 12) {m : Bool} {pb : Nat} (hPk : PickOk G pb (opM m)), pcn s < k → Ct G yX7_weight (ws_ yX7_weight cX7_weight 9 (some .int)) (6 + k) 0 0 σ [.ref g, .int (nI s), .int (nI need), .ref pb] (fun v σ9 => v = some (.int (wgtV m (dpN N s) need)) ∧ GreAt σ9 g t h N ∧ FrL [t] σ σ9) vNo
theorem mdX7_weight : vMd yX7_weight 3 := ⟨by decide +kernel, by decide +kernel, by decide +kernel⟩
theorem l_X7_weight {G : vGC} (hG : vGok G) {X : vCX} {Q : State → Prop} {c0 n0 k9 : Nat} (O : vOk G X yX7_weight.cls cX7_weight (some .int) (6 + (k9 + 1)) 0 0) (hN : xn X = 9) (hcm0 : c0 ≤ 0) (hsm0 : n0 ≤ 0) {σ0 : vSt} {g t h : Nat} {N : NetM} (hOk : okN N) {s need a r0 pb : Nat} {m : Bool} (hPk : PickOk G pb (opM m)) (hrec : WgtC G k9) (hr : r0 < 2 ^ N.1) (ha : a < N.1) (hpr : pcn r0 < k9) (hd : (dfold N.2.1 a r0 (dp N.1 N.2.1) N.1).1 ≤ need) (hnd : need ≤ 12) (kx : ∀ σ : vSt, GreAt σ g t h N → FrL [t] σ0 σ → V G X Q c0 n0 σ 176 [(0, .ref g), (1, .int (nI s)), (2, .int (nI need)), (3, .ref pb), (4, .int (nI a)), (5, .int (nI r0)), (6, .int (wgtV m (dfold N.2.1 a r0 (dp N.1 N.2.1) N.1) need)), (7, .int (nI N.1))] []) : ∀ (k : Nat) (b : Nat) (σ : vSt), (N.1 < b + k) → (b ≤ N.1) → (a < b) → (GreAt σ g t h N) → (FrL [t] σ0 σ) → V G X Q c0 n0 σ 62 [(0, .ref g), (1, .int (nI s)), (2, .int (nI need)), (3, .ref pb), (4, .int (nI a)), (5, .int (nI r0)), (6, .int (wgtV m (dfold N.2.1 a r0 (dp N.1 N.2.1) b) need)), (7, .int (nI b))] [] := by
  intro k
  induction k with
  | zero => intro b σ h0 h1 hab hGr hf; exact absurd h0 (by omega)
  | succ k ih =>
    intro b σ h0 h1 hab hGr hf
    obtain ⟨hg, hT, hN0, hht, hgt⟩ := id hGr
    obtain ⟨adt, It, Ft, Lt, hRt, had0⟩ := id hT
    obtain ⟨wa, ma, hob⟩ := hN0.ob
    have hn := hOk.2.1
    have hal := all_lt (N := N)
    have hp12 := p12 hn
    have htop := dp_top hOk hal
    have htop2 : (dp N.1 N.2.1 (allN N)).1 ≤ 12 := htop
    have htop3 : (topN N).1 ≤ 12 := htop
    have hal2 : allN N = 2 ^ N.1 - 1 := rfl
    have hp1 : 1 ≤ 2 ^ N.1 := Nat.one_le_two_pow
    have h2b : b < N.1 → 2 ^ b < 4096 := fun h => Nat.pow_lt_pow_right (by omega) (show b < 12 by omega)
    have hrb := sd_le r0 (2 ^ b)
    have hcs := dfold_small hOk ha hr (m := m) h1
    have hes := dp_wv hOk (s := sd r0 (2 ^ b)) (by omega) (m := m)
    refine v_iload O dX7_weight_62 7 rfl ?_
    refine v_aload_n O dX7_weight_64 rfl 0 rfl ?_
    refine v_getf (C := RX7) (T := TX7) (N := 3) (v := .ref h) O in_X7 hg rfl 0 (by decide) rfl q300 rfl dX7_weight_65 ?_
    refine v_getfN (C := RX2) (T := TX2) (N := 3) (v := .int (nI N.1)) O in_X2 hob rfl 0 (by decide) rfl q150 rfl dX7_weight_68 ?_
    refine v_icmp_geN (tgt := 176) O dX7_weight_71 (by decide) (by omega) (by omega) (fun h_71 => ?_) (fun h_71 => ?_)
    · obtain rfl : b = N.1 := by omega
      exact v_lv [0, 1, 2, 3, 4, 5, 6, 7] rfl (kx σ hGr hf)
    · have h2b2 := h2b (by omega)
      refine v_iload O dX7_weight_74 5 rfl ?_
      refine v_iload O dX7_weight_76 7 rfl ?_
      refine v_callSN (as := [.int (nI r0), .int (nI b)]) (rest := []) O (c_X1_has hG (s := r0) (k := b) (by omega) (by omega)) q316 q271 q72 q272 mdX1_has rfl (by decide) (by omega) (by omega) (by omega) (Nat.le_of_ble_eq_true rfl) rfl dX7_weight_78 (fun v9 σ9 hp9 => ?_) (fun _ _ _ h => False.elim h)
      obtain ⟨rfl, hs9⟩ := hp9
      obtain rfl := hs9.symm
      refine v_if_eqB (tgt := 170) O dX7_weight_81 (by decide) (fun h_81 => ?_) (fun h_81 => ?_)
      · refine v_iinc (v := nI (b + 1)) (lv' := [(7, .int (nI (b + 1))), (0, .ref g), (1, .int (nI s)), (2, .int (nI need)), (3, .ref pb), (4, .int (nI a)), (5, .int (nI r0)), (6, .int (wgtV m (dfold N.2.1 a r0 (dp N.1 N.2.1) b) need))]) O hN dX7_weight_170 7 rfl (nI_add b 1) (by decide) rfl ?_
        refine v_goto (tgt := 62) O dX7_weight_173 (by decide) ?_
        rw [← dfold_no (w := N.2.1) (a := a) (rest := r0) (r := dp N.1 N.2.1) (fun hh => by have h9 := hh.2.1; rw [h_81] at h9; cases h9)]
        refine v_lv [1, 2, 3, 4, 5, 6, 7, 0] rfl ?_
        exact ih (b + 1) _ (by omega) (by omega) (by omega) hGr hf
      · refine v_aload_n O dX7_weight_84 rfl 0 rfl ?_
        refine v_getf (C := RX7) (T := TX7) (N := 3) (v := .ref h) O in_X7 hg rfl 0 (by decide) rfl q300 rfl dX7_weight_85 ?_
        refine v_iload O dX7_weight_88 4 rfl ?_
        refine v_iload O dX7_weight_90 7 rfl ?_
        refine v_callV (as := [.int (nI a), .int (nI b)]) (rest := []) O (c_X2_isLine hG hN0 (by omega) (a := a) (b := b) (by omega) (by omega)) q317 q281 q282 q75 q283 hob (show vcl[1]? = some (RX2, TX2, 3) from rfl) rfl mdX2_isLine rfl (by decide) (by omega) (by omega) (by omega) (Nat.le_of_ble_eq_true rfl) rfl dX7_weight_92 (fun v9 σ9 hp9 => ?_) (fun _ _ _ h => False.elim h)
        obtain ⟨rfl, hs9⟩ := hp9
        obtain rfl := hs9.symm
        refine v_if_neB (tgt := 101) O dX7_weight_95 (by decide) (fun h_95 => ?_) (fun h_95 => ?_)
        · have hlw : lw N.2.1 a b = true := h_95
          have hwn := hOk.w.wn ha (show b < N.1 by omega) (of_decide_eq_true hlw)
          have hc2 : (dp N.1 N.2.1 (sd r0 (2 ^ b))).1 + 1 ≤ need := Nat.le_trans (dfold_ge (r := dp N.1 N.2.1) ⟨by omega, h_81, hlw⟩ N.1 (by omega)) hd
          have hc1 : (dfold N.2.1 a r0 (dp N.1 N.2.1) b).1 ≤ need := Nat.le_trans (dfold_mono (by omega)) hd
          refine v_aload_n O dX7_weight_101 rfl 0 rfl ?_
          refine v_iload O dX7_weight_102 5 rfl ?_
          refine v_iconst (v := nI 1) O dX7_weight_104 (by decide) ?_
          refine v_iload O dX7_weight_105 7 rfl ?_
          refine v_ishl (z := nI (2 ^ b)) O dX7_weight_107 (bx_shl1 (by omega)) ?_
          refine v_iconst (v := (-1)) O dX7_weight_108 (by decide) ?_
          refine v_ixor (z := nI (2 ^ b) ^^^ -1) O dX7_weight_109 rfl ?_
          refine v_iand (z := nI (sd r0 (2 ^ b))) O dX7_weight_110 (bx_sd (by omega) (by first | omega | exact Nat.pow_lt_pow_right (by omega) (by omega))) ?_
          refine v_iload_n O dX7_weight_111 rfl 2 rfl ?_
          refine v_iconst (v := nI 1) O dX7_weight_112 (by decide) ?_
          refine v_isub (z := nI (need - 1)) O dX7_weight_113 (pk_sub (by omega)) ?_
          refine v_aload_n O dX7_weight_114 rfl 3 rfl ?_
          refine v_callV (as := [.int (nI (sd r0 (2 ^ b))), .int (nI (need - 1)), .ref pb]) (rest := []) O (hrec hOk ⟨hg, ⟨_, _, _, _, hRt, had0⟩, hN0, hht, hgt⟩ (s := sd r0 (2 ^ b)) (need := need - 1) (by omega) (by show (dp N.1 N.2.1 (sd r0 (2 ^ b))).1 ≤ need - 1; omega) (by omega) hPk (by have := pcn_mono (sd_sub r0 (2 ^ b)); omega)) q1450 q1447 q1448 q101 q1449 hg (show vcl[6]? = some (RX7, TX7, 3) from rfl) rfl mdX7_weight rfl (by decide) (by omega) (by omega) (by omega) (Nat.le_of_ble_eq_true rfl) rfl dX7_weight_115 (fun v9 σ2 hp9 => ?_) (fun _ _ _ h => False.elim h)
          obtain ⟨rfl, hGr1, hf1⟩ := hp9
          obtain ⟨hg1, hT1, hN1, -, -⟩ := id hGr1
          obtain ⟨adt1, It1, Ft1, Lt1, hRt1, had1⟩ := id hT1
          obtain ⟨wa1, ma1, hob1⟩ := hN1.ob
          refine v_istore (lv' := [(8, .int (wgtV m (dpN N (sd r0 (2 ^ b))) (need - 1))), (0, .ref g), (1, .int (nI s)), (2, .int (nI need)), (3, .ref pb), (4, .int (nI a)), (5, .int (nI r0)), (6, .int (wgtV m (dfold N.2.1 a r0 (dp N.1 N.2.1) b) need)), (7, .int (nI b))]) O hN dX7_weight_118 (by decide) rfl ?_
          refine v_iload O dX7_weight_120 0 rfl ?_
          refine v_iconst (v := (-1)) O dX7_weight_122 (by decide) ?_
          refine v_icmp_ne (tgt := 129) O dX7_weight_123 (by decide) (fun h_123 => ?_) (fun h_123 => ?_)
          · have hen0 : (dp N.1 N.2.1 (sd r0 (2 ^ b))).1 = need - 1 := Classical.byContradiction fun hh => h_123 ((wgt_m1 (m := m) (d := (dp N.1 N.2.1 (sd r0 (2 ^ b)))) (need := need - 1) (by omega)).mpr hh)
            have hits : wgtV m (dp N.1 N.2.1 (sd r0 (2 ^ b))) (need - 1) = nI (wv m (dp N.1 N.2.1 (sd r0 (2 ^ b)))) := if_pos hen0
            have hen : (dp N.1 N.2.1 (sd r0 (2 ^ b))).1 + 1 = need := by omega
            refine v_iload O dX7_weight_129 0 rfl ?_
            refine v_aload_n O dX7_weight_131 rfl 1 rfl ?_
            obtain ⟨adN, IN, FN, LN, hRN, hn0N, hwN, hmN⟩ := id hN1
            refine v_getf (C := RX7) (T := TX7) (N := 3) (v := .ref h) O in_X7 hg1 rfl 0 (by decide) rfl q300 rfl dX7_weight_132 ?_
            refine v_getfN (C := RX2) (T := TX2) (N := 3) (v := .ref (adN 1)) O in_X2 hRN.ob rfl 1 (by decide) rfl q157 rfl dX7_weight_135 ?_
            refine v_iload O dX7_weight_138 5 rfl ?_
            refine v_aald (r := .ref (adN (100 + a))) O (hRN.og 1 rfl) rfl rfl (by omega) (by omega) rfl dX7_weight_140 ?_
            refine v_iload O dX7_weight_141 8 rfl ?_
            refine v_iald (f := FN (100 + a)) O (hRN.ar (100 + a) (layN_row (by omega))) (by omega) (by omega) dX7_weight_143 ?_
            refine v_top (y := (N.2.1 a b)) (hwN a b (by omega) (by omega)) ?_
            refine v_iadd (z := nI (wv m (dp N.1 N.2.1 (sd r0 (2 ^ b))) + wn N.2.1 a b)) O dX7_weight_144 (by rw [hits, hwn.2]; exact nI_add _ _) ?_
            refine v_istore (lv' := [(8, .int (nI (wv m (dp N.1 N.2.1 (sd r0 (2 ^ b))) + wn N.2.1 a b))), (0, .ref g), (1, .int (nI s)), (2, .int (nI need)), (3, .ref pb), (4, .int (nI a)), (5, .int (nI r0)), (6, .int (wgtV m (dfold N.2.1 a r0 (dp N.1 N.2.1) b) need)), (7, .int (nI b))]) O hN dX7_weight_145 (by decide) rfl ?_
            refine v_iload O dX7_weight_147 7 rfl ?_
            refine v_iconst (v := (-1)) O dX7_weight_149 (by decide) ?_
            refine v_icmp_ne (tgt := 158) O dX7_weight_150 (by decide) (fun h_150 => ?_) (fun h_150 => ?_)
            · have hcn : (dfold N.2.1 a r0 (dp N.1 N.2.1) b).1 = need := Classical.byContradiction fun hh => h_150 ((wgt_m1 (m := m) (d := (dfold N.2.1 a r0 (dp N.1 N.2.1) b)) (need := need) (by omega)).mpr hh)
              have hbest : wgtV m (dfold N.2.1 a r0 (dp N.1 N.2.1) b) need = nI (wv m (dfold N.2.1 a r0 (dp N.1 N.2.1) b)) := if_pos hcn
              refine v_aload_n O dX7_weight_158 rfl 4 rfl ?_
              refine v_iload O dX7_weight_159 7 rfl ?_
              refine v_iload O dX7_weight_161 0 rfl ?_
              rw [hbest]
              refine hPk O (by omega) rfl (by omega) (by omega) dX7_weight_163 ?_
              refine v_istore (lv' := [(6, .int (nI (opM m (wv m (dfold N.2.1 a r0 (dp N.1 N.2.1) b)) (wv m (dp N.1 N.2.1 (sd r0 (2 ^ b))) + wn N.2.1 a b)))), (8, .int (nI (wv m (dp N.1 N.2.1 (sd r0 (2 ^ b))) + wn N.2.1 a b))), (0, .ref g), (1, .int (nI s)), (2, .int (nI need)), (3, .ref pb), (4, .int (nI a)), (5, .int (nI r0)), (7, .int (nI b))]) O hN dX7_weight_168 (by decide) rfl ?_
              refine v_iinc (v := nI (b + 1)) (lv' := [(7, .int (nI (b + 1))), (6, .int (nI (opM m (wv m (dfold N.2.1 a r0 (dp N.1 N.2.1) b)) (wv m (dp N.1 N.2.1 (sd r0 (2 ^ b))) + wn N.2.1 a b)))), (8, .int (nI (wv m (dp N.1 N.2.1 (sd r0 (2 ^ b))) + wn N.2.1 a b))), (0, .ref g), (1, .int (nI s)), (2, .int (nI need)), (3, .ref pb), (4, .int (nI a)), (5, .int (nI r0))]) O hN dX7_weight_170 8 rfl (nI_add b 1) (by decide) rfl ?_
              refine v_goto (tgt := 62) O dX7_weight_173 (by decide) ?_
              rw [← wgt_both (m := m) hcn hen, ← dfold_yes (w := N.2.1) (r := dp N.1 N.2.1) ⟨by omega, h_81, hlw⟩]
              refine v_lv [3, 4, 5, 6, 7, 8, 1, 0] rfl ?_
              exact ih (b + 1) _ (by omega) (by omega) (by omega) ⟨hg1, ⟨_, _, _, _, hRt1, had1⟩, hN1, hht, hgt⟩ (hf.trans hf1)
            · have hcn := (wgt_m1 (m := m) (d := (dfold N.2.1 a r0 (dp N.1 N.2.1) b)) (need := need) (by omega)).mp h_150
              refine v_iload O dX7_weight_153 0 rfl ?_
              refine v_goto (tgt := 168) O dX7_weight_155 (by decide) ?_
              refine v_istore (lv' := [(6, .int (nI (wv m (dp N.1 N.2.1 (sd r0 (2 ^ b))) + wn N.2.1 a b))), (8, .int (nI (wv m (dp N.1 N.2.1 (sd r0 (2 ^ b))) + wn N.2.1 a b))), (0, .ref g), (1, .int (nI s)), (2, .int (nI need)), (3, .ref pb), (4, .int (nI a)), (5, .int (nI r0)), (7, .int (nI b))]) O hN dX7_weight_168 (by decide) rfl ?_
              refine v_iinc (v := nI (b + 1)) (lv' := [(7, .int (nI (b + 1))), (6, .int (nI (wv m (dp N.1 N.2.1 (sd r0 (2 ^ b))) + wn N.2.1 a b))), (8, .int (nI (wv m (dp N.1 N.2.1 (sd r0 (2 ^ b))) + wn N.2.1 a b))), (0, .ref g), (1, .int (nI s)), (2, .int (nI need)), (3, .ref pb), (4, .int (nI a)), (5, .int (nI r0))]) O hN dX7_weight_170 8 rfl (nI_add b 1) (by decide) rfl ?_
              refine v_goto (tgt := 62) O dX7_weight_173 (by decide) ?_
              rw [← wgt_new (m := m) hc1 hcn hen, ← dfold_yes (w := N.2.1) (r := dp N.1 N.2.1) ⟨by omega, h_81, hlw⟩]
              refine v_lv [3, 4, 5, 6, 7, 8, 1, 0] rfl ?_
              exact ih (b + 1) _ (by omega) (by omega) (by omega) ⟨hg1, ⟨_, _, _, _, hRt1, had1⟩, hN1, hht, hgt⟩ (hf.trans hf1)
          · have hno := (wgt_m1 (m := m) (d := (dp N.1 N.2.1 (sd r0 (2 ^ b)))) (need := need - 1) (by omega)).mp h_123
            refine v_goto (tgt := 170) O dX7_weight_126 (by decide) ?_
            refine v_iinc (v := nI (b + 1)) (lv' := [(7, .int (nI (b + 1))), (8, .int (wgtV m (dpN N (sd r0 (2 ^ b))) (need - 1))), (0, .ref g), (1, .int (nI s)), (2, .int (nI need)), (3, .ref pb), (4, .int (nI a)), (5, .int (nI r0)), (6, .int (wgtV m (dfold N.2.1 a r0 (dp N.1 N.2.1) b) need))]) O hN dX7_weight_170 8 rfl (nI_add b 1) (by decide) rfl ?_
            refine v_goto (tgt := 62) O dX7_weight_173 (by decide) ?_
            rw [← wgt_no (m := m) (w := wn N.2.1 a b) hc1 hc2 hno, ← dfold_yes (w := N.2.1) (r := dp N.1 N.2.1) ⟨by omega, h_81, hlw⟩]
            refine v_lv [2, 3, 4, 5, 6, 7, 8, 0] rfl ?_
            exact ih (b + 1) _ (by omega) (by omega) (by omega) ⟨hg1, ⟨_, _, _, _, hRt1, had1⟩, hN1, hht, hgt⟩ (hf.trans hf1)
        · refine v_goto (tgt := 170) O dX7_weight_98 (by decide) ?_
          refine v_iinc (v := nI (b + 1)) (lv' := [(7, .int (nI (b + 1))), (0, .ref g), (1, .int (nI s)), (2, .int (nI need)), (3, .ref pb), (4, .int (nI a)), (5, .int (nI r0)), (6, .int (wgtV m (dfold N.2.1 a r0 (dp N.1 N.2.1) b) need))]) O hN dX7_weight_170 7 rfl (nI_add b 1) (by decide) rfl ?_
          refine v_goto (tgt := 62) O dX7_weight_173 (by decide) ?_
          rw [← dfold_no (w := N.2.1) (a := a) (rest := r0) (r := dp N.1 N.2.1) (fun hh => by have h9 : ln N a b = true := hh.2.2; rw [h_95] at h9; cases h9)]
          refine v_lv [1, 2, 3, 4, 5, 6, 7, 0] rfl ?_
          exact ih (b + 1) _ (by omega) (by omega) (by omega) hGr hf
theorem s_X7_weight {G : vGC} (hG : vGok G) {k9 : Nat} (hrec : WgtC G k9) {σ : vSt} {g t h : Nat} {N : NetM} (hOk : okN N) (hGr : GreAt σ g t h N) {s need : Nat} (hs : s < 2 ^ N.1) (hd : (dpN N s).1 ≤ need) (hnd : need ≤ 12) {m : Bool} {pb : Nat} (hPk : PickOk G pb (opM m)) (hk9 : pcn s < k9 + 1) : Ct G yX7_weight (ws_ yX7_weight cX7_weight 9 (some .int)) (6 + (k9 + 1)) 0 0 σ [.ref g, .int (nI s), .int (nI need), .ref pb] (fun v σ9 => v = some (.int (wgtV m (dpN N s) need)) ∧ GreAt σ9 g t h N ∧ FrL [t] σ σ9) vNo := by
  refine ct_of hG (by decide) (Nat.le_of_ble_eq_true rfl) fun X hN O hnm htb => ?_
  show V G X _ 0 0 σ 0 [(0, .ref g), (1, .int (nI s)), (2, .int (nI need)), (3, .ref pb)] []
  obtain ⟨hg, hT, hN0, hht, hgt⟩ := id hGr
  obtain ⟨adt, It, Ft, Lt, hRt, had0⟩ := id hT
  obtain ⟨wa, ma, hob⟩ := hN0.ob
  have hn := hOk.2.1
  have hal := all_lt (N := N)
  have hp12 := p12 hn
  have htop := dp_top hOk hal
  have htop2 : (dp N.1 N.2.1 (allN N)).1 ≤ 12 := htop
  have htop3 : (topN N).1 ≤ 12 := htop
  have hal2 : allN N = 2 ^ N.1 - 1 := rfl
  have hp1 : 1 ≤ 2 ^ N.1 := Nat.one_le_two_pow
  have hs4 : s < 4096 := by omega
  have hhalf := dp_half hOk hs
  have hps := pcn_le s
  refine v_iload_n O dX7_weight_0 rfl 2 rfl ?_
  refine v_if_neN (tgt := 6) O dX7_weight_1 (by decide) (by omega) (fun h_1 => ?_) (fun h_1 => ?_)
  · refine v_iload_n O dX7_weight_6 rfl 1 rfl ?_
    refine v_callS (as := [.int (nI s)]) (rest := []) O (c_J17_bitCount hG (s := s) (by omega)) q520 q521 q95 q522 mdJ17_bitCount rfl (by decide) (by omega) (by omega) (by omega) (Nat.le_of_ble_eq_true rfl) rfl dX7_weight_7 (fun v9 σ9 hp9 => ?_) (fun _ _ _ h => False.elim h)
    obtain ⟨rfl, hs9⟩ := hp9
    obtain rfl := hs9.symm
    refine v_iconst (v := nI 2) O dX7_weight_10 (by decide) ?_
    refine v_iload_n O dX7_weight_11 rfl 2 rfl ?_
    refine v_imul (z := nI (2 * need)) O dX7_weight_12 (pk_mul 2 need) ?_
    refine v_icmp_ltN (tgt := 28) O dX7_weight_13 (by decide) (by omega) (by omega) (fun h_13 => ?_) (fun h_13 => ?_)
    · refine v_iconst (v := (-1)) O dX7_weight_28 (by decide) ?_
      exact v_iret O rfl dX7_weight_29 (by omega) (by omega) (⟨by rw [wgtV, if_neg (by have h9 : (dp N.1 N.2.1 s).1 = (dpN N s).1 := rfl; omega)], ⟨hg, ⟨_, _, _, _, hRt, had0⟩, hN0, hht, hgt⟩, FrL.rf⟩)
    · refine v_aload_n O dX7_weight_16 rfl 0 rfl ?_
      refine v_getf (C := RX7) (T := TX7) (N := 3) (v := .ref t) O in_X7 hg rfl 1 (by decide) rfl q301 rfl dX7_weight_17 ?_
      refine v_iload_n O dX7_weight_20 rfl 1 rfl ?_
      refine v_callV (as := [.int (nI s)]) (rest := []) O (c_X8_most hG hRt hOk (by rw [had0]; exact hht) (s := s) (by omega) (by rw [had0]; exact hN0)) q265 q266 q267 q102 q268 hRt.ob (show vcl[7]? = some (RX8, TX8, 11) from rfl) rfl mdX8_most rfl (by decide) (by omega) (by omega) (by omega) (Nat.le_of_ble_eq_true rfl) rfl dX7_weight_21 (fun v9 σ2 hp9 => ?_) (fun _ _ _ h => False.elim h)
      obtain ⟨rfl, Ft1, It1, hRt1, hf1⟩ := hp9
      have hN_3 := hN0.fr hf1 (by simp [hht])
      obtain ⟨wa3, ma3, hob3⟩ := hN_3.ob
      have hg_4 := hf1 _ _ hg (by simp [hgt])
      have hd1 := dp_top hOk (s := s) (by omega)
      have he1 : (dp N.1 N.2.1 s).1 ≤ 12 := hd1
      refine v_iload_n O dX7_weight_24 rfl 2 rfl ?_
      refine v_icmp_geN (tgt := 30) O dX7_weight_25 (by decide) (by omega) (by omega) (fun h_25 => ?_) (fun h_25 => ?_)
      · have hs0 : s ≠ 0 := fun e => by
          have h9 : (dp N.1 N.2.1 0).1 = 0 := rfl
          have h10 : need ≤ (dp N.1 N.2.1 s).1 := h_25
          rw [e] at h10
          omega
        obtain ⟨hb1, hb2, -, -⟩ := (fstb_ok s hs4).resolve_left hs0
        have hfn : fstb s < N.1 := Nat.not_le.mp fun hh => by
          rw [Nat.testBit_lt_two_pow (Nat.lt_of_lt_of_le hs (Nat.pow_le_pow_right (by omega) hh))] at hb1
          cases hb1
        have h2f : 2 ^ fstb s < 4096 := Nat.pow_lt_pow_right (show 1 < 2 by omega) (show fstb s < 12 by omega)
        have hsl := sd_le s (2 ^ fstb s)
        have hpc : pcn (sd s (2 ^ fstb s)) < k9 := by
          have := pcn_lt hs4 (sd_sub s (2 ^ fstb s)) (fun e => by
            have h9 := sd_lt_self hb1 (b := 2 ^ fstb s) (by rw [Nat.testBit_two_pow_self])
            rw [e] at h9
            exact Nat.lt_irrefl _ h9)
          omega
        have hdf : (dfold N.2.1 (fstb s) (sd s (2 ^ fstb s)) (dp N.1 N.2.1) N.1).1 ≤ need := by rw [← dp_eq hs4 hs0]; exact hd
        have hdr : (dpN N (sd s (2 ^ fstb s))).1 ≤ need := Nat.le_trans (dfold_ge0 (w := N.2.1) (a := fstb s) N.1) hdf
        refine v_iload_n O dX7_weight_30 rfl 1 rfl ?_
        refine v_callS (as := [.int (nI s)]) (rest := []) O (c_J17_numberOfTrailingZeros hG (s := s) (by omega) (by omega)) q526 q527 q95 q528 mdJ17_numberOfTrailingZeros rfl (by decide) (by omega) (by omega) (by omega) (Nat.le_of_ble_eq_true rfl) rfl dX7_weight_31 (fun v9 σ9 hp9 => ?_) (fun _ _ _ h => False.elim h)
        obtain ⟨rfl, hs9⟩ := hp9
        obtain rfl := hs9.symm
        refine v_istore (lv' := [(4, .int (nI (fstb s))), (0, .ref g), (1, .int (nI s)), (2, .int (nI need)), (3, .ref pb)]) O hN dX7_weight_34 (by decide) rfl ?_
        refine v_iload_n O dX7_weight_36 rfl 2 rfl ?_
        refine v_iconst (v := nI 1) O dX7_weight_37 (by decide) ?_
        refine v_iload O dX7_weight_38 0 rfl ?_
        refine v_ishl (z := nI (2 ^ (fstb s))) O dX7_weight_40 (bx_shl1 (by omega)) ?_
        refine v_iconst (v := (-1)) O dX7_weight_41 (by decide) ?_
        refine v_ixor (z := nI (2 ^ (fstb s)) ^^^ -1) O dX7_weight_42 rfl ?_
        refine v_iand (z := nI (sd s (2 ^ (fstb s)))) O dX7_weight_43 (bx_sd (by omega) (by first | omega | exact Nat.pow_lt_pow_right (by omega) (by omega))) ?_
        refine v_istore (lv' := [(5, .int (nI (sd s (2 ^ (fstb s))))), (4, .int (nI (fstb s))), (0, .ref g), (1, .int (nI s)), (2, .int (nI need)), (3, .ref pb)]) O hN dX7_weight_44 (by decide) rfl ?_
        refine v_aload_n O dX7_weight_46 rfl 2 rfl ?_
        refine v_iload O dX7_weight_47 0 rfl ?_
        refine v_iload_n O dX7_weight_49 rfl 4 rfl ?_
        refine v_aload_n O dX7_weight_50 rfl 5 rfl ?_
        refine v_callV (as := [.int (nI (sd s (2 ^ (fstb s)))), .int (nI need), .ref pb]) (rest := []) O (hrec hOk ⟨hg_4, ⟨_, _, _, _, hRt1, had0⟩, hN_3, hht, hgt⟩ (s := sd s (2 ^ (fstb s))) (need := need) (by omega) hdr hnd hPk hpc) q1450 q1447 q1448 q101 q1449 hg_4 (show vcl[6]? = some (RX7, TX7, 3) from rfl) rfl mdX7_weight rfl (by decide) (by omega) (by omega) (by omega) (Nat.le_of_ble_eq_true rfl) rfl dX7_weight_51 (fun v9 σ6 hp9 => ?_) (fun _ _ _ h => False.elim h)
        obtain ⟨rfl, hGr5, hf5⟩ := hp9
        obtain ⟨hg5, hT5, hN5, -, -⟩ := id hGr5
        obtain ⟨adt5, It5, Ft5, Lt5, hRt5, had5⟩ := id hT5
        obtain ⟨wa5, ma5, hob5⟩ := hN5.ob
        refine v_istore (lv' := [(6, .int (wgtV m (dpN N (sd s (2 ^ (fstb s)))) need)), (5, .int (nI (sd s (2 ^ (fstb s))))), (4, .int (nI (fstb s))), (0, .ref g), (1, .int (nI s)), (2, .int (nI need)), (3, .ref pb)]) O hN dX7_weight_54 (by decide) rfl ?_
        refine v_iload O dX7_weight_56 2 rfl ?_
        refine v_iconst (v := nI 1) O dX7_weight_58 (by decide) ?_
        refine v_iadd (z := nI (fstb s + 1)) O dX7_weight_59 (nI_add (fstb s) 1) ?_
        refine v_istore (lv' := [(7, .int (nI (fstb s + 1))), (6, .int (wgtV m (dpN N (sd s (2 ^ (fstb s)))) need)), (5, .int (nI (sd s (2 ^ (fstb s))))), (4, .int (nI (fstb s))), (0, .ref g), (1, .int (nI s)), (2, .int (nI need)), (3, .ref pb)]) O hN dX7_weight_60 (by decide) rfl ?_
        refine v_lv [4, 5, 6, 7, 3, 2, 1, 0] rfl ?_
        have hl0 : dfold N.2.1 (fstb s) (sd s (2 ^ fstb s)) (dp N.1 N.2.1) (fstb s + 1) = dp N.1 N.2.1 (sd s (2 ^ fstb s)) := dfold_low _ (by omega)
        rw [show wgtV m (dpN N (sd s (2 ^ fstb s))) need = wgtV m (dfold N.2.1 (fstb s) (sd s (2 ^ fstb s)) (dp N.1 N.2.1) (fstb s + 1)) need by rw [hl0]]
        refine l_X7_weight hG O hN (by omega) (by omega) (σ0 := σ6) hOk (s := s) (need := need) (a := fstb s) (r0 := sd s (2 ^ fstb s)) hPk hrec (by omega) hfn hpc hdf hnd (fun σZ hZ hfZ => ?_) (N.1 + 1) (fstb s + 1) _ (by omega) (by omega) (by omega) ⟨hg5, ⟨_, _, _, _, hRt5, had5⟩, hN5, hht, hgt⟩ FrL.rf
        rw [← dp_eq hs4 hs0]
        refine v_iload O dX7_weight_176 6 rfl ?_
        exact v_iret O rfl dX7_weight_178 (by omega) (by omega) ⟨rfl, hZ, (hf1.trans hf5).trans hfZ⟩
      · refine v_iconst (v := (-1)) O dX7_weight_28 (by decide) ?_
        exact v_iret O rfl dX7_weight_29 (by omega) (by omega) (⟨by rw [wgtV, if_neg (by have h9 : (dp N.1 N.2.1 s).1 = (dpN N s).1 := rfl; omega)], ⟨hg_4, ⟨_, _, _, _, hRt1, had0⟩, hN_3, hht, hgt⟩, hf1⟩)
  · refine v_iconst (v := nI 0) O dX7_weight_4 (by decide) ?_
    exact v_iret O rfl dX7_weight_5 (by omega) (by omega) (⟨by rw [wgtV, if_pos (by omega), show wv m (dpN N s) = 0 by rw [show dpN N s = (0, 1, 0, 0) from dp_none s s (by omega) (Nat.le_refl _) (by show (dpN N s).1 = 0; omega)]; cases m <;> rfl], hGr, FrL.rf⟩)
theorem c_X7_weight {G : vGC} (hG : vGok G) (k : Nat) : WgtC G k := by
  induction k with
  | zero => intro σ g t h N hOk hGr s need hs hd hnd m pb hPk hk; exact absurd hk (by omega)
  | succ k ih => intro σ g t h N hOk hGr s need hs hd hnd m pb hPk hk; exact s_X7_weight hG ih hOk hGr hs hd hnd hPk hk
