theorem l_X3_begins {G : vGC} (hG : vGok G) {X : vCX} {Q : State → Prop} {c0 n0 : Nat} (O : vOk G X yX3_begins.cls cX3_begins none 1 0 0) (hN : xn X = 2) (hcm0 : c0 ≤ 0) (hsm0 : n0 ≤ 0) {a l : Nat} (hl : l ≠ 0) {σ0 : vSt} (kx : ∀ (σ : vSt) (f : Nat → Int32), σ = vUp σ0 a (l, .inl (0, 157, .inl f)) → (∀ j, j < 157 → f j = -1) → V G X Q c0 n0 σ 19 [(0, .ref a)] []) : ∀ (k : Nat) (i : Nat) (σ : vSt) (f : Nat → Int32), (157 < i + k) → (i ≤ 157) → (∀ b, b ≠ a → σ b = σ0 b) → (σ a = some (l, .inl (0, 157, .inl f))) → (∀ j, j < i → f j = -1) → V G X Q c0 n0 σ 2 [(0, .ref a), (1, .int (nI i))] [] := by
  intro k
  induction k with
  | zero => intro i σ f h0 h1 hs ha h2; exact absurd h0 (by omega)
  | succ k ih =>
    intro i σ f h0 h1 hs ha h2
    refine v_iload_n O dX3_begins_2 rfl 1 rfl ?_
    refine v_sipush (v := nI 157) O dX3_begins_3 (by decide) ?_
    refine v_icmp_geN (tgt := 19) O dX3_begins_6 (by decide) (by omega) (by omega) (fun h_6 => ?_) (fun h_6 => ?_)
    · obtain rfl : i = 157 := by omega
      exact v_lv [0] rfl (kx σ f (vUp_eq hs ha) h2)
    · refine v_aload_n O dX3_begins_9 rfl 0 rfl ?_
      refine v_iload_n O dX3_begins_10 rfl 1 rfl ?_
      refine v_iconst (v := (-1)) O dX3_begins_11 (by decide) ?_
      refine v_iast O hl ha (by omega) (by omega) dX3_begins_12 ?_
      refine v_iinc (v := nI (i + 1)) (lv' := [(1, .int (nI (i + 1))), (0, .ref a)]) O hN dX3_begins_13 1 rfl (nI_add i 1) (by decide) rfl ?_
      refine v_goto (tgt := 2) O dX3_begins_16 (by decide) ?_
      refine v_lv [1, 0] rfl ?_
      exact ih (i + 1) _ _ (by omega) (by omega) (fun b hb => (vUp_n hb).trans (hs b hb)) vUp_s (fun j hj => by
        rw [vu]
        by_cases e : j = i
        · rw [if_pos e]
        · rw [if_neg e]; exact h2 j (by omega))
theorem c_X3_begins {G : vGC} (hG : vGok G) {σ : vSt} {a l : Nat} {f : Nat → Int32} (hl : l ≠ 0) (ha : σ a = some (l, .inl (0, 157, .inl f))) : Ct G yX3_begins (ws_ yX3_begins cX3_begins 2 none) 1 0 0 σ [.ref a] (fun r σ9 => r = none ∧ ∃ g : Nat → Int32, σ9 = vUp σ a (l, .inl (0, 157, .inl g)) ∧ ∀ j, j < 157 → g j = -1) vNo := by
  refine ct_of hG (by decide) (Nat.le_of_ble_eq_true rfl) fun X hN O hnm htb => ?_
  show V G X _ 0 0 σ 0 [(0, .ref a)] []
  refine v_iconst (v := nI 0) O dX3_begins_0 (by decide) ?_
  refine v_istore_n (lv' := [(1, .int (nI 0)), (0, .ref a)]) O hN dX3_begins_1 rfl (by decide) rfl ?_
  refine v_lv [1, 0] rfl ?_
  refine l_X3_begins hG O hN (by omega) (by omega) hl (fun σ8 g h1 h2 => ?_) 158 0 σ f (by omega) (by omega) (fun _ _ => rfl) ha (fun j h => absurd h (by omega))
  exact v_vret O rfl dX3_begins_19 (by omega) (by omega) ⟨rfl, g, h1, h2⟩
theorem l_X3_copies {G : vGC} (hG : vGok G) {X : vCX} {Q : State → Prop} {c0 n0 : Nat} (O : vOk G X yX3_copies.cls cX3_copies none 1 0 0) (hN : xn X = 3) (hcm0 : c0 ≤ 0) (hsm0 : n0 ≤ 0) {a b l l2 : Nat} {g : Nat → Int32} (hl : l ≠ 0) (hab : b ≠ a) {σ0 : vSt} (hb : σ0 b = some (l2, .inl (0, 157, .inl g))) (kx : ∀ (σ : vSt) (f : Nat → Int32), σ = vUp σ0 a (l, .inl (0, 157, .inl f)) → (∀ j, j < 157 → f j = g j) → V G X Q c0 n0 σ 21 [(0, .ref b), (1, .ref a)] []) : ∀ (k : Nat) (i : Nat) (σ : vSt) (f : Nat → Int32), (157 < i + k) → (i ≤ 157) → (∀ b, b ≠ a → σ b = σ0 b) → (σ a = some (l, .inl (0, 157, .inl f))) → (∀ j, j < i → f j = g j) → V G X Q c0 n0 σ 2 [(0, .ref b), (1, .ref a), (2, .int (nI i))] [] := by
  intro k
  induction k with
  | zero => intro i σ f h0 h1 hs ha h2; exact absurd h0 (by omega)
  | succ k ih =>
    intro i σ f h0 h1 hs ha h2
    refine v_iload_n O dX3_copies_2 rfl 2 rfl ?_
    refine v_sipush (v := nI 157) O dX3_copies_3 (by decide) ?_
    refine v_icmp_geN (tgt := 21) O dX3_copies_6 (by decide) (by omega) (by omega) (fun h_6 => ?_) (fun h_6 => ?_)
    · obtain rfl : i = 157 := by omega
      exact v_lv [0, 1] rfl (kx σ f (vUp_eq hs ha) h2)
    · refine v_aload_n O dX3_copies_9 rfl 1 rfl ?_
      refine v_iload_n O dX3_copies_10 rfl 2 rfl ?_
      refine v_aload_n O dX3_copies_11 rfl 0 rfl ?_
      refine v_iload_n O dX3_copies_12 rfl 2 rfl ?_
      refine v_iald (f := g) O ((hs b hab).trans hb) (by omega) (by omega) dX3_copies_13 ?_
      refine v_iast O hl ha (by omega) (by omega) dX3_copies_14 ?_
      refine v_iinc (v := nI (i + 1)) (lv' := [(2, .int (nI (i + 1))), (0, .ref b), (1, .ref a)]) O hN dX3_copies_15 2 rfl (nI_add i 1) (by decide) rfl ?_
      refine v_goto (tgt := 2) O dX3_copies_18 (by decide) ?_
      refine v_lv [1, 2, 0] rfl ?_
      exact ih (i + 1) _ _ (by omega) (by omega) (fun b hb => (vUp_n hb).trans (hs b hb)) vUp_s (fun j hj => by
        rw [vu]
        by_cases e : j = i
        · rw [if_pos e, e]
        · rw [if_neg e]; exact h2 j (by omega))
theorem c_X3_copies {G : vGC} (hG : vGok G) {σ : vSt} {a b l l2 : Nat} {f g : Nat → Int32} (hl : l ≠ 0) (hab : b ≠ a) (hb : σ b = some (l2, .inl (0, 157, .inl g))) (ha : σ a = some (l, .inl (0, 157, .inl f))) : Ct G yX3_copies (ws_ yX3_copies cX3_copies 3 none) 1 0 0 σ [.ref b, .ref a] (fun r σ9 => r = none ∧ ∃ f9 : Nat → Int32, σ9 = vUp σ a (l, .inl (0, 157, .inl f9)) ∧ ∀ j, j < 157 → f9 j = g j) vNo := by
  refine ct_of hG (by decide) (Nat.le_of_ble_eq_true rfl) fun X hN O hnm htb => ?_
  show V G X _ 0 0 σ 0 [(0, .ref b), (1, .ref a)] []
  refine v_iconst (v := nI 0) O dX3_copies_0 (by decide) ?_
  refine v_istore_n (lv' := [(2, .int (nI 0)), (0, .ref b), (1, .ref a)]) O hN dX3_copies_1 rfl (by decide) rfl ?_
  refine v_lv [1, 2, 0] rfl ?_
  refine l_X3_copies hG O hN (by omega) (by omega) hl hab hb (fun σ8 g h1 h2 => ?_) 158 0 σ f (by omega) (by omega) (fun _ _ => rfl) ha (fun j h => absurd h (by omega))
  exact v_vret O rfl dX3_copies_21 (by omega) (by omega) ⟨rfl, g, h1, h2⟩
theorem c_X3_joins {G : vGC} (hG : vGok G) {σ : vSt} {r l a b : Nat} {f : Nat → Int32} {w : Int32} (hl : l ≠ 0) (hr : σ r = some (l, .inl (0, 157, .inl f))) (ha0 : a < 12) (hb0 : b < 12) : Ct G yX3_joins (ws_ yX3_joins cX3_joins 4 none) 1 0 0 σ [.ref r, .int (nI a), .int (nI b), .int w] (fun v σ9 => v = none ∧ σ9 = vUp σ r (l, .inl (0, 157, .inl (va_up (va_up f (13 + 12 * a + b) w) (13 + 12 * b + a) w)))) vNo := by
  refine ct_of hG (by decide) (Nat.le_of_ble_eq_true rfl) fun X hN O hnm htb => ?_
  show V G X _ 0 0 σ 0 [(0, .ref r), (1, .int (nI a)), (2, .int (nI b)), (3, .int w)] []
  have ha := hr
  refine v_aload_n O dX3_joins_0 rfl 0 rfl ?_
  refine v_bipush (v := nI 13) O dX3_joins_1 (by decide) ?_
  refine v_bipush (v := nI 12) O dX3_joins_3 (by decide) ?_
  refine v_iload_n O dX3_joins_5 rfl 1 rfl ?_
  refine v_imul (z := nI (12 * a)) O dX3_joins_6 (pk_mul 12 a) ?_
  refine v_iadd (z := nI (13 + (12 * a))) O dX3_joins_7 (nI_add 13 (12 * a)) ?_
  refine v_iload_n O dX3_joins_8 rfl 2 rfl ?_
  refine v_iadd (z := nI ((13 + (12 * a)) + b)) O dX3_joins_9 (nI_add (13 + (12 * a)) b) ?_
  refine v_iload_n O dX3_joins_10 rfl 3 rfl ?_
  refine v_iast O hl ha (by omega) (by omega) dX3_joins_11 ?_
  refine v_aload_n O dX3_joins_12 rfl 0 rfl ?_
  refine v_bipush (v := nI 13) O dX3_joins_13 (by decide) ?_
  refine v_bipush (v := nI 12) O dX3_joins_15 (by decide) ?_
  refine v_iload_n O dX3_joins_17 rfl 2 rfl ?_
  refine v_imul (z := nI (12 * b)) O dX3_joins_18 (pk_mul 12 b) ?_
  refine v_iadd (z := nI (13 + (12 * b))) O dX3_joins_19 (nI_add 13 (12 * b)) ?_
  refine v_iload_n O dX3_joins_20 rfl 1 rfl ?_
  refine v_iadd (z := nI ((13 + (12 * b)) + a)) O dX3_joins_21 (nI_add (13 + (12 * b)) a) ?_
  refine v_iload_n O dX3_joins_22 rfl 3 rfl ?_
  refine v_iast O hl vUp_s (by omega) (by omega) dX3_joins_23 ?_
  exact v_vret O rfl dX3_joins_24 (by omega) (by omega) (⟨rfl, by funext x; by_cases e : x = r <;> simp [vUp, e]⟩)
theorem layM_row {k : Nat} (h : k < 8) : layM.2.2.1 (100 + k) = some (0, 157) := by
  match k, h with
  | 0, _ => rfl
  | 1, _ => rfl
  | 2, _ => rfl
  | 3, _ => rfl
  | 4, _ => rfl
  | 5, _ => rfl
  | 6, _ => rfl
  | 7, _ => rfl
theorem Enc.setW {f : Nat → Int32} {N : NetM} {a b : Nat} {w : Int32} (hE : Enc f N) (hn : N.1 ≤ 12) (ha : a < N.1) (hb : b < N.1) : Enc (va_up (va_up f (13 + 12 * a + b) w) (13 + 12 * b + a) w) (setW N a b w) := by
  obtain ⟨h0, h1, h2⟩ := hE
  refine ⟨?_, fun i hi => ?_, fun i j hi hj => ?_⟩
  · rw [vu, if_neg (by omega), vu, if_neg (by omega)]; exact h0
  · have hi' : i < N.1 := hi
    rw [vu, if_neg (by omega), vu, if_neg (by omega)]; exact h1 i hi
  · have hi' : i < N.1 := hi
    have hj' : j < N.1 := hj
    show _ = if i = b ∧ j = a then w else if i = a ∧ j = b then w else N.2.1 i j
    rw [vu, vu]
    by_cases e1 : i = b ∧ j = a
    · rw [if_pos e1, if_pos (by omega)]
    · rw [if_neg e1, if_neg (by omega)]
      by_cases e2 : i = a ∧ j = b
      · rw [if_pos e2, if_pos (by omega)]
      · rw [if_neg e2, if_neg (by omega)]; exact h2 i j hi hj
theorem Enc.mates {f : Nat → Int32} {N : NetM} {a b : Nat} {x y : Int32} (hE : Enc f N) (hn : N.1 ≤ 12) (ha : a < N.1) (hb : b < N.1) : Enc (va_up (va_up f (1 + a) x) (1 + b) y) (N.1, N.2.1, fun i => if i = b then y else if i = a then x else N.2.2 i) := by
  obtain ⟨h0, h1, h2⟩ := hE
  refine ⟨?_, fun i hi => ?_, fun i j hi hj => ?_⟩
  · rw [vu, if_neg (by omega), vu, if_neg (by omega)]; exact h0
  · show _ = if i = b then y else if i = a then x else N.2.2 i
    rw [vu, vu]
    by_cases e1 : i = b
    · rw [if_pos (by omega), if_pos e1]
    · rw [if_neg (by omega), if_neg e1]
      by_cases e2 : i = a
      · rw [if_pos (by omega), if_pos e2]
      · rw [if_neg (by omega), if_neg e2]; exact h1 i hi
  · rw [vu, if_neg (by omega), vu, if_neg (by omega)]; exact h2 i j hi hj
theorem Enc.of {f g : Nat → Int32} {N : NetM} (hE : Enc f N) (hn : N.1 ≤ 12) (h : ∀ j, j < 157 → g j = f j) : Enc g N := by
  obtain ⟨h0, h1, h2⟩ := hE
  exact ⟨(h 0 (by omega)).trans h0, fun a ha => (h _ (by omega)).trans (h1 a ha), fun a b ha hb => (h _ (by omega)).trans (h2 a b ha hb)⟩
theorem up2 {α : Type} {f : Nat → α} {k : Nat} {v w : α} : va_up (va_up f k v) k w = va_up f k w := by
  funext j
  simp only [va_up]
  split <;> rfl
theorem c_X3_mates {G : vGC} (hG : vGok G) {σ : vSt} {m : Nat} {ad : Nat → Nat} {I : Nat → Int32} {F : Nat → Nat → Int32} {L : Nat → Nat → Int64} (hR : RecAt layM σ m ad I F L) {N : NetM} (hE : Enc (F 9) N) (hn : N.1 ≤ 12) {a b : Nat} (ha : a < N.1) (hb : b < N.1) : Ct G yX3_mates (ws_ yX3_mates cX3_mates 3 none) 1 0 0 σ [.ref m, .int (nI a), .int (nI b)] (fun v σ9 => v = none ∧ RecAt layM σ9 m ad I (va_up F 9 (va_up (va_up (F 9) (1 + a) (nI b)) (1 + b) (nI a))) L ∧ FrL [m] σ σ9) vNo := by
  refine ct_of hG (by decide) (Nat.le_of_ble_eq_true rfl) fun X hN O hnm htb => ?_
  show V G X _ 0 0 σ 0 [(0, .ref m), (1, .int (nI a)), (2, .int (nI b))] []
  refine v_aload_n O dX3_mates_0 rfl 0 rfl ?_
  refine v_getf (C := RX3) (T := TX3) (N := 27) (v := .ref (ad 9)) O in_X3 hR.ob rfl 9 (by decide) rfl q1501 rfl dX3_mates_1 ?_
  refine v_iconst (v := nI 1) O dX3_mates_4 (by decide) ?_
  refine v_iload_n O dX3_mates_5 rfl 1 rfl ?_
  refine v_iadd (z := nI (1 + a)) O dX3_mates_6 (nI_add 1 a) ?_
  refine v_iload_n O dX3_mates_7 rfl 2 rfl ?_
  refine r_iast (K := layM) O hR 9 rfl (by omega) (by omega) dX3_mates_8 (fun σ1 hR1 hf1 => ?_)
  refine v_aload_n O dX3_mates_9 rfl 0 rfl ?_
  refine v_getf (C := RX3) (T := TX3) (N := 27) (v := .ref (ad 9)) O in_X3 hR1.ob rfl 9 (by decide) rfl q1501 rfl dX3_mates_10 ?_
  refine v_iconst (v := nI 1) O dX3_mates_13 (by decide) ?_
  refine v_iload_n O dX3_mates_14 rfl 2 rfl ?_
  refine v_iadd (z := nI (1 + b)) O dX3_mates_15 (nI_add 1 b) ?_
  refine v_iload_n O dX3_mates_16 rfl 1 rfl ?_
  refine r_iast (K := layM) O hR1 9 rfl (by omega) (by omega) dX3_mates_17 (fun σ2 hR2 hf2 => ?_)
  exact v_vret O rfl dX3_mates_18 (by omega) (by omega) (⟨rfl, by have h := hR2; rw [up2] at h; exact h, (hf1.trans hf2)⟩)
theorem mdX3_mate : vMd yX3_mate 1 := ⟨by decide +kernel, by decide +kernel, by decide +kernel⟩
theorem c_X3_parts {G : vGC} (hG : vGok G) {σ : vSt} {m : Nat} {ad : Nat → Nat} {I : Nat → Int32} {F : Nat → Nat → Int32} {L : Nat → Nat → Int64} (hR : RecAt layM σ m ad I F L) {N : NetM} (hE : Enc (F 9) N) (hn : N.1 ≤ 12) {a b : Nat} (ha : a < N.1) (hb : b < N.1) (hab : N.2.2 a = nI b) : Ct G yX3_parts (ws_ yX3_parts cX3_parts 3 none) 2 0 0 σ [.ref m, .int (nI a)] (fun v σ9 => v = none ∧ RecAt layM σ9 m ad I (va_up F 9 (va_up (va_up (F 9) (1 + a) (-1)) (1 + b) (-1))) L ∧ FrL [m] σ σ9) vNo := by
  refine ct_of hG (by decide) (Nat.le_of_ble_eq_true rfl) fun X hN O hnm htb => ?_
  show V G X _ 0 0 σ 0 [(0, .ref m), (1, .int (nI a))] []
  refine v_aload_n O dX3_parts_0 rfl 0 rfl ?_
  refine v_iload_n O dX3_parts_1 rfl 1 rfl ?_
  refine v_callV (as := [.int (nI a)]) (rest := []) O (c_X3_mate hG hR hE (by omega) (a := a) (by omega)) q1705 q1707 qs50 q77 q1708 hR.ob (show vcl[2]? = some (RX3, TX3, 27) from rfl) rfl mdX3_mate rfl (by decide) (by omega) (by omega) (by omega) (Nat.le_of_ble_eq_true rfl) rfl dX3_parts_2 (fun v9 σ9 hp9 => ?_) (fun _ _ _ h => False.elim h)
  obtain ⟨rfl, rfl⟩ := hp9
  rw [hab]
  refine v_istore_n (lv' := [(2, .int (nI b)), (0, .ref m), (1, .int (nI a))]) O hN dX3_parts_5 rfl (by decide) rfl ?_
  refine v_aload_n O dX3_parts_6 rfl 1 rfl ?_
  refine v_getf (C := RX3) (T := TX3) (N := 27) (v := .ref (ad 9)) O in_X3 hR.ob rfl 9 (by decide) rfl q1501 rfl dX3_parts_7 ?_
  refine v_iconst (v := nI 1) O dX3_parts_10 (by decide) ?_
  refine v_iload_n O dX3_parts_11 rfl 2 rfl ?_
  refine v_iadd (z := nI (1 + a)) O dX3_parts_12 (nI_add 1 a) ?_
  refine v_iconst (v := (-1)) O dX3_parts_13 (by decide) ?_
  refine r_iast (K := layM) O hR 9 rfl (by omega) (by omega) dX3_parts_14 (fun σ1 hR1 hf1 => ?_)
  refine v_aload_n O dX3_parts_15 rfl 1 rfl ?_
  refine v_getf (C := RX3) (T := TX3) (N := 27) (v := .ref (ad 9)) O in_X3 hR1.ob rfl 9 (by decide) rfl q1501 rfl dX3_parts_16 ?_
  refine v_iconst (v := nI 1) O dX3_parts_19 (by decide) ?_
  refine v_iload_n O dX3_parts_20 rfl 0 rfl ?_
  refine v_iadd (z := nI (1 + b)) O dX3_parts_21 (nI_add 1 b) ?_
  refine v_iconst (v := (-1)) O dX3_parts_22 (by decide) ?_
  refine r_iast (K := layM) O hR1 9 rfl (by omega) (by omega) dX3_parts_23 (fun σ2 hR2 hf2 => ?_)
  exact v_vret O rfl dX3_parts_24 (by omega) (by omega) (⟨rfl, by have h := hR2; rw [up2] at h; exact h, (hf1.trans hf2)⟩)
theorem l_X3_pairsNow {G : vGC} (hG : vGok G) {X : vCX} {Q : State → Prop} {c0 n0 : Nat} (O : vOk G X yX3_pairsNow.cls cX3_pairsNow (some .int) 2 0 0) (hN : xn X = 3) (hcm0 : c0 ≤ 0) (hsm0 : n0 ≤ 0) {σ : vSt} {m : Nat} {ad : Nat → Nat} {I : Nat → Int32} {F : Nat → Nat → Int32} {L : Nat → Nat → Int64} (hR : RecAt layM σ m ad I F L) {N : NetM} (hE : Enc (F 9) N) (hn : N.1 ≤ 12) (kx : V G X Q c0 n0 σ 35 [(0, .ref m), (1, .int (nI (pairsM N))), (2, .int (nI N.1))] []) : ∀ (k : Nat) (a : Nat) (s : Nat), (N.1 < a + k) → (a ≤ N.1) → (s = cnt (fun a => decide (nI a < N.2.2 a)) a) → V G X Q c0 n0 σ 4 [(0, .ref m), (1, .int (nI s)), (2, .int (nI a))] [] := by
  intro k
  induction k with
  | zero => intro a s h0 h1 h2; exact absurd h0 (by omega)
  | succ k ih =>
    intro a s h0 h1 h2
    refine v_iload_n O dX3_pairsNow_4 rfl 2 rfl ?_
    refine v_aload_n O dX3_pairsNow_5 rfl 0 rfl ?_
    refine v_callV (as := []) (rest := [.int (nI a)]) O (c_X3_nodes hG hR hE (by omega)) q1677 q1679 qs47 q77 q1680 hR.ob (show vcl[2]? = some (RX3, TX3, 27) from rfl) rfl mdX3_nodes rfl (by decide) (by omega) (by omega) (by omega) (Nat.le_of_ble_eq_true rfl) rfl dX3_pairsNow_6 (fun v9 σ9 hp9 => ?_) (fun _ _ _ h => False.elim h)
    obtain ⟨rfl, rfl⟩ := hp9
    refine v_icmp_geN (tgt := 35) O dX3_pairsNow_9 (by decide) (by omega) (by omega) (fun h_9 => ?_) (fun h_9 => ?_)
    · obtain rfl : a = N.1 := by omega
      subst h2
      exact kx
    · refine v_iload_n O dX3_pairsNow_12 rfl 1 rfl ?_
      refine v_aload_n O dX3_pairsNow_13 rfl 0 rfl ?_
      refine v_iload_n O dX3_pairsNow_14 rfl 2 rfl ?_
      refine v_callV (as := [.int (nI a)]) (rest := [.int (nI s)]) O (c_X3_mate hG hR hE (by omega) (a := a) (by omega)) q1705 q1707 qs50 q77 q1708 hR.ob (show vcl[2]? = some (RX3, TX3, 27) from rfl) rfl mdX3_mate rfl (by decide) (by omega) (by omega) (by omega) (Nat.le_of_ble_eq_true rfl) rfl dX3_pairsNow_15 (fun v9 σ9 hp9 => ?_) (fun _ _ _ h => False.elim h)
      obtain ⟨rfl, rfl⟩ := hp9
      refine v_iload_n O dX3_pairsNow_18 rfl 2 rfl ?_
      refine v_icmp_le (tgt := 26) O dX3_pairsNow_19 (by decide) (fun h_19 => ?_) (fun h_19 => ?_)
      · have h19 := Int32.not_lt.mpr h_19
        refine v_iconst (v := nI 0) O dX3_pairsNow_26 (by decide) ?_
        refine v_iadd (z := nI (s + 0)) O dX3_pairsNow_27 (nI_add s 0) ?_
        refine v_istore_n (lv' := [(1, .int (nI (s + 0))), (0, .ref m), (2, .int (nI a))]) O hN dX3_pairsNow_28 rfl (by decide) rfl ?_
        refine v_iinc (v := nI (a + 1)) (lv' := [(2, .int (nI (a + 1))), (1, .int (nI (s + 0))), (0, .ref m)]) O hN dX3_pairsNow_29 2 rfl (nI_add a 1) (by decide) rfl ?_
        refine v_goto (tgt := 4) O dX3_pairsNow_32 (by decide) ?_
        refine v_lv [2, 1, 0] rfl ?_
        exact ih (a + 1) _ (by omega) (by omega) (by simp [cnt, h2, h19])
      · have h19 := Int32.not_le.mp h_19
        refine v_iconst (v := nI 1) O dX3_pairsNow_22 (by decide) ?_
        refine v_goto (tgt := 27) O dX3_pairsNow_23 (by decide) ?_
        refine v_iadd (z := nI (s + 1)) O dX3_pairsNow_27 (nI_add s 1) ?_
        refine v_istore_n (lv' := [(1, .int (nI (s + 1))), (0, .ref m), (2, .int (nI a))]) O hN dX3_pairsNow_28 rfl (by decide) rfl ?_
        refine v_iinc (v := nI (a + 1)) (lv' := [(2, .int (nI (a + 1))), (1, .int (nI (s + 1))), (0, .ref m)]) O hN dX3_pairsNow_29 2 rfl (nI_add a 1) (by decide) rfl ?_
        refine v_goto (tgt := 4) O dX3_pairsNow_32 (by decide) ?_
        refine v_lv [2, 1, 0] rfl ?_
        exact ih (a + 1) _ (by omega) (by omega) (by simp [cnt, h2, h19])
theorem c_X3_pairsNow {G : vGC} (hG : vGok G) {σ : vSt} {m : Nat} {ad : Nat → Nat} {I : Nat → Int32} {F : Nat → Nat → Int32} {L : Nat → Nat → Int64} (hR : RecAt layM σ m ad I F L) {N : NetM} (hE : Enc (F 9) N) (hn : N.1 ≤ 12) : Ct G yX3_pairsNow (ws_ yX3_pairsNow cX3_pairsNow 3 (some .int)) 2 0 0 σ [.ref m] (fun v σ9 => v = some (.int (nI (pairsM N))) ∧ σ9 = σ) vNo := by
  refine ct_of hG (by decide) (Nat.le_of_ble_eq_true rfl) fun X hN O hnm htb => ?_
  show V G X _ 0 0 σ 0 [(0, .ref m)] []
  refine v_iconst (v := nI 0) O dX3_pairsNow_0 (by decide) ?_
  refine v_istore_n (lv' := [(1, .int (nI 0)), (0, .ref m)]) O hN dX3_pairsNow_1 rfl (by decide) rfl ?_
  refine v_iconst (v := nI 0) O dX3_pairsNow_2 (by decide) ?_
  refine v_istore_n (lv' := [(2, .int (nI 0)), (1, .int (nI 0)), (0, .ref m)]) O hN dX3_pairsNow_3 rfl (by decide) rfl ?_
  refine v_lv [2, 1, 0] rfl ?_
  refine l_X3_pairsNow hG O hN (by omega) (by omega) hR hE hn ?_ (N.1 + 1) 0 0 (by omega) (by omega) rfl
  refine v_iload_n O dX3_pairsNow_35 rfl 1 rfl ?_
  exact v_iret O rfl dX3_pairsNow_36 (by omega) (by omega) ⟨rfl, rfl⟩
theorem mdX3_weight : vMd yX3_weight 2 := ⟨by decide +kernel, by decide +kernel, by decide +kernel⟩
theorem l_X3_lines_i {G : vGC} (hG : vGok G) {X : vCX} {Q : State → Prop} {c0 n0 : Nat} (O : vOk G X yX3_lines.cls cX3_lines (some .int) 2 0 0) (hN : xn X = 4) (hcm0 : c0 ≤ 0) (hsm0 : n0 ≤ 0) {σ : vSt} {m : Nat} {ad : Nat → Nat} {I : Nat → Int32} {F : Nat → Nat → Int32} {L : Nat → Nat → Int64} (hR : RecAt layM σ m ad I F L) {N : NetM} (hE : Enc (F 9) N) (hn : N.1 ≤ 12) {a s0 : Nat} (ha : a < N.1) (kx : V G X Q c0 n0 σ 43 [(0, .ref m), (1, .int (nI (s0 + cnt (fun b => ln N a b) a))), (2, .int (nI a)), (3, .int (nI a))] []) : ∀ (k : Nat) (b : Nat) (s : Nat), (a < b + k) → (b ≤ a) → (s = s0 + cnt (fun b => ln N a b) b) → V G X Q c0 n0 σ 14 [(0, .ref m), (1, .int (nI s)), (2, .int (nI a)), (3, .int (nI b))] [] := by
  intro k
  induction k with
  | zero => intro b s h0 h1 h2; exact absurd h0 (by omega)
  | succ k ih =>
    intro b s h0 h1 h2
    refine v_iload_n O dX3_lines_14 rfl 3 rfl ?_
    refine v_iload_n O dX3_lines_15 rfl 2 rfl ?_
    refine v_icmp_geN (tgt := 43) O dX3_lines_16 (by decide) (by omega) (by omega) (fun h_16 => ?_) (fun h_16 => ?_)
    · obtain rfl : b = a := by omega
      subst h2
      exact kx
    · refine v_iload_n O dX3_lines_19 rfl 1 rfl ?_
      refine v_aload_n O dX3_lines_20 rfl 0 rfl ?_
      refine v_iload_n O dX3_lines_21 rfl 2 rfl ?_
      refine v_iload_n O dX3_lines_22 rfl 3 rfl ?_
      refine v_callV (as := [.int (nI a), .int (nI b)]) (rest := [.int (nI s)]) O (c_X3_weight hG hR hE (by omega) (a := a) (b := b) (by omega) (by omega)) q1681 q1683 qs48 q77 q1684 hR.ob (show vcl[2]? = some (RX3, TX3, 27) from rfl) rfl mdX3_weight rfl (by decide) (by omega) (by omega) (by omega) (Nat.le_of_ble_eq_true rfl) rfl dX3_lines_23 (fun v9 σ9 hp9 => ?_) (fun _ _ _ h => False.elim h)
      obtain ⟨rfl, rfl⟩ := hp9
      refine v_iconst (v := (-1)) O dX3_lines_26 (by decide) ?_
      refine v_icmp_ne (tgt := 34) O dX3_lines_27 (by decide) (fun h_27 => ?_) (fun h_27 => ?_)
      · refine v_iconst (v := nI 1) O dX3_lines_34 (by decide) ?_
        refine v_iadd (z := nI (s + 1)) O dX3_lines_35 (nI_add s 1) ?_
        refine v_istore_n (lv' := [(1, .int (nI (s + 1))), (0, .ref m), (2, .int (nI a)), (3, .int (nI b))]) O hN dX3_lines_36 rfl (by decide) rfl ?_
        refine v_iinc (v := nI (b + 1)) (lv' := [(3, .int (nI (b + 1))), (1, .int (nI (s + 1))), (0, .ref m), (2, .int (nI a))]) O hN dX3_lines_37 3 rfl (nI_add b 1) (by decide) rfl ?_
        refine v_goto (tgt := 14) O dX3_lines_40 (by decide) ?_
        refine v_lv [2, 1, 3, 0] rfl ?_
        exact ih (b + 1) _ (by omega) (by omega) (by simp [cnt, h2, ln, h_27, Nat.add_assoc])
      · refine v_iconst (v := nI 0) O dX3_lines_30 (by decide) ?_
        refine v_goto (tgt := 35) O dX3_lines_31 (by decide) ?_
        refine v_iadd (z := nI (s + 0)) O dX3_lines_35 (nI_add s 0) ?_
        refine v_istore_n (lv' := [(1, .int (nI (s + 0))), (0, .ref m), (2, .int (nI a)), (3, .int (nI b))]) O hN dX3_lines_36 rfl (by decide) rfl ?_
        refine v_iinc (v := nI (b + 1)) (lv' := [(3, .int (nI (b + 1))), (1, .int (nI (s + 0))), (0, .ref m), (2, .int (nI a))]) O hN dX3_lines_37 3 rfl (nI_add b 1) (by decide) rfl ?_
        refine v_goto (tgt := 14) O dX3_lines_40 (by decide) ?_
        refine v_lv [2, 1, 3, 0] rfl ?_
        exact ih (b + 1) _ (by omega) (by omega) (by simp [cnt, h2, ln, h_27, Nat.add_assoc])
theorem l_X3_lines {G : vGC} (hG : vGok G) {X : vCX} {Q : State → Prop} {c0 n0 : Nat} (O : vOk G X yX3_lines.cls cX3_lines (some .int) 2 0 0) (hN : xn X = 4) (hcm0 : c0 ≤ 0) (hsm0 : n0 ≤ 0) {σ : vSt} {m : Nat} {ad : Nat → Nat} {I : Nat → Int32} {F : Nat → Nat → Int32} {L : Nat → Nat → Int64} (hR : RecAt layM σ m ad I F L) {N : NetM} (hE : Enc (F 9) N) (hn : N.1 ≤ 12) (kx : V G X Q c0 n0 σ 49 [(0, .ref m), (1, .int (nI (linesM N))), (2, .int (nI N.1))] []) : ∀ (k : Nat) (a : Nat) (s : Nat), (N.1 < a + k) → (a ≤ N.1) → (s = sumN (fun a => cnt (fun b => ln N a b) a) a) → V G X Q c0 n0 σ 4 [(0, .ref m), (1, .int (nI s)), (2, .int (nI a))] [] := by
  intro k
  induction k with
  | zero => intro a s h0 h1 h2; exact absurd h0 (by omega)
  | succ k ih =>
    intro a s h0 h1 h2
    refine v_iload_n O dX3_lines_4 rfl 2 rfl ?_
    refine v_aload_n O dX3_lines_5 rfl 0 rfl ?_
    refine v_callV (as := []) (rest := [.int (nI a)]) O (c_X3_nodes hG hR hE (by omega)) q1677 q1679 qs47 q77 q1680 hR.ob (show vcl[2]? = some (RX3, TX3, 27) from rfl) rfl mdX3_nodes rfl (by decide) (by omega) (by omega) (by omega) (Nat.le_of_ble_eq_true rfl) rfl dX3_lines_6 (fun v9 σ9 hp9 => ?_) (fun _ _ _ h => False.elim h)
    obtain ⟨rfl, rfl⟩ := hp9
    refine v_icmp_geN (tgt := 49) O dX3_lines_9 (by decide) (by omega) (by omega) (fun h_9 => ?_) (fun h_9 => ?_)
    · obtain rfl : a = N.1 := by omega
      subst h2
      exact kx
    · refine v_iconst (v := nI 0) O dX3_lines_12 (by decide) ?_
      refine v_istore_n (lv' := [(3, .int (nI 0)), (0, .ref m), (1, .int (nI s)), (2, .int (nI a))]) O hN dX3_lines_13 rfl (by decide) rfl ?_
      refine v_lv [1, 2, 3, 0] rfl ?_
      refine l_X3_lines_i hG O hN hcm0 hsm0 hR hE hn (by omega) ?_ (a + 1) 0 s (by omega) (by omega) rfl
      refine v_iinc (v := nI (a + 1)) (lv' := [(2, .int (nI (a + 1))), (0, .ref m), (1, .int (nI (s + cnt (fun b => ln N a b) a))), (3, .int (nI a))]) O hN dX3_lines_43 2 rfl (nI_add a 1) (by decide) rfl ?_
      refine v_goto (tgt := 4) O dX3_lines_46 (by decide) ?_
      refine v_lv [1, 2, 0] rfl ?_
      exact ih (a + 1) _ (by omega) (by omega) (by rw [sumN, h2])
theorem c_X3_lines {G : vGC} (hG : vGok G) {σ : vSt} {m : Nat} {ad : Nat → Nat} {I : Nat → Int32} {F : Nat → Nat → Int32} {L : Nat → Nat → Int64} (hR : RecAt layM σ m ad I F L) {N : NetM} (hE : Enc (F 9) N) (hn : N.1 ≤ 12) : Ct G yX3_lines (ws_ yX3_lines cX3_lines 4 (some .int)) 2 0 0 σ [.ref m] (fun v σ9 => v = some (.int (nI (linesM N))) ∧ σ9 = σ) vNo := by
  refine ct_of hG (by decide) (Nat.le_of_ble_eq_true rfl) fun X hN O hnm htb => ?_
  show V G X _ 0 0 σ 0 [(0, .ref m)] []
  refine v_iconst (v := nI 0) O dX3_lines_0 (by decide) ?_
  refine v_istore_n (lv' := [(1, .int (nI 0)), (0, .ref m)]) O hN dX3_lines_1 rfl (by decide) rfl ?_
  refine v_iconst (v := nI 0) O dX3_lines_2 (by decide) ?_
  refine v_istore_n (lv' := [(2, .int (nI 0)), (1, .int (nI 0)), (0, .ref m)]) O hN dX3_lines_3 rfl (by decide) rfl ?_
  refine v_lv [2, 1, 0] rfl ?_
  refine l_X3_lines hG O hN (by omega) (by omega) hR hE hn ?_ (N.1 + 1) 0 0 (by omega) (by omega) rfl
  refine v_iload_n O dX3_lines_49 rfl 1 rfl ?_
  exact v_iret O rfl dX3_lines_50 (by omega) (by omega) ⟨rfl, rfl⟩
