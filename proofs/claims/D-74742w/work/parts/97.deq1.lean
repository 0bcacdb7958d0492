/-! the deque of kept networks -/
def DeqAt (σ : vSt) (d : Nat) (l : List Nat) : Prop := ∃ (es hd tl : Nat) (f : Nat → Option Nat), d ≠ 0 ∧ σ d = some (d, .inr (9, [.ref es, .int (nI hd), .int (nI tl)])) ∧ σ es = some (d, .inl (5, 17, .inr (.inr (.inr (.inr f))))) ∧ hd < 17 ∧ l.length ≤ 8 ∧ tl = (hd + l.length) % 17 ∧ ∀ i, i < l.length → f ((hd + i) % 17) = some (l.getD i 0)
theorem DeqAt.fr {M : List Nat} {σ σ' : vSt} {d : Nat} {l : List Nat} (h : DeqAt σ d l) (hf : FrL M σ σ') (hm : d ∉ M) : DeqAt σ' d l := by
  obtain ⟨es, hd, tl, f, h1, h2, h3, h4⟩ := h
  exact ⟨es, hd, tl, f, h1, hf _ _ h2 hm, hf _ _ h3 hm, h4⟩
theorem neg_sub17 : ∀ i, i < 17 → ∀ j, j < 17 → i < j → ¬ (0 : Int32) ≤ nI i - nI j ∧ nI i - nI j + nI 17 = nI (i + 17 - j) := by decide +kernel
theorem c_J1_sub {G : vGC} (hG : vGok G) {σ : vSt} {i j : Nat} (hi : i < 17) (hj : j < 17) : Ct G yJ1_sub (ws_ yJ1_sub cJ1_sub 3 (some .int)) 1 0 0 σ [.int (nI i), .int (nI j), .int (nI 17)] (fun v σ9 => v = some (.int (nI (if j ≤ i then i - j else i + 17 - j))) ∧ σ9 = σ) vNo := by
  refine ct_of hG (by decide) (Nat.le_of_ble_eq_true rfl) fun X hN O hnm htb => ?_
  show V G X _ 0 0 σ 0 [(0, .int (nI i)), (1, .int (nI j)), (2, .int (nI 17))] []
  by_cases hij : j ≤ i
  · refine v_iload_n O dJ1_sub_0 rfl 0 rfl ?_
    refine v_iload_n O dJ1_sub_1 rfl 1 rfl ?_
    refine v_isub (z := nI (i - j)) O dJ1_sub_2 (pk_sub (by omega)) ?_
    refine v_dup O dJ1_sub_3 rfl ?_
    refine v_istore_n (lv' := [(0, .int (nI (i - j))), (1, .int (nI j)), (2, .int (nI 17))]) O hN dJ1_sub_4 rfl (by decide) rfl ?_
    refine v_if_geN (tgt := 12) O dJ1_sub_5 (by decide) (by omega) (fun h_5 => ?_) (fun h_5 => ?_)
    · refine v_iload_n O dJ1_sub_12 rfl 0 rfl ?_
      exact v_iret O rfl dJ1_sub_13 (by omega) (by omega) (⟨by rw [if_pos hij], rfl⟩)
    · exact h_5.elim
  refine v_iload_n O dJ1_sub_0 rfl 0 rfl ?_
  refine v_iload_n O dJ1_sub_1 rfl 1 rfl ?_
  refine v_isub (z := (nI i - nI j)) O dJ1_sub_2 rfl ?_
  refine v_dup O dJ1_sub_3 rfl ?_
  refine v_istore_n (lv' := [(0, .int (nI i - nI j)), (1, .int (nI j)), (2, .int (nI 17))]) O hN dJ1_sub_4 rfl (by decide) rfl ?_
  refine v_if_ge (tgt := 12) O dJ1_sub_5 (by decide) (fun h_5 => ?_) (fun h_5 => ?_)
  · exact absurd h_5 (neg_sub17 i hi j hj (by omega)).1
  · refine v_iload_n O dJ1_sub_8 rfl 0 rfl ?_
    refine v_iload_n O dJ1_sub_9 rfl 2 rfl ?_
    refine v_iadd (z := nI (i + 17 - j)) O dJ1_sub_10 (neg_sub17 i hi j hj (by omega)).2 ?_
    refine v_istore_n (lv' := [(0, .int (nI (i + 17 - j))), (1, .int (nI j)), (2, .int (nI 17))]) O hN dJ1_sub_11 rfl (by decide) rfl ?_
    refine v_iload_n O dJ1_sub_12 rfl 0 rfl ?_
    exact v_iret O rfl dJ1_sub_13 (by omega) (by omega) (⟨by rw [if_neg hij], rfl⟩)
theorem c_J1_inc {G : vGC} (hG : vGok G) {σ : vSt} {i : Nat} (hi : i < 17) : Ct G yJ1_inc (ws_ yJ1_inc cJ1_inc 2 (some .int)) 1 0 0 σ [.int (nI i), .int (nI 17)] (fun v σ9 => v = some (.int (nI ((i + 1) % 17))) ∧ σ9 = σ) vNo := by
  refine ct_of hG (by decide) (Nat.le_of_ble_eq_true rfl) fun X hN O hnm htb => ?_
  show V G X _ 0 0 σ 0 [(0, .int (nI i)), (1, .int (nI 17))] []
  refine v_iinc (v := nI (i + 1)) (lv' := [(0, .int (nI (i + 1))), (1, .int (nI 17))]) O hN dJ1_inc_0 0 rfl (nI_add i 1) (by decide) rfl ?_
  refine v_iload_n O dJ1_inc_3 rfl 0 rfl ?_
  refine v_iload_n O dJ1_inc_4 rfl 1 rfl ?_
  refine v_icmp_ltN (tgt := 10) O dJ1_inc_5 (by decide) (by omega) (by omega) (fun h_5 => ?_) (fun h_5 => ?_)
  · refine v_iload_n O dJ1_inc_10 rfl 0 rfl ?_
    exact v_iret O rfl dJ1_inc_11 (by omega) (by omega) (⟨by rw [Nat.mod_eq_of_lt (by omega)], rfl⟩)
  · refine v_iconst (v := nI 0) O dJ1_inc_8 (by decide) ?_
    refine v_istore_n (lv' := [(0, .int (nI 0)), (1, .int (nI 17))]) O hN dJ1_inc_9 rfl (by decide) rfl ?_
    refine v_iload_n O dJ1_inc_10 rfl 0 rfl ?_
    exact v_iret O rfl dJ1_inc_11 (by omega) (by omega) (⟨by rw [show i + 1 = 17 by omega], rfl⟩)
theorem c_J1_dec {G : vGC} (hG : vGok G) {σ : vSt} {i : Nat} (hi : i < 17) : Ct G yJ1_dec (ws_ yJ1_dec cJ1_dec 2 (some .int)) 1 0 0 σ [.int (nI i), .int (nI 17)] (fun v σ9 => v = some (.int (nI ((i + 16) % 17))) ∧ σ9 = σ) vNo := by
  refine ct_of hG (by decide) (Nat.le_of_ble_eq_true rfl) fun X hN O hnm htb => ?_
  show V G X _ 0 0 σ 0 [(0, .int (nI i)), (1, .int (nI 17))] []
  by_cases hi0 : i = 0
  · refine v_iinc (v := (-1)) (lv' := [(0, .int (-1)), (1, .int (nI 17))]) O hN dJ1_dec_0 0 rfl (by rw [hi0]; decide) (by decide) rfl ?_
    refine v_iload_n O dJ1_dec_3 rfl 0 rfl ?_
    refine v_if_ge (tgt := 11) O dJ1_dec_4 (by decide) (fun h_4 => ?_) (fun h_4 => ?_)
    · exact absurd h_4 (by decide)
    · refine v_iload_n O dJ1_dec_7 rfl 1 rfl ?_
      refine v_iconst (v := nI 1) O dJ1_dec_8 (by decide) ?_
      refine v_isub (z := nI (17 - 1)) O dJ1_dec_9 (pk_sub (by omega)) ?_
      refine v_istore_n (lv' := [(0, .int (nI (17 - 1))), (1, .int (nI 17))]) O hN dJ1_dec_10 rfl (by decide) rfl ?_
      refine v_iload_n O dJ1_dec_11 rfl 0 rfl ?_
      exact v_iret O rfl dJ1_dec_12 (by omega) (by omega) (⟨by rw [hi0], rfl⟩)
  refine v_iinc (v := nI (i - 1)) (lv' := [(0, .int (nI (i - 1))), (1, .int (nI 17))]) O hN dJ1_dec_0 0 rfl (nI_dec 1 (by omega)) (by decide) rfl ?_
  refine v_iload_n O dJ1_dec_3 rfl 0 rfl ?_
  refine v_if_geN (tgt := 11) O dJ1_dec_4 (by decide) (by omega) (fun h_4 => ?_) (fun h_4 => ?_)
  · refine v_iload_n O dJ1_dec_11 rfl 0 rfl ?_
    exact v_iret O rfl dJ1_dec_12 (by omega) (by omega) (⟨by rw [show i + 16 = i - 1 + 17 by omega, Nat.add_mod_right, Nat.mod_eq_of_lt (by omega)], rfl⟩)
  · exact h_4.elim
theorem c_J1_elementAt {G : vGC} (hG : vGok G) {σ : vSt} {es lb i x : Nat} {f : Nat → Option Nat} (he1 : σ es = some (lb, .inl (5, 17, .inr (.inr (.inr (.inr f)))))) (hi : i < 17) (hx : f i = some x) : Ct G yJ1_elementAt (ws_ yJ1_elementAt cJ1_elementAt 2 (some (.object "java/lang/Object"))) 1 0 0 σ [.ref es, .int (nI i)] (fun v σ9 => v = some (.ref x) ∧ σ9 = σ) vNo := by
  refine ct_of hG (by decide) (Nat.le_of_ble_eq_true rfl) fun X hN O hnm htb => ?_
  show V G X _ 0 0 σ 0 [(0, .ref es), (1, .int (nI i))] []
  refine v_aload_n O dJ1_elementAt_0 rfl 0 rfl ?_
  refine v_iload_n O dJ1_elementAt_1 rfl 1 rfl ?_
  refine v_aald (r := .ref x) O he1 rfl rfl (by omega) (by omega) (by rw [hx]; rfl) dJ1_elementAt_2 ?_
  exact v_aret O rfl (Or.inl ⟨_, rfl⟩) (Or.inr ⟨_, rfl⟩) dJ1_elementAt_3 (by omega) (by omega) (⟨rfl, rfl⟩)
