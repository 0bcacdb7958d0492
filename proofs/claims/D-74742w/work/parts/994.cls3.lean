theorem lc_lt {p q : Int64} : lg_cmp p q < 0 ↔ ¬ q ≤ p := by
  unfold lg_cmp
  by_cases h1 : p > q
  · rw [if_pos h1]
    exact ⟨fun h => absurd h (by decide), fun h => absurd (Int64.le_of_lt h1) h⟩
  · rw [if_neg h1]
    by_cases h2 : p = q
    · rw [if_pos h2, h2]
      exact ⟨fun h => absurd h (by decide), fun h => absurd (Int64.le_refl q) h⟩
    · rw [if_neg h2]
      refine ⟨fun _ h => ?_, fun _ => by decide⟩
      rw [Int64.le_iff_toInt_le] at h
      have h3 : ¬ q.toInt < p.toInt := fun e => h1 (Int64.lt_iff_toInt_lt.mpr e)
      exact h2 (Int64.toInt_inj.mp (by omega))
theorem lc_gt {p q : Int64} : 0 < lg_cmp p q ↔ ¬ p ≤ q := by
  unfold lg_cmp
  by_cases h1 : p > q
  · rw [if_pos h1]
    refine ⟨fun _ h => ?_, fun h => by decide⟩
    exact Int64.lt_irrefl (Int64.lt_of_lt_of_le h1 h)
  · rw [if_neg h1]
    refine ⟨fun h => ?_, fun h => ?_⟩
    · split at h <;> exact absurd h (by decide)
    · exfalso
      have h3 : ¬ q.toInt < p.toInt := fun e => h1 (Int64.lt_iff_toInt_lt.mpr e)
      exact h (Int64.le_iff_toInt_le.mpr (by omega))
theorem c_X1_isIn {G : vGC} (hG : vGok G) {σ : vSt} {x A B : Int32} {v lo hi : Int64} (hv : v = x.toInt64) (ha : lo.toInt = A.toInt) (hb : hi.toInt = B.toInt) : Ct G yX1_isIn (ws_ yX1_isIn cX1_isIn 6 (some .boolean)) 1 0 0 σ [.long v, .long lo, .long hi] (fun v σ9 => v = some (.int (bI (decide (A ≤ x ∧ x ≤ B)))) ∧ σ9 = σ) vNo := by
  refine ct_of hG (by decide) (Nat.le_of_ble_eq_true rfl) fun X hN O hnm htb => ?_
  show V G X _ 0 0 σ 0 [(0, .long v), (2, .long lo), (4, .long hi)] []
  obtain ⟨c1, c2⟩ := isIn_c hv ha hb
  refine v_lload_n O dX1_isIn_0 rfl 0 rfl ?_
  refine v_lload_n O dX1_isIn_1 rfl 1 rfl ?_
  refine v_lcmp (z := (lg_cmp v lo)) O dX1_isIn_2 rfl ?_
  refine v_if_lt (tgt := 17) O dX1_isIn_3 (by decide) (fun h_3 => ?_) (fun h_3 => ?_)
  · refine v_iconst (v := nI 0) O dX1_isIn_17 (by decide) ?_
    exact v_zret (ty := .boolean) O rfl rfl dX1_isIn_18 (by omega) (by omega) (⟨bIF (decide_eq_false fun e => lc_lt.mp h_3 (c1.mpr e.1)), rfl⟩)
  · refine v_lload_n O dX1_isIn_6 rfl 0 rfl ?_
    refine v_lload O dX1_isIn_7 2 rfl ?_
    refine v_lcmp (z := (lg_cmp v hi)) O dX1_isIn_9 rfl ?_
    refine v_if_gt (tgt := 17) O dX1_isIn_10 (by decide) (fun h_10 => ?_) (fun h_10 => ?_)
    · refine v_iconst (v := nI 0) O dX1_isIn_17 (by decide) ?_
      exact v_zret (ty := .boolean) O rfl rfl dX1_isIn_18 (by omega) (by omega) (⟨bIF (decide_eq_false fun e => lc_gt.mp h_10 (c2.mpr e.2)), rfl⟩)
    · refine v_iconst (v := nI 1) O dX1_isIn_13 (by decide) ?_
      refine v_goto (tgt := 18) O dX1_isIn_14 (by decide) ?_
      exact v_zret (ty := .boolean) O rfl rfl dX1_isIn_18 (by omega) (by omega) (⟨bIT (decide_eq_true ⟨c1.mp (Classical.not_not.mp fun e => h_3 (lc_lt.mpr e)), c2.mp (Classical.not_not.mp fun e => h_10 (lc_gt.mpr e))⟩), rfl⟩)
