theorem mdX8_init : vMd yX8_init 1 := ⟨by decide +kernel, by decide +kernel, by decide +kernel⟩
theorem c_X7_init {G : vGC} (hG : vGok G) {σ : vSt} {g h : Nat} {N : NetM} (hOk : okN N) (hz : g ≠ 0) (hh : σ g = some (g, .inr (6, [.null, .null, .int 0]))) (hN0 : NetAt σ h N) (hhg : h ≠ g) : Ct G yX7_init (ws_ yX7_init cX7_init 2 none) 6 8 95 σ [.ref g, .ref h] (fun v σ9 => v = none ∧ ∃ t : Nat, σ t = none ∧ GreAt σ9 g t h N ∧ FrL [g, t] σ σ9) vNo := by
  refine ct_of hG (by decide) (Nat.le_of_ble_eq_true rfl) fun X hN O hnm htb => ?_
  show V G X _ 0 0 σ 0 [(0, .ref g), (1, .ref h)] []
  obtain ⟨wa, ma, hob⟩ := hN0.ob
  have hn := hOk.2.1
  have hal := all_lt (N := N)
  have hp12 := p12 hn
  have htop := dp_top hOk hal
  refine v_aload_n O dX7_init_0 rfl 0 rfl ?_
  refine v_objInit O q219 q113 q114 dX7_init_1 (by decide) (Nat.le_of_ble_eq_true rfl) ?_
  refine v_aload_n O dX7_init_4 rfl 0 rfl ?_
  refine v_aload_n O dX7_init_5 rfl 1 rfl ?_
  refine v_putF (ty0 := tyX7) O hnm in_X7 tyX7_ok nmX7 hz hh (show vcl[6]? = some (RX7, TX7, 3) from rfl) 0 (by decide) rfl q300 rfl rfl (tyX7_ok 0 (by decide)) rfl rfl (Nat.le_of_ble_eq_true rfl) dX7_init_6 ?_
  have hf1 : FrL [g] σ (vUp σ g (g, .inr (6, [.ref h, .null, .int 0]))) := FrL.up hh (by simp)
  have hw1 : (vUp σ g (g, .inr (6, [.ref h, .null, .int 0]))) g = some (g, .inr (6, [.ref h, .null, .int 0])) := vUp_s
  have hv1 : ∀ x, x ≠ g → (vUp σ g (g, .inr (6, [.ref h, .null, .int 0]))) x = σ x := fun x hx => vUp_n hx
  show V G X _ _ _ (vUp σ g (g, .inr (6, [.ref h, .null, .int 0]))) 9 [(0, .ref g), (1, .ref h)] []
  generalize (vUp σ g (g, .inr (6, [.ref h, .null, .int 0]))) = σ1 at hf1 hw1 hv1 ⊢
  have hN_2 := hN0.fr hf1 (by simp [hhg])
  obtain ⟨wa2, ma2, hob2⟩ := hN_2.ob
  refine v_aload_n O dX7_init_9 rfl 0 rfl ?_
  refine v_new (fs := [.null, .null, .null, .null, .null, .null, .null, .null, .int 0, .int 0, .int 0]) (ty := tyX8) O id in_X8 tyX8_ok q220 q221 q102 (show vcl[7]? = some (RX8, TX8, 11) from rfl) (fun j hj => by match j, hj with | 0, _ => rfl | 1, _ => rfl | 2, _ => rfl | 3, _ => rfl | 4, _ => rfl | 5, _ => rfl | 6, _ => rfl | 7, _ => rfl | 8, _ => rfl | 9, _ => rfl | 10, _ => rfl) (by omega) (by omega) dX7_init_10 (fun t hq_t hz_t => ?_)
  have hf3 : FrL [] σ1 (vUp σ1 t (t, .inr (7, [.null, .null, .null, .null, .null, .null, .null, .null, .int 0, .int 0, .int 0]))) := FrL.new hq_t
  have hw_t : (vUp σ1 t (t, .inr (7, [.null, .null, .null, .null, .null, .null, .null, .null, .int 0, .int 0, .int 0]))) t = some (t, .inr (7, [.null, .null, .null, .null, .null, .null, .null, .null, .int 0, .int 0, .int 0])) := vUp_s
  have hne_t3_h : h ≠ t := fun e => by have := hob2; rw [e, hq_t] at this; cases this
  have hne_t3_g : g ≠ t := fun e => by have : _ = some _ := hw1; rw [e, hq_t] at this; cases this
  show V G X _ _ _ (vUp σ1 t (t, .inr (7, [.null, .null, .null, .null, .null, .null, .null, .null, .int 0, .int 0, .int 0]))) 13 [(0, .ref g), (1, .ref h)] [.ref t, .ref g]
  generalize (vUp σ1 t (t, .inr (7, [.null, .null, .null, .null, .null, .null, .null, .null, .int 0, .int 0, .int 0]))) = σ3 at hf3 hw_t ⊢
  have hN_4 := hN_2.fr hf3 (by simp [hhg, hne_t3_h])
  obtain ⟨wa4, ma4, hob4⟩ := hN_4.ob
  have hg_5 := hf3 _ _ hw1 (by simp [hne_t3_g])
  refine v_dup O dX7_init_13 rfl ?_
  refine v_aload_n O dX7_init_14 rfl 1 rfl ?_
  have ht0 : σ t = none := (hv1 t (fun e => by rw [e, hw1] at hq_t; cases hq_t)).symm.trans hq_t
  refine v_callI (as := [.ref h]) (rest := [.ref t, .ref g]) O (c_X8_init hG (h := h) hz_t hw_t) q222 q223 q102 q224 rfl mdX8_init rfl (by decide) (by omega) (by omega) (by omega) (Nat.le_of_ble_eq_true rfl) rfl dX7_init_15 (fun v9 σ7 hp9 => ?_) (fun _ _ _ h => False.elim h)
  obtain ⟨rfl, hf6, adt6, It6, Ft6, Lt6, hRt6, had6⟩ := hp9
  have hN_8 := hN_4.fr hf6 (by simp [hhg, hne_t3_h])
  obtain ⟨wa8, ma8, hob8⟩ := hN_8.ob
  have hg_9 := hf6 _ _ hg_5 (by simp [hne_t3_g])
  refine v_putF (ty0 := tyX7) O hnm in_X7 tyX7_ok nmX7 hz hg_9 (show vcl[6]? = some (RX7, TX7, 3) from rfl) 1 (by decide) rfl q301 rfl rfl (tyX7_ok 1 (by decide)) rfl rfl (Nat.le_of_ble_eq_true rfl) dX7_init_18 ?_
  have hf10 : FrL [g] σ7 (vUp σ7 g (g, .inr (6, [.ref h, .ref t, .int 0]))) := FrL.up hg_9 (by simp)
  have hw10 : (vUp σ7 g (g, .inr (6, [.ref h, .ref t, .int 0]))) g = some (g, .inr (6, [.ref h, .ref t, .int 0])) := vUp_s
  have hv10 : ∀ x, x ≠ g → (vUp σ7 g (g, .inr (6, [.ref h, .ref t, .int 0]))) x = σ7 x := fun x hx => vUp_n hx
  show V G X _ _ _ (vUp σ7 g (g, .inr (6, [.ref h, .ref t, .int 0]))) 21 [(0, .ref g), (1, .ref h)] []
  generalize (vUp σ7 g (g, .inr (6, [.ref h, .ref t, .int 0]))) = σ10 at hf10 hw10 hv10 ⊢
  have hN_11 := hN_8.fr hf10 (by simp [hhg, hne_t3_h])
  obtain ⟨wa11, ma11, hob11⟩ := hN_11.ob
  have hRt_12 := hRt6.fr hf10 (by simp [Ne.symm hne_t3_h, Ne.symm hne_t3_g])
  refine v_aload_n O dX7_init_21 rfl 0 rfl ?_
  refine v_aload_n O dX7_init_22 rfl 0 rfl ?_
  refine v_getf (C := RX7) (T := TX7) (N := 3) (v := .ref t) O in_X7 hw10 rfl 1 (by decide) rfl q301 rfl dX7_init_23 ?_
  refine v_aload_n O dX7_init_26 rfl 1 rfl ?_
  refine v_callV (as := []) (rest := [.ref t, .ref g]) O (c_X2_all hG hN_11 (by omega) ) q261 q262 q263 q75 q264 hob11 (show vcl[1]? = some (RX2, TX2, 3) from rfl) rfl mdX2_all rfl (by decide) (by omega) (by omega) (by omega) (Nat.le_of_ble_eq_true rfl) rfl dX7_init_27 (fun v9 σ9 hp9 => ?_) (fun _ _ _ h => False.elim h)
  obtain ⟨rfl, hs9⟩ := hp9
  obtain rfl := hs9.symm
  refine v_callV (as := [.int (nI (allN N))]) (rest := [.ref g]) O (c_X8_most hG hRt_12 hOk (by rw [had6]; simp [hhg, hne_t3_h]) (s := allN N) (by omega) (by rw [had6]; exact hN_11)) q265 q266 q267 q102 q268 hRt_12.ob (show vcl[7]? = some (RX8, TX8, 11) from rfl) rfl mdX8_most rfl (by decide) (by omega) (by omega) (by omega) (Nat.le_of_ble_eq_true rfl) rfl dX7_init_30 (fun v9 σ14 hp9 => ?_) (fun _ _ _ h => False.elim h)
  obtain ⟨rfl, Ft13, It13, hRt13, hf13⟩ := hp9
  have hN_15 := hN_11.fr hf13 (by simp [hhg, hne_t3_h])
  obtain ⟨wa15, ma15, hob15⟩ := hN_15.ob
  have hg_16 := hf13 _ _ hw10 (by simp [hne_t3_g])
  have hd13 := dp_top hOk (s := allN N) (by omega)
  have he13 : (dp N.1 N.2.1 (allN N)).1 ≤ 12 := hd13
  refine v_putF (ty0 := tyX7) O hnm in_X7 tyX7_ok nmX7 hz hg_16 (show vcl[6]? = some (RX7, TX7, 3) from rfl) 2 (by decide) rfl q302 rfl rfl (tyX7_ok 2 (by decide)) rfl rfl (Nat.le_of_ble_eq_true rfl) dX7_init_33 ?_
  have hf17 : FrL [g] σ14 (vUp σ14 g (g, .inr (6, [.ref h, .ref t, .int (nI ((dpN N (allN N)).1))]))) := FrL.up hg_16 (by simp)
  have hw17 : (vUp σ14 g (g, .inr (6, [.ref h, .ref t, .int (nI ((dpN N (allN N)).1))]))) g = some (g, .inr (6, [.ref h, .ref t, .int (nI ((dpN N (allN N)).1))])) := vUp_s
  have hv17 : ∀ x, x ≠ g → (vUp σ14 g (g, .inr (6, [.ref h, .ref t, .int (nI ((dpN N (allN N)).1))]))) x = σ14 x := fun x hx => vUp_n hx
  show V G X _ _ _ (vUp σ14 g (g, .inr (6, [.ref h, .ref t, .int (nI ((dpN N (allN N)).1))]))) 36 [(0, .ref g), (1, .ref h)] []
  generalize (vUp σ14 g (g, .inr (6, [.ref h, .ref t, .int (nI ((dpN N (allN N)).1))]))) = σ17 at hf17 hw17 hv17 ⊢
  have hN_18 := hN_15.fr hf17 (by simp [hhg, hne_t3_h])
  obtain ⟨wa18, ma18, hob18⟩ := hN_18.ob
  have hRt_19 := hRt13.fr hf17 (by simp [Ne.symm hne_t3_h, Ne.symm hne_t3_g])
  exact v_vret O rfl dX7_init_36 (by omega) (by omega) (⟨rfl, t, ht0, ⟨hw17, ⟨_, _, _, _, hRt_19, had6⟩, hN_18, by simp [hhg, hne_t3_h], by simp [hne_t3_g]⟩, ((((((hf1.mono (by simp)).trans (hf3.mono (by simp))).trans (hf6.mono (by simp))).trans (hf10.mono (by simp))).trans (hf13.mono (by simp))).trans (hf17.mono (by simp)))⟩)
