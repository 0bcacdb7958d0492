/-- the tree as the arrays have it -/
def GrSt (adj : Nat → Nat → Bool) (S : Nat → Bool) (M : Nat → Nat) (rt : Nat) (F : Nat → Nat → Int32) (I : Nat → Int32) (f base : Nat → Nat) (E : Nat → Bool) (r : Nat → Nat) (Q : List Nat) : Prop :=
  EdI adj S M rt f base E r ∧ OEnc (F 1) M ∧ OEnc (F 2) f ∧ OEnc (F 3) base ∧ BEnc (F 4) E ∧ QEnc (F 7) Q ∧ QOk Q E ∧ I 9 = nI Q.length
theorem ringX_app {M base : Nat → Nat} {A B : List Nat} {k : Nat} : ringX M base (A ++ B) k = (ringX M base A k || ringX M base B k) := by
  unfold ringX
  rw [List.any_append]
theorem mdX8_common : vMd yX8_common 2 := ⟨by decide +kernel, by decide +kernel, by decide +kernel⟩
theorem mdX8_marks : vMd yX8_marks 3 := ⟨by decide +kernel, by decide +kernel, by decide +kernel⟩
theorem c_X8_shrinks {G : vGC} (hG : vGok G) {σ : vSt} {t : Nat} {ad : Nat → Nat} {I : Nat → Int32} {F : Nat → Nat → Int32} {L : Nat → Nat → Int64} (hR : RecAt layT σ t ad I F L) {N : NetM} (hNt : NetAt σ (ad 0) N) (hne : ad 0 ≠ t) (hn : N.1 ≤ 12) {adj : Nat → Nat → Bool} {S : Nat → Bool} {M : Nat → Nat} (hM : MOk adj S M) {rt : Nat} (hrt : M rt = 12) (hirr : ∀ x, adj x x = false) (hsym : ∀ x y, adj x y = adj y x) (hSn : ∀ x, S x = true → x < N.1) {f base : Nat → Nat} {E : Nat → Bool} {r : Nat → Nat} {Q0 : List Nat} (hS : GrSt adj S M rt F I f base E r Q0) {a b : Nat} (ha : E a = true) (hb : E b = true) (hab : adj a b = true) : Ct G yX8_shrinks (ws_ yX8_shrinks cX8_shrinks 5 none) 3 0 0 σ [.ref t, .int (nI a), .int (nI b)] (fun v9 σ9 => v9 = none ∧ ∃ (F' : Nat → Nat → Int32) (I' : Nat → Int32) (f' base' : Nat → Nat) (E' : Nat → Bool) (Q' : List Nat), RecAt layT σ9 t ad I' F' L ∧ FrL [t] σ σ9 ∧ F' 1 = F 1 ∧ (∀ j, j ≠ 9 → I' j = I j) ∧ GrSt adj S M rt F' I' f' base' E' r Q' ∧ Q0 <+: Q' ∧ (∀ k, f k < 12 → f' k < 12) ∧ (∀ k, E k = true → E' k = true) ∧ (∀ x y, base x = base y → base' x = base' y) ∧ base' a = base' b) vNo := by
  refine ct_of hG (by decide) (Nat.le_of_ble_eq_true rfl) fun X hN O hnm htb => ?_
  show V G X _ 0 0 σ 0 [(0, .ref t), (1, .int (nI a)), (2, .int (nI b))] []
  obtain ⟨hI, h1, h2, h3, h4, h7, hQ, h9⟩ := hS
  obtain ⟨wa, ma, hob⟩ := hNt.ob
  refine v_aload_n O dX8_shrinks_0 rfl 0 rfl ?_
  refine v_iload_n O dX8_shrinks_1 rfl 1 rfl ?_
  refine v_iload_n O dX8_shrinks_2 rfl 2 rfl ?_
  refine v_callV (as := [.int (nI a), .int (nI b)]) (rest := []) O (c_X8_common hG hR hM hrt hI h1 h2 h3 ha hb) q288 q290 qs3 q102 q291 hR.ob (show vcl[7]? = some (RX8, TX8, 11) from rfl) rfl mdX8_common rfl (by decide) (by omega) (by omega) (by omega) (Nat.le_of_ble_eq_true rfl) rfl dX8_shrinks_3 (fun v9 σ1 hp9 => ?_) (fun _ _ _ h => False.elim h)
  obtain ⟨u, A, w, R, LA, B, w2, R2, LB, F1, rfl, hu, hA, hB, hAB, hR1, hf1, hF1⟩ := hp9
  have hN_2 := hNt.fr hf1 (by simpa using hne)
  obtain ⟨wa2, ma2, hob2⟩ := hN_2.ob
  obtain ⟨a1, a2, a3, a4⟩ := hA.even hI
  obtain ⟨b1, b2, b3, b4⟩ := hB.even hI
  have ka := hA.k1 hM hirr hrt hI hB hAB
  have kb := hB.k1 hM hirr hrt hI hA (fun v v' hv hv' e => hAB v' v hv' hv e.symm)
  have hkA : ∀ y z, y ∈ A → z ∈ A → M y ≠ z := fun y z hy hz e => (ka y (a2 y hy).1).1 (by rw [e]; exact hz)
  have hkB : ∀ y z, y ∈ B → z ∈ B → M y ≠ z := fun y z hy hz e => (kb y (b2 y hy).1).1 (by rw [e]; exact hz)
  have ha12 := (hI.2.1 a ha).1
  have hb12 := (hI.2.1 b hb).1
  refine v_istore_n (lv' := [(3, .int (nI u)), (0, .ref t), (1, .int (nI a)), (2, .int (nI b))]) O hN dX8_shrinks_6 rfl (by decide) rfl ?_
  refine v_aload_n O dX8_shrinks_7 rfl 1 rfl ?_
  refine v_getf (C := RX8) (T := TX8) (N := 11) (v := .ref (ad 5)) O in_X8 hR1.ob rfl 5 (by decide) rfl q231 rfl dX8_shrinks_8 ?_
  refine v_iconst (v := nI 0) O dX8_shrinks_11 (by decide) ?_
  refine v_callS (as := [.ref (ad 5), .int (nI 0)]) (rest := []) O (c_J2_fill_2 hG (f := F1 5) (v := false) hR1.nz (by omega) (hR1.ar 5 rfl)) q277 q278 q76 q279 mdJ2_fill_2 rfl (by decide) (by omega) (by omega) (by omega) (Nat.le_of_ble_eq_true rfl) rfl dX8_shrinks_12 (fun v9 σ4 hp9 => ?_) (fun _ _ _ h => False.elim h)
  obtain ⟨rfl, hf3, hfb3, g3, hfa3, hfv3⟩ := hp9
  have hR3 := hR1.put 5 rfl hfb3 hfa3
  have hN_5 := hN_2.fr hf3 (by simpa using hne)
  obtain ⟨wa5, ma5, hob5⟩ := hN_5.ob
  refine v_aload_n O dX8_shrinks_15 rfl 1 rfl ?_
  refine v_iload_n O dX8_shrinks_16 rfl 2 rfl ?_
  refine v_iload_n O dX8_shrinks_17 rfl 0 rfl ?_
  refine v_iload_n O dX8_shrinks_18 rfl 3 rfl ?_
  refine v_callV (as := [.int (nI a), .int (nI u), .int (nI b)]) (rest := []) O (c_X8_marks hG hR3 hM hrt hI (by simpa [va_up, hF1 1 (by omega)] using h1) (by simpa [va_up, hF1 3 (by omega)] using h3) (g := f) (fl := fun _ => false) (by simpa [va_up, hF1 2 (by omega)] using h2) (fun j hj => by rw [show va_up F1 5 g3 5 = g3 by simp [va_up]]; exact hfv3 j hj) (ch := b) hu hb12 hA (fun _ _ => rfl) hkA) q292 q294 qs4 q102 q295 hR3.ob (show vcl[7]? = some (RX8, TX8, 11) from rfl) rfl mdX8_marks rfl (by decide) (by omega) (by omega) (by omega) (Nat.le_of_ble_eq_true rfl) rfl dX8_shrinks_19 (fun v9 σ6 hp9 => ?_) (fun _ _ _ h => False.elim h)
  obtain ⟨rfl, Fa, hRa, hfa, hFa, hma, hra⟩ := hp9
  have hN_7 := hN_5.fr hfa (by simpa using hne)
  obtain ⟨wa7, ma7, hob7⟩ := hN_7.ob
  refine v_aload_n O dX8_shrinks_22 rfl 1 rfl ?_
  refine v_iload_n O dX8_shrinks_23 rfl 3 rfl ?_
  refine v_iload_n O dX8_shrinks_24 rfl 0 rfl ?_
  refine v_iload_n O dX8_shrinks_25 rfl 2 rfl ?_
  refine v_callV (as := [.int (nI b), .int (nI u), .int (nI a)]) (rest := []) O (c_X8_marks hG hRa hM hrt hI (by rw [hFa 1 (by omega) (by omega)]; simpa [va_up, hF1 1 (by omega)] using h1) (by rw [hFa 3 (by omega) (by omega)]; simpa [va_up, hF1 3 (by omega)] using h3) hma hra (ch := a) hu ha12 hB (fun y hy => mkF_out (kb y (b2 y hy).1).2) hkB) q292 q294 qs4 q102 q295 hRa.ob (show vcl[7]? = some (RX8, TX8, 11) from rfl) rfl mdX8_marks rfl (by decide) (by omega) (by omega) (by omega) (Nat.le_of_ble_eq_true rfl) rfl dX8_shrinks_26 (fun v9 σ8 hp9 => ?_) (fun _ _ _ h => False.elim h)
  obtain ⟨rfl, Fb, hRb, hfb, hFb, hmb, hrb⟩ := hp9
  have hN_9 := hN_7.fr hfb (by simpa using hne)
  obtain ⟨wa9, ma9, hob9⟩ := hN_9.ob
  refine v_iconst (v := nI 0) O dX8_shrinks_29 (by decide) ?_
  refine v_istore (lv' := [(4, .int (nI 0)), (3, .int (nI u)), (0, .ref t), (1, .int (nI a)), (2, .int (nI b))]) O hN dX8_shrinks_30 (by decide) rfl ?_
  refine v_lv [2, 3, 4, 1, 0] rfl ?_
  have hrr : BEnc (Fb 5) (ringX M base (A ++ B)) := hrb.to fun j hj => by rw [ringX_app]; rfl
  obtain ⟨hI', m1, m2, m3, m4⟩ := hI.shrunk hM hirr hsym hrt hA hB hAB hab (base' := fun k => if ringX M base (A ++ B) (base k) = true then u else base k) (E' := fun k => E k || ringX M base (A ++ B) (base k)) (fun _ => rfl) (fun _ => rfl)
  have hgo : ∀ j, j ≠ 2 → j ≠ 5 → j ≠ 6 → Fb j = F j := fun j q1 q2 q3 => by
    rw [hFb j q1 q2, hFa j q1 q2, ← hF1 j q3]; simp [va_up, q2]
  refine l_X8_shrinks hG O hN (by omega) (by omega) (σ0 := σ8) (F := Fb) (I := I) (N := N) (E := E) (Q0 := Q0) (a := a) (b := b) hM hrt hu (fun x hx => hI.base12 hx) (fun x hx => (hI'.2.1 x hx).1) hrr hne hn (fun σZ FZ IZ QZ hRZ hfZ hFZ hIZ hZ9 hZ3 hZ4 hZ7 hZQ hZp => ?_) (N.1 + 1) 0 Q0 _ _ _ (by omega) (by omega) hRb FrL.rf (fun _ _ _ _ => rfl) (fun _ _ => rfl) h9 (by rw [hgo 3 (by omega) (by omega) (by omega)]; intro j hj; rw [h3 j hj]; simp) (by rw [hgo 4 (by omega) (by omega) (by omega)]; exact h4.to fun j hj => by simp) (by rw [hgo 7 (by omega) (by omega) (by omega)]; exact h7) (hQ.to fun j => by simp) (List.prefix_refl _) hN_9
  have eB : ∀ j, (decide (j < N.1) && ringX M base (A ++ B) (base j)) = ringX M base (A ++ B) (base j) := fun j => by
    cases hc : ringX M base (A ++ B) (base j)
    · rw [Bool.and_false]
    · rw [decide_eq_true (hSn j (m2 j hc).1)]; rfl
  have z3 : OEnc (FZ 3) (fun k => if ringX M base (A ++ B) (base k) = true then u else base k) := fun j hj => by
    rw [hZ3 j hj]
    show oI (if (decide (j < N.1) && _) = true then u else base j) = _
    rw [eB j]
  exact v_vret O rfl dX8_shrinks_115 (by omega) (by omega) ⟨rfl, FZ, IZ, _, _, _, QZ, hRZ, (((hf1.trans hf3).trans hfa).trans hfb).trans hfZ, (hFZ 1 (by omega) (by omega) (by omega)).trans (hgo 1 (by omega) (by omega) (by omega)), hIZ, ⟨hI', by rw [hFZ 1 (by omega) (by omega) (by omega), hgo 1 (by omega) (by omega) (by omega)]; exact h1, by rw [hFZ 2 (by omega) (by omega) (by omega)]; exact hmb, z3, hZ4.to fun j hj => by rw [eB j], hZ7, hZQ.to fun j => by rw [eB j], hZ9⟩, hZp, m1, fun k hk => by show (E k || _) = true; rw [hk]; rfl, fun x y e => by show (if ringX M base (A ++ B) (base x) = true then u else base x) = (if ringX M base (A ++ B) (base y) = true then u else base y); rw [e], m3.trans m4.symm⟩
