/-! the queue -/
def QEnc (f : Nat → Int32) (Q : List Nat) : Prop := ∀ i, i < Q.length → f i = nI (Q.getD i 0)
def QOk (Q : List Nat) (E : Nat → Bool) : Prop := Q.Pairwise (fun x y => x ≠ y) ∧ ∀ x, x ∈ Q ↔ E x = true
theorem QEnc.push {f : Nat → Int32} {Q : List Nat} (h : QEnc f Q) (x : Nat) : QEnc (va_up f Q.length (nI x)) (Q ++ [x]) := fun i hi => by
  rw [List.length_append] at hi
  unfold va_up
  by_cases e : i = Q.length
  · rw [if_pos e, e]; simp [List.getD_eq_getElem?_getD]
  · have h2 : i < Q.length := by simp only [List.length_singleton] at hi; omega
    rw [if_neg e, h i h2, List.getD_eq_getElem?_getD, List.getD_eq_getElem?_getD, List.getElem?_append_left h2]
theorem QOk.push {Q : List Nat} {E E' : Nat → Bool} {x : Nat} (h : QOk Q E) (hx : E x = false) (he : ∀ k, E' k = true ↔ E k = true ∨ k = x) : QOk (Q ++ [x]) E' := by
  refine ⟨List.pairwise_append.mpr ⟨h.1, List.pairwise_singleton .., fun y hy z hz e => ?_⟩, fun y => ?_⟩
  · rw [List.mem_singleton.mp hz] at e
    rw [← e, (h.2 y).mp hy] at hx
    cases hx
  · rw [he, List.mem_append, List.mem_singleton, h.2]
theorem QOk.to {Q : List Nat} {E E' : Nat → Bool} (h : QOk Q E) (he : ∀ k, E' k = E k) : QOk Q E' := ⟨h.1, fun x => by rw [he]; exact h.2 x⟩
theorem nodup_le {Q : List Nat} {n : Nat} (h : Q.Pairwise (fun x y => x ≠ y)) (hn : ∀ x, x ∈ Q → x < n) : Q.length ≤ n := by
  have h1 := cnt_inj (g := fun i => Q.getD i 0) (m := n) Q.length (fun _ => true) (fun _ => true) (fun x hx _ => ⟨by rw [List.getD_eq_getElem?_getD, List.getElem?_eq_getElem hx]; exact hn _ (List.getElem_mem hx), rfl⟩) (fun x y hx hy _ _ e => by
    have e : Q.getD x 0 = Q.getD y 0 := e
    rw [List.getD_eq_getElem?_getD, List.getElem?_eq_getElem hx, List.getD_eq_getElem?_getD, List.getElem?_eq_getElem hy] at e
    have e : Q[x] = Q[y] := e
    rw [List.pairwise_iff_getElem] at h
    rcases Nat.lt_trichotomy x y with g | g | g
    · exact absurd e (h x y hx hy g)
    · exact g
    · exact absurd e.symm (h y x hy hx g))
  have h2 : ∀ k, cnt (fun _ => true) k = k := fun k => by
    induction k with
    | zero => rfl
    | succ k ih => rw [cnt, ih]; rfl
  rw [h2, h2] at h1
  exact h1
theorem QOk.lt {Q : List Nat} {E : Nat → Bool} (h : QOk Q E) (hE : ∀ x, E x = true → x < 12) : Q.length ≤ 12 := nodup_le h.1 fun x hx => hE x ((h.2 x).mp hx)
theorem QOk.lt' {Q : List Nat} {E : Nat → Bool} (h : QOk Q E) (hE : ∀ x, E x = true → x < 12) {x : Nat} (hx : x < 12) (hn : E x = false) : Q.length < 12 := by
  have h1 := h.push (E' := fun k => E k || (k == x)) hn (fun k => by simp)
  have h2 := h1.lt (fun y hy => by
    simp only [Bool.or_eq_true, beq_iff_eq] at hy
    rcases hy with hy | hy
    · exact hE y hy
    · omega)
  rw [List.length_append, List.length_singleton] at h2
  omega
theorem l_X8_shrinks {G : vGC} (hG : vGok G) {X : vCX} {Q : State → Prop} {c0 n0 : Nat} (O : vOk G X yX8_shrinks.cls cX8_shrinks none 3 0 0) (hN : xn X = 5) (hcm0 : c0 ≤ 0) (hsm0 : n0 ≤ 0) {σ0 : vSt} {t : Nat} {ad : Nat → Nat} {I : Nat → Int32} {F : Nat → Nat → Int32} {L : Nat → Nat → Int64} {adj : Nat → Nat → Bool} {S : Nat → Bool} {M : Nat → Nat} (hM : MOk adj S M) {rt : Nat} (hrt : M rt = 12) {base : Nat → Nat} {E : Nat → Bool} {D : List Nat} {a b u : Nat} (hu : u < 12) (hb12 : ∀ x, x < 12 → base x < 12) (hE12 : ∀ x, (E x || ringX M base D (base x)) = true → x < 12) (h5 : BEnc (F 5) (ringX M base D)) {Q0 : List Nat} {N : NetM} (hne : ad 0 ≠ t) (hn : N.1 ≤ 12) (kx : ∀ (σ : vSt) (F' : Nat → Nat → Int32) (I' : Nat → Int32) (Q2 : List Nat), RecAt layT σ t ad I' F' L → FrL [t] σ0 σ → (∀ j, j ≠ 3 → j ≠ 4 → j ≠ 7 → F' j = F j) → (∀ j, j ≠ 9 → I' j = I j) → I' 9 = nI Q2.length → OEnc (F' 3) (fun j => if (decide (j < N.1) && ringX M base D (base j)) = true then u else base j) → BEnc (F' 4) (fun j => E j || (decide (j < N.1) && ringX M base D (base j))) → QEnc (F' 7) Q2 → QOk Q2 (fun j => E j || (decide (j < N.1) && ringX M base D (base j))) → Q0 <+: Q2 → V G X Q c0 n0 σ 115 [(0, .ref t), (1, .int (nI a)), (2, .int (nI b)), (3, .int (nI u)), (4, .int (nI N.1))] []) : ∀ (k : Nat) (i : Nat) (Q2 : List Nat) (σ : vSt) (F' : Nat → Nat → Int32) (I' : Nat → Int32), (N.1 < i + k) → (i ≤ N.1) → (RecAt layT σ t ad I' F' L) → (FrL [t] σ0 σ) → (∀ j, j ≠ 3 → j ≠ 4 → j ≠ 7 → F' j = F j) → (∀ j, j ≠ 9 → I' j = I j) → (I' 9 = nI Q2.length) → (OEnc (F' 3) (fun j => if (decide (j < i) && ringX M base D (base j)) = true then u else base j)) → (BEnc (F' 4) (fun j => E j || (decide (j < i) && ringX M base D (base j)))) → (QEnc (F' 7) Q2) → (QOk Q2 (fun j => E j || (decide (j < i) && ringX M base D (base j)))) → (Q0 <+: Q2) → (NetAt σ (ad 0) N) → V G X Q c0 n0 σ 32 [(0, .ref t), (1, .int (nI a)), (2, .int (nI b)), (3, .int (nI u)), (4, .int (nI i))] [] := by
  intro k
  induction k with
  | zero => intro i Q2 σ F' I' h0 hi hR hf hF hIo hI9 h3 h4 h7 hQ hpr hNt; exact absurd h0 (by omega)
  | succ k ih =>
    intro i Q2 σ F' I' h0 hi hR hf hF hIo hI9 h3 h4 h7 hQ hpr hNt
    obtain ⟨wa, ma, hob⟩ := hNt.ob
    have hql := hQ.lt (fun x hx => hE12 x (by simp only [Bool.or_eq_true, Bool.and_eq_true] at hx ⊢; exact hx.imp id fun h => h.2))
    refine v_iload O dX8_shrinks_32 4 rfl ?_
    refine v_aload_n O dX8_shrinks_34 rfl 0 rfl ?_
    refine v_getf (C := RX8) (T := TX8) (N := 11) (v := .ref (ad 0)) O in_X8 hR.ob rfl 0 (by decide) rfl q226 rfl dX8_shrinks_35 ?_
    refine v_getfN (C := RX2) (T := TX2) (N := 3) (v := .int (nI N.1)) O in_X2 hob rfl 0 (by decide) rfl q152 rfl dX8_shrinks_38 ?_
    refine v_icmp_geN (tgt := 115) O dX8_shrinks_41 (by decide) (by omega) (by omega) (fun h_41 => ?_) (fun h_41 => ?_)
    · obtain rfl : i = N.1 := by omega
      exact v_lv [0, 1, 2, 3, 4] rfl (kx σ F' I' Q2 hR hf hF hIo hI9 h3 h4 h7 hQ hpr)
    · refine v_aload_n O dX8_shrinks_44 rfl 0 rfl ?_
      refine v_getf (C := RX8) (T := TX8) (N := 11) (v := .ref (ad 5)) O in_X8 hR.ob rfl 5 (by decide) rfl q231 rfl dX8_shrinks_45 ?_
      refine v_aload_n O dX8_shrinks_48 rfl 0 rfl ?_
      refine v_getf (C := RX8) (T := TX8) (N := 11) (v := .ref (ad 3)) O in_X8 hR.ob rfl 3 (by decide) rfl q229 rfl dX8_shrinks_49 ?_
      refine v_iload O dX8_shrinks_52 4 rfl ?_
      have hbi := hb12 i (by omega)
      refine v_iald (f := F' 3) O (hR.ar 3 rfl) (by omega) (by omega) dX8_shrinks_54 ?_
      refine v_top (y := nI (base i)) (by rw [h3 i (by omega)]; show oI (if (decide (i < i) && _) = true then u else base i) = _; rw [decide_eq_false (Nat.lt_irrefl i), Bool.false_and, if_neg (by simp), oI_n (hb12 i (by omega))]) ?_
      refine v_zald (f := F' 5) O (hR.ar 5 rfl) (by omega) (by omega) dX8_shrinks_55 ?_
      refine v_top (y := bI (ringX M base D (base i))) (by rw [hF 5 (by omega) (by omega) (by omega)]; exact h5 _ hbi) ?_
      refine v_if_neB (tgt := 62) O dX8_shrinks_56 (by decide) (fun h_56 => ?_) (fun h_56 => ?_)
      · have h3b : OEnc (va_up (F' 3) i (nI u)) (fun j => if (decide (j < i + 1) && ringX M base D (base j)) = true then u else base j) := fun j hj => by
          by_cases e : j = i
          · rw [e, up_t]; show _ = oI (if (decide (i < i + 1) && ringX M base D (base i)) = true then u else base i); rw [if_pos (by rw [h_56]; simp), oI_n hu]
          · rw [up_f _ _ e, h3 j hj]
            show oI (if (decide (j < i) && _) = true then u else base j) = oI (if (decide (j < i + 1) && _) = true then u else base j)
            rw [show decide (j < i) = decide (j < i + 1) from decide_eq_decide.mpr (by omega)]
        refine v_aload_n O dX8_shrinks_62 rfl 0 rfl ?_
        refine v_getf (C := RX8) (T := TX8) (N := 11) (v := .ref (ad 3)) O in_X8 hR.ob rfl 3 (by decide) rfl q229 rfl dX8_shrinks_63 ?_
        refine v_iload O dX8_shrinks_66 4 rfl ?_
        refine v_iload_n O dX8_shrinks_68 rfl 3 rfl ?_
        refine r_iast (K := layT) O hR 3 rfl (by omega) (by omega) dX8_shrinks_69 (fun σ1 hR1 hf1 => ?_)
        have hN_2 := hNt.fr hf1 (by simpa using hne)
        obtain ⟨wa2, ma2, hob2⟩ := hN_2.ob
        refine v_aload_n O dX8_shrinks_70 rfl 0 rfl ?_
        refine v_getf (C := RX8) (T := TX8) (N := 11) (v := .ref (ad 4)) O in_X8 hR1.ob rfl 4 (by decide) rfl q230 rfl dX8_shrinks_71 ?_
        refine v_iload O dX8_shrinks_74 4 rfl ?_
        refine v_zald (f := F' 4) O (hR1.ar 4 rfl) (by omega) (by omega) dX8_shrinks_76 ?_
        refine v_top (y := bI (E i)) (by rw [h4 i (by omega)]; show bI (E i || (decide (i < i) && _)) = _; rw [decide_eq_false (Nat.lt_irrefl i), Bool.false_and, Bool.or_false]) ?_
        refine v_if_eqB (tgt := 83) O dX8_shrinks_77 (by decide) (fun h_77 => ?_) (fun h_77 => ?_)
        · have hql2 := hQ.lt' (fun x hx => hE12 x (by simp only [Bool.or_eq_true, Bool.and_eq_true] at hx ⊢; exact hx.imp id fun h => h.2)) (x := i) (by omega) (by rw [h_77]; simp)
          have pE2 : ∀ j, va_up (fun j => E j || (decide (j < i) && ringX M base D (base j))) i true j = (E j || (decide (j < i + 1) && ringX M base D (base j))) := fun j => by
            by_cases e : j = i
            · rw [e, up_t, h_56]; simp
            · rw [up_f _ _ e, show decide (j < i) = decide (j < i + 1) from decide_eq_decide.mpr (by omega)]
          have h4b : BEnc (va_up (F' 4) i (nI 1)) (fun j => E j || (decide (j < i + 1) && ringX M base D (base j))) := (h4.up i).to fun j hj => pE2 j
          have hQb : QOk (Q2 ++ [i]) (fun j => E j || (decide (j < i + 1) && ringX M base D (base j))) := hQ.push (by rw [h_77]; simp) fun k => by
            show (E k || (decide (k < i + 1) && ringX M base D (base k))) = true ↔ _
            rw [← pE2 k]
            by_cases e : k = i
            · rw [e, up_t]; simp
            · rw [up_f _ _ e]; simp [e]
          refine v_aload_n O dX8_shrinks_83 rfl 0 rfl ?_
          refine v_getf (C := RX8) (T := TX8) (N := 11) (v := .ref (ad 4)) O in_X8 hR1.ob rfl 4 (by decide) rfl q230 rfl dX8_shrinks_84 ?_
          refine v_iload O dX8_shrinks_87 4 rfl ?_
          refine v_iconst (v := nI 1) O dX8_shrinks_89 (by decide) ?_
          refine r_zast (K := layT) O hR1 4 rfl (by omega) (by omega) rfl dX8_shrinks_90 (fun σ3 hR3 hf3 => ?_)
          have hN_4 := hN_2.fr hf3 (by simpa using hne)
          obtain ⟨wa4, ma4, hob4⟩ := hN_4.ob
          refine v_aload_n O dX8_shrinks_91 rfl 0 rfl ?_
          refine v_getf (C := RX8) (T := TX8) (N := 11) (v := .ref (ad 7)) O in_X8 hR3.ob rfl 7 (by decide) rfl q233 rfl dX8_shrinks_92 ?_
          refine v_aload_n O dX8_shrinks_95 rfl 0 rfl ?_
          refine v_dup O dX8_shrinks_96 rfl ?_
          refine v_getf (C := RX8) (T := TX8) (N := 11) (v := .int (nI Q2.length)) O in_X8 hR3.ob rfl 9 (by decide) rfl q235 (congrArg (fun z => some (Value.int z)) hI9) dX8_shrinks_97 ?_
          refine v_dup_x1 O dX8_shrinks_100 rfl rfl ?_
          refine v_iconst (v := nI 1) O dX8_shrinks_101 (by decide) ?_
          refine v_iadd (z := nI (Q2.length + 1)) O dX8_shrinks_102 (nI_add Q2.length 1) ?_
          refine r_puti (K := layT) (I' := (va_up I' 9 (nI (Q2.length + 1)))) (ty0 := tyX8) O hR3 in_X8 tyX8_ok nmX8 (show vcl[7]? = some (RX8, TX8, 11) from rfl) 9 (by decide) rfl q235 rfl (tyX8_ok 9 (by decide)) rfl rfl (Nat.le_of_ble_eq_true rfl) rfl dX8_shrinks_103 (fun σ5 hR5 hf5 => ?_)
          have hN_6 := hN_4.fr hf5 (by simpa using hne)
          obtain ⟨wa6, ma6, hob6⟩ := hN_6.ob
          refine v_iload O dX8_shrinks_106 4 rfl ?_
          refine r_iast (K := layT) O hR5 7 rfl (by omega) (by omega) dX8_shrinks_108 (fun σ7 hR7 hf7 => ?_)
          have hN_8 := hN_6.fr hf7 (by simpa using hne)
          obtain ⟨wa8, ma8, hob8⟩ := hN_8.ob
          refine v_iinc (v := nI (i + 1)) (lv' := [(4, .int (nI (i + 1))), (0, .ref t), (1, .int (nI a)), (2, .int (nI b)), (3, .int (nI u))]) O hN dX8_shrinks_109 4 rfl (nI_add i 1) (by decide) rfl ?_
          refine v_goto (tgt := 32) O dX8_shrinks_112 (by decide) ?_
          refine v_lv [1, 2, 3, 4, 0] rfl ?_
          exact ih (i + 1) (Q2 ++ [i]) _ _ _ (by omega) (by omega) hR7 (hf.trans (((hf1.trans hf3).trans hf5).trans hf7)) (fun j q1 q2 q3 => by rw [← hF j q1 q2 q3]; simp [va_up, q1, q2, q3]) (fun j hj => by rw [← hIo j hj]; simp [va_up, hj]) (by simp [va_up, List.length_append, nI_add]) (by simpa [va_up] using h3b) (by simpa [va_up] using h4b) (by simpa [va_up] using h7.push i) hQb (hpr.trans (List.prefix_append ..)) hN_8
        · have pE1 : ∀ j, (E j || (decide (j < i) && ringX M base D (base j))) = (E j || (decide (j < i + 1) && ringX M base D (base j))) := fun j => by
            by_cases e : j = i
            · rw [e, h_77]; simp
            · rw [show decide (j < i) = decide (j < i + 1) from decide_eq_decide.mpr (by omega)]
          refine v_goto (tgt := 109) O dX8_shrinks_80 (by decide) ?_
          refine v_iinc (v := nI (i + 1)) (lv' := [(4, .int (nI (i + 1))), (0, .ref t), (1, .int (nI a)), (2, .int (nI b)), (3, .int (nI u))]) O hN dX8_shrinks_109 4 rfl (nI_add i 1) (by decide) rfl ?_
          refine v_goto (tgt := 32) O dX8_shrinks_112 (by decide) ?_
          refine v_lv [1, 2, 3, 4, 0] rfl ?_
          exact ih (i + 1) Q2 _ _ _ (by omega) (by omega) hR1 (hf.trans hf1) (fun j q1 q2 q3 => by rw [← hF j q1 q2 q3]; simp [va_up, q1, q2, q3]) hIo hI9 h3b (by simpa [va_up] using h4.to fun j hj => pE1 j) (by simpa [va_up] using h7) (hQ.to fun j => (pE1 j).symm) hpr hN_2
      · have pE0 : ∀ j, (E j || (decide (j < i) && ringX M base D (base j))) = (E j || (decide (j < i + 1) && ringX M base D (base j))) := fun j => by
          by_cases e : j = i
          · rw [e, h_56]; simp
          · rw [show decide (j < i) = decide (j < i + 1) from decide_eq_decide.mpr (by omega)]
        have pB0 : ∀ j, (if (decide (j < i) && ringX M base D (base j)) = true then u else base j) = (if (decide (j < i + 1) && ringX M base D (base j)) = true then u else base j) := fun j => by
          by_cases e : j = i
          · rw [e, if_neg (by rw [h_56]; simp), if_neg (by rw [h_56]; simp)]
          · rw [show decide (j < i) = decide (j < i + 1) from decide_eq_decide.mpr (by omega)]
        refine v_goto (tgt := 109) O dX8_shrinks_59 (by decide) ?_
        refine v_iinc (v := nI (i + 1)) (lv' := [(4, .int (nI (i + 1))), (0, .ref t), (1, .int (nI a)), (2, .int (nI b)), (3, .int (nI u))]) O hN dX8_shrinks_109 4 rfl (nI_add i 1) (by decide) rfl ?_
        refine v_goto (tgt := 32) O dX8_shrinks_112 (by decide) ?_
        refine v_lv [1, 2, 3, 4, 0] rfl ?_
        exact ih (i + 1) Q2 _ _ _ (by omega) (by omega) hR hf hF hIo hI9 (fun j hj => (h3 j hj).trans (congrArg oI (pB0 j))) (h4.to fun j hj => pE0 j) h7 (hQ.to fun j => (pE0 j).symm) hpr hNt
