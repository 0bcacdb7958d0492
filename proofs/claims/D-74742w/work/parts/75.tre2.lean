theorem ringX_cons {M base : Nat → Nat} {v : Nat} {D : List Nat} {k : Nat} : ringX M base (v :: D) k = ((k == base v || k == base (M v)) || ringX M base D k) := by
  unfold ringX
  rw [List.any_cons]
theorem l_X8_marks {G : vGC} (hG : vGok G) {X : vCX} {Q : State → Prop} {c0 n0 : Nat} (O : vOk G X yX8_marks.cls cX8_marks none 2 0 0) (hN : xn X = 6) (hcm0 : c0 ≤ 0) (hsm0 : n0 ≤ 0) {σ0 : vSt} {t : Nat} {ad : Nat → Nat} {I : Nat → Int32} {F : Nat → Nat → Int32} {L : Nat → Nat → Int64} {adj : Nat → Nat → Bool} {S : Nat → Bool} {M : Nat → Nat} (hM : MOk adj S M) {rt : Nat} (hrt : M rt = 12) {f base : Nat → Nat} {E : Nat → Bool} {r : Nat → Nat} (hI : EdI adj S M rt f base E r) (h1 : OEnc (F 1) M) (h3 : OEnc (F 3) base) {v to ch w : Nat} {R : List Nat} {g0 : Nat → Nat} {fl0 : Nat → Bool} (hto : to < 12) (hw : base w = to) (kx : ∀ (σ : vSt) (F' : Nat → Nat → Int32) (x c : Nat), RecAt layT σ t ad I F' L → FrL [t] σ0 σ → (∀ j, j ≠ 2 → j ≠ 5 → F' j = F j) → OEnc (F' 2) g0 → BEnc (F' 5) fl0 → V G X Q c0 n0 σ 83 [(0, .ref t), (1, .int (nI v)), (2, .int (nI to)), (3, .int (nI ch)), (4, .int (nI x)), (5, .int (nI c))] []) : ∀ (k : Nat) (x : Nat) (c : Nat) (AA : List Nat) (LL : List Nat) (g : Nat → Nat) (fl : Nat → Bool) (σ : vSt) (F' : Nat → Nat → Int32), (AA.length < k) → (c < 12) → (E x = true) → (EP M f rt x LL) → (x :: LL = AA ++ w :: R) → (∀ y, y ∈ AA → base y ≠ to ∧ g (M y) = f (M y)) → (∀ y z, y ∈ AA → z ∈ AA → M y ≠ z) → (mkF M c AA g = g0) → (∀ k, k < 12 → (fl k || ringX M base AA k) = fl0 k) → (RecAt layT σ t ad I F' L) → (FrL [t] σ0 σ) → (∀ j, j ≠ 2 → j ≠ 5 → F' j = F j) → (OEnc (F' 2) g) → (BEnc (F' 5) fl) → V G X Q c0 n0 σ 6 [(0, .ref t), (1, .int (nI v)), (2, .int (nI to)), (3, .int (nI ch)), (4, .int (nI x)), (5, .int (nI c))] [] := by
  intro k
  induction k with
  | zero => intro x c AA LL g fl σ F' h0 hc hx hp hl hA hk hg hfl hR hf hF h2 h5; exact absurd h0 (by omega)
  | succ k ih =>
    intro x c AA LL g fl σ F' h0 hc hx hp hl hA hk hg hfl hR hf hF h2 h5
    have hx12 := (hI.2.1 x hx).1
    have hb12 := hI.base12 hx12
    refine v_aload_n O dX8_marks_6 rfl 0 rfl ?_
    refine v_getf (C := RX8) (T := TX8) (N := 11) (v := .ref (ad 3)) O in_X8 hR.ob rfl 3 (by decide) rfl q229 rfl dX8_marks_7 ?_
    refine v_iload O dX8_marks_10 4 rfl ?_
    refine v_iald (f := F' 3) O (hR.ar 3 rfl) (by omega) (by omega) dX8_marks_12 ?_
    refine v_top (y := nI (base x)) (by rw [hF 3 (by omega) (by omega), h3 x hx12, oI_n hb12]) ?_
    refine v_iload_n O dX8_marks_13 rfl 2 rfl ?_
    refine v_icmp_eqN (tgt := 83) O dX8_marks_14 (by decide) (by omega) (by omega) (fun h_14 => ?_) (fun h_14 => ?_)
    · obtain rfl : AA = [] := by
        cases AA with
        | nil => rfl
        | cons y A2 =>
          rw [List.cons_append, List.cons.injEq] at hl
          exact absurd (by rw [← hl.1]; exact h_14) (hA y (List.mem_cons_self ..)).1
      exact v_lv [0, 1, 2, 3, 4, 5] rfl (kx σ F' x c hR hf hF (by rw [← hg]; exact h2) (h5.to fun j hj => by rw [← hfl j hj]; show fl j = (fl j || false); rw [Bool.or_false]))
    · obtain ⟨A2, eA⟩ : ∃ A2, AA = x :: A2 := by
        cases AA with
        | nil =>
          rw [List.nil_append, List.cons.injEq] at hl
          exact absurd (by rw [hl.1]; exact hw) h_14
        | cons y A2 =>
          rw [List.cons_append, List.cons.injEq] at hl
          exact ⟨A2, by rw [hl.1]⟩
      have hxr : x ≠ rt := (EP.nxt hp hl x (by rw [eA]; exact List.mem_cons_self ..)).1
      have hJ := hI.2.2.1 x hx hxr
      have hbm := hI.base12 hJ.1
      have hmm : M x ≠ x := hk x x (by rw [eA]; exact List.mem_cons_self ..) (by rw [eA]; exact List.mem_cons_self ..)
      obtain ⟨y2, L2, eL⟩ : ∃ y2 L2, LL = y2 :: L2 := by
        cases LL with
        | nil => exact absurd hp hxr
        | cons y2 L2 => exact ⟨y2, L2, rfl⟩
      rw [eL] at hp hl
      have hp2 := hp.2.1
      have hl2 : y2 :: L2 = A2 ++ w :: R := by
        rw [eA, List.cons_append, List.cons.injEq] at hl
        exact hl.2
      refine v_aload_n O dX8_marks_17 rfl 0 rfl ?_
      refine v_getf (C := RX8) (T := TX8) (N := 11) (v := .ref (ad 5)) O in_X8 hR.ob rfl 5 (by decide) rfl q231 rfl dX8_marks_18 ?_
      refine v_aload_n O dX8_marks_21 rfl 0 rfl ?_
      refine v_getf (C := RX8) (T := TX8) (N := 11) (v := .ref (ad 3)) O in_X8 hR.ob rfl 3 (by decide) rfl q229 rfl dX8_marks_22 ?_
      refine v_iload O dX8_marks_25 4 rfl ?_
      refine v_iald (f := F' 3) O (hR.ar 3 rfl) (by omega) (by omega) dX8_marks_27 ?_
      refine v_top (y := nI (base x)) (by rw [hF 3 (by omega) (by omega), h3 x hx12, oI_n hb12]) ?_
      refine v_iconst (v := nI 1) O dX8_marks_28 (by decide) ?_
      refine r_zast (K := layT) O hR 5 rfl (by omega) (by omega) rfl dX8_marks_29 (fun σ1 hR1 hf1 => ?_)
      refine v_aload_n O dX8_marks_30 rfl 0 rfl ?_
      refine v_getf (C := RX8) (T := TX8) (N := 11) (v := .ref (ad 5)) O in_X8 hR1.ob rfl 5 (by decide) rfl q231 rfl dX8_marks_31 ?_
      refine v_aload_n O dX8_marks_34 rfl 0 rfl ?_
      refine v_getf (C := RX8) (T := TX8) (N := 11) (v := .ref (ad 3)) O in_X8 hR1.ob rfl 3 (by decide) rfl q229 rfl dX8_marks_35 ?_
      refine v_aload_n O dX8_marks_38 rfl 0 rfl ?_
      refine v_getf (C := RX8) (T := TX8) (N := 11) (v := .ref (ad 1)) O in_X8 hR1.ob rfl 1 (by decide) rfl q227 rfl dX8_marks_39 ?_
      refine v_iload O dX8_marks_42 4 rfl ?_
      refine v_iald (f := F' 1) O (hR1.ar 1 rfl) (by omega) (by omega) dX8_marks_44 ?_
      refine v_top (y := nI (M x)) (by rw [hF 1 (by omega) (by omega), h1 x hx12, oI_n hJ.1]) ?_
      refine v_iald (f := F' 3) O (hR1.ar 3 rfl) (by omega) (by omega) dX8_marks_45 ?_
      refine v_top (y := nI (base (M x))) (by rw [hF 3 (by omega) (by omega), h3 _ hJ.1, oI_n hbm]) ?_
      refine v_iconst (v := nI 1) O dX8_marks_46 (by decide) ?_
      refine r_zast (K := layT) O hR1 5 rfl (by omega) (by omega) rfl dX8_marks_47 (fun σ2 hR2 hf2 => ?_)
      refine v_aload_n O dX8_marks_48 rfl 0 rfl ?_
      refine v_getf (C := RX8) (T := TX8) (N := 11) (v := .ref (ad 2)) O in_X8 hR2.ob rfl 2 (by decide) rfl q228 rfl dX8_marks_49 ?_
      refine v_iload O dX8_marks_52 4 rfl ?_
      refine v_iload O dX8_marks_54 5 rfl ?_
      refine r_iast (K := layT) O hR2 2 rfl (by omega) (by omega) dX8_marks_56 (fun σ3 hR3 hf3 => ?_)
      refine v_aload_n O dX8_marks_57 rfl 0 rfl ?_
      refine v_getf (C := RX8) (T := TX8) (N := 11) (v := .ref (ad 1)) O in_X8 hR3.ob rfl 1 (by decide) rfl q227 rfl dX8_marks_58 ?_
      refine v_iload O dX8_marks_61 4 rfl ?_
      refine v_iald (f := F' 1) O (hR3.ar 1 rfl) (by omega) (by omega) dX8_marks_63 ?_
      refine v_top (y := nI (M x)) (by rw [hF 1 (by omega) (by omega), h1 x hx12, oI_n hJ.1]) ?_
      refine v_istore (lv' := [(5, .int (nI (M x))), (0, .ref t), (1, .int (nI v)), (2, .int (nI to)), (3, .int (nI ch)), (4, .int (nI x))]) O hN dX8_marks_64 (by decide) rfl ?_
      refine v_aload_n O dX8_marks_66 rfl 1 rfl ?_
      refine v_getf (C := RX8) (T := TX8) (N := 11) (v := .ref (ad 2)) O in_X8 hR3.ob rfl 2 (by decide) rfl q228 rfl dX8_marks_67 ?_
      refine v_aload_n O dX8_marks_70 rfl 1 rfl ?_
      refine v_getf (C := RX8) (T := TX8) (N := 11) (v := .ref (ad 1)) O in_X8 hR3.ob rfl 1 (by decide) rfl q227 rfl dX8_marks_71 ?_
      refine v_iload O dX8_marks_74 5 rfl ?_
      refine v_iald (f := F' 1) O (hR3.ar 1 rfl) (by omega) (by omega) dX8_marks_76 ?_
      refine v_top (y := nI (M x)) (by rw [hF 1 (by omega) (by omega), h1 x hx12, oI_n hJ.1]) ?_
      refine v_iald (f := (va_up (F' 2) x (nI c))) O (hR3.ar 2 rfl) (by omega) (by omega) dX8_marks_77 ?_
      refine v_top (y := nI (f (M x))) (by rw [show va_up (F' 2) x (nI c) (M x) = F' 2 (M x) from up_f _ _ hmm, h2 _ hJ.1, (hA x (by rw [eA]; exact List.mem_cons_self ..)).2, oI_n hJ.2.1]) ?_
      refine v_istore (lv' := [(4, .int (nI (f (M x)))), (5, .int (nI (M x))), (0, .ref t), (1, .int (nI v)), (2, .int (nI to)), (3, .int (nI ch))]) O hN dX8_marks_78 (by decide) rfl ?_
      refine v_goto (tgt := 6) O dX8_marks_80 (by decide) ?_
      refine v_lv [2, 3, 4, 5, 0, 1] rfl ?_
      exact ih (f (M x)) (M x) A2 L2 (va_up g x c) (va_up (va_up fl (base x) true) (base (M x)) true) _ _ (by rw [eA] at h0; simp only [List.length_cons] at h0; omega) hJ.1 hJ.2.2.1 (by rw [hp2]; exact hp.2.2) (by rw [hp2]; exact hl2) (fun y hy => ⟨(hA y (by rw [eA]; exact List.mem_cons_of_mem _ hy)).1, by rw [up_f _ _ (hk y x (by rw [eA]; exact List.mem_cons_of_mem _ hy) (by rw [eA]; exact List.mem_cons_self ..))]; exact (hA y (by rw [eA]; exact List.mem_cons_of_mem _ hy)).2⟩) (fun y z hy hz => hk y z (by rw [eA]; exact List.mem_cons_of_mem _ hy) (by rw [eA]; exact List.mem_cons_of_mem _ hz)) (by rw [← hg, eA]; rfl) (fun k hk12 => by
        rw [← hfl k hk12, eA, ringX_cons]
        by_cases q1 : k = base (M x)
        · rw [q1, up_t]; simp
        · rw [up_f _ _ q1]
          by_cases q2 : k = base x
          · rw [q2, up_t]; simp
          · rw [up_f _ _ q2, beq_false_of_ne q1, beq_false_of_ne q2]; rfl) hR3 (hf.trans ((hf1.trans hf2).trans hf3)) (fun j hj1 hj2 => by rw [← hF j hj1 hj2]; simp [va_up, hj1, hj2]) (by simpa [va_up] using h2.up x hc) (by simpa [va_up] using (h5.up (base x)).up (base (M x)))
theorem c_X8_marks {G : vGC} (hG : vGok G) {σ : vSt} {t : Nat} {ad : Nat → Nat} {I : Nat → Int32} {F : Nat → Nat → Int32} {L : Nat → Nat → Int64} (hR : RecAt layT σ t ad I F L) {adj : Nat → Nat → Bool} {S : Nat → Bool} {M : Nat → Nat} (hM : MOk adj S M) {rt : Nat} (hrt : M rt = 12) {f base : Nat → Nat} {E : Nat → Bool} {r : Nat → Nat} (hI : EdI adj S M rt f base E r) (h1 : OEnc (F 1) M) (h3 : OEnc (F 3) base) {g : Nat → Nat} {fl : Nat → Bool} (h2 : OEnc (F 2) g) (h5 : BEnc (F 5) fl) {v to ch w : Nat} {A R LA : List Nat} (hto : to < 12) (hch : ch < 12) (hA : Arm M f rt base E to v A w R LA) (hg : ∀ y, y ∈ A → g (M y) = f (M y)) (hk : ∀ y z, y ∈ A → z ∈ A → M y ≠ z) : Ct G yX8_marks (ws_ yX8_marks cX8_marks 6 none) 2 0 0 σ [.ref t, .int (nI v), .int (nI to), .int (nI ch)] (fun v9 σ9 => v9 = none ∧ ∃ F' : Nat → Nat → Int32, RecAt layT σ9 t ad I F' L ∧ FrL [t] σ σ9 ∧ (∀ j, j ≠ 2 → j ≠ 5 → F' j = F j) ∧ OEnc (F' 2) (mkF M ch A g) ∧ BEnc (F' 5) (fun k => fl k || ringX M base A k)) vNo := by
  refine ct_of hG (by decide) (Nat.le_of_ble_eq_true rfl) fun X hN O hnm htb => ?_
  show V G X _ 0 0 σ 0 [(0, .ref t), (1, .int (nI v)), (2, .int (nI to)), (3, .int (nI ch))] []
  have hv12 := (hI.2.1 v hA.1).1
  refine v_iload_n O dX8_marks_0 rfl 1 rfl ?_
  refine v_istore (lv' := [(4, .int (nI v)), (0, .ref t), (1, .int (nI v)), (2, .int (nI to)), (3, .int (nI ch))]) O hN dX8_marks_1 (by decide) rfl ?_
  refine v_iload_n O dX8_marks_3 rfl 4 rfl ?_
  refine v_istore (lv' := [(5, .int (nI ch)), (4, .int (nI v)), (0, .ref t), (1, .int (nI v)), (2, .int (nI to)), (3, .int (nI ch))]) O hN dX8_marks_4 (by decide) rfl ?_
  refine v_lv [2, 3, 4, 5, 1, 0] rfl ?_
  refine l_X8_marks hG O hN (by omega) (by omega) hM hrt hI h1 h3 (v := v) (ch := ch) (w := w) (R := R) hto hA.2.2.2.2.2 (g0 := mkF M ch A g) (fl0 := fun k => fl k || ringX M base A k) (σ0 := σ) (F := F) (fun σZ FZ x c hRZ hfZ hFZ hZ2 hZ5 => ?_) (A.length + 1) v ch A LA g fl _ _ (by omega) hch hA.1 hA.2.1 hA.2.2.2.1 (fun y hy => ⟨hA.2.2.2.2.1 y hy, hg y hy⟩) hk rfl (fun _ _ => rfl) hR FrL.rf (fun _ _ _ => rfl) h2 h5
  exact v_vret O rfl dX8_marks_83 (by omega) (by omega) ⟨rfl, FZ, hRZ, hfZ, hFZ, hZ2, hZ5⟩
theorem l_X8_opens {G : vGC} (hG : vGok G) {X : vCX} {Q : State → Prop} {c0 n0 : Nat} (O : vOk G X yX8_opens.cls cX8_opens none 2 0 0) (hN : xn X = 5) (hcm0 : c0 ≤ 0) (hsm0 : n0 ≤ 0) {σ0 : vSt} {t : Nat} {ad : Nat → Nat} {I : Nat → Int32} {F : Nat → Nat → Int32} {L : Nat → Nat → Int64} {M f f2 : Nat → Nat} {rt : Nat} {e1 : Int32} (hrt : M rt = 12) (h2 : OEnc (F 2) f2) {Mf : Nat → Nat} (kx : ∀ (σ : vSt) (F' : Nat → Nat → Int32) (x : Nat), RecAt layT σ t ad I F' L → FrL [t] σ0 σ → (∀ j, j ≠ 1 → F' j = F j) → OEnc (F' 1) Mf → V G X Q c0 n0 σ 42 [(0, .ref t), (1, .int e1), (2, .int (oI x))] []) : ∀ (k : Nat) (x : Nat) (LL : List Nat) (Mc : Nat → Nat) (σ : vSt) (F' : Nat → Nat → Int32), (LL.length < k) → ((LL = [] ∧ ¬ x < 12) ∨ ∃ v l, LL = v :: l ∧ x < 12 ∧ f2 x = v ∧ EP M f rt v l ∧ Smp M (v :: l) ∧ ∀ y, y ∈ v :: l → y ≠ x ∧ y < 12 ∧ Mc y = M y ∧ (y ≠ rt → M y < 12 ∧ M (M y) = y ∧ f2 (M y) = f (M y))) → (opn Mc x LL = Mf) → (RecAt layT σ t ad I F' L) → (FrL [t] σ0 σ) → (∀ j, j ≠ 1 → F' j = F j) → (OEnc (F' 1) Mc) → V G X Q c0 n0 σ 2 [(0, .ref t), (1, .int e1), (2, .int (oI x))] [] := by
  intro k
  induction k with
  | zero => intro x LL Mc σ F' h0 hL hm hR hf hF h1; exact absurd h0 (by omega)
  | succ k ih =>
    intro x LL Mc σ F' h0 hL hm hR hf hF h1
    refine v_iload_n O dX8_opens_2 rfl 2 rfl ?_
    refine v_iconst (v := (-1)) O dX8_opens_3 (by decide) ?_
    refine v_icmp_eq (tgt := 42) O dX8_opens_4 (by decide) (fun h_4 => ?_) (fun h_4 => ?_)
    · rcases hL with ⟨e1, e2⟩ | ⟨v, l, e1, e2, -⟩
      · rw [e1] at hm
        exact v_lv [0, 1, 2] rfl (kx σ F' x hR hf hF (by rw [← hm]; exact h1))
      · exact absurd e2 (oI_m.mp h_4)
    · obtain ⟨v, l, eL, hx12, hfx, hp, hs, hy⟩ := hL.resolve_left (fun hh => h_4 (oI_m.mpr hh.2))
      have hv := hy v (List.mem_cons_self ..)
      obtain ⟨s1, s2⟩ := List.pairwise_cons.mp hs
      rw [oI_n hx12]
      have hnx : (l = [] ∧ ¬ M v < 12) ∨ ∃ v2 l2, l = v2 :: l2 ∧ M v < 12 ∧ f2 (M v) = v2 ∧ EP M f rt v2 l2 ∧ Smp M (v2 :: l2) ∧ ∀ y, y ∈ v2 :: l2 → y ≠ M v ∧ y < 12 ∧ va_up (va_up Mc x v) v x y = M y ∧ (y ≠ rt → M y < 12 ∧ M (M y) = y ∧ f2 (M y) = f (M y)) := by
        cases l with
        | nil => exact .inl ⟨rfl, by rw [show v = rt from hp, hrt]; omega⟩
        | cons v2 l2 =>
          obtain ⟨g1, g2, g3⟩ := hv.2.2.2 hp.1
          refine .inr ⟨v2, l2, rfl, g1, by rw [g3]; exact hp.2.1, hp.2.2, s2, fun y hy2 => ?_⟩
          obtain ⟨k1, k2, k3, k4⟩ := hy y (List.mem_cons_of_mem _ hy2)
          refine ⟨fun e9 => (s1 y hy2).2 (by rw [e9, g2]), k2, ?_, k4⟩
          rw [up_f _ _ (Ne.symm (s1 y hy2).1), up_f _ _ k1, k3]
      refine v_aload_n O dX8_opens_7 rfl 0 rfl ?_
      refine v_getf (C := RX8) (T := TX8) (N := 11) (v := .ref (ad 2)) O in_X8 hR.ob rfl 2 (by decide) rfl q228 rfl dX8_opens_8 ?_
      refine v_iload_n O dX8_opens_11 rfl 2 rfl ?_
      refine v_iald (f := F' 2) O (hR.ar 2 rfl) (by omega) (by omega) dX8_opens_12 ?_
      refine v_top (y := nI v) (by rw [hF 2 (by omega), h2 x hx12, hfx, oI_n hv.2.1]) ?_
      refine v_istore_n (lv' := [(3, .int (nI v)), (0, .ref t), (1, .int e1), (2, .int (nI x))]) O hN dX8_opens_13 rfl (by decide) rfl ?_
      refine v_aload_n O dX8_opens_14 rfl 1 rfl ?_
      refine v_getf (C := RX8) (T := TX8) (N := 11) (v := .ref (ad 1)) O in_X8 hR.ob rfl 1 (by decide) rfl q227 rfl dX8_opens_15 ?_
      refine v_iload_n O dX8_opens_18 rfl 0 rfl ?_
      refine v_iald (f := F' 1) O (hR.ar 1 rfl) (by omega) (by omega) dX8_opens_19 ?_
      refine v_top (y := (oI (M v))) (by rw [h1 v hv.2.1, hv.2.2.1]) ?_
      refine v_istore (lv' := [(4, .int (oI (M v))), (3, .int (nI v)), (0, .ref t), (1, .int e1), (2, .int (nI x))]) O hN dX8_opens_20 (by decide) rfl ?_
      refine v_aload_n O dX8_opens_22 rfl 2 rfl ?_
      refine v_getf (C := RX8) (T := TX8) (N := 11) (v := .ref (ad 1)) O in_X8 hR.ob rfl 1 (by decide) rfl q227 rfl dX8_opens_23 ?_
      refine v_iload_n O dX8_opens_26 rfl 4 rfl ?_
      refine v_iload_n O dX8_opens_27 rfl 1 rfl ?_
      refine r_iast (K := layT) O hR 1 rfl (by omega) (by omega) dX8_opens_28 (fun σ1 hR1 hf1 => ?_)
      refine v_aload_n O dX8_opens_29 rfl 2 rfl ?_
      refine v_getf (C := RX8) (T := TX8) (N := 11) (v := .ref (ad 1)) O in_X8 hR1.ob rfl 1 (by decide) rfl q227 rfl dX8_opens_30 ?_
      refine v_iload_n O dX8_opens_33 rfl 1 rfl ?_
      refine v_iload_n O dX8_opens_34 rfl 4 rfl ?_
      refine r_iast (K := layT) O hR1 1 rfl (by omega) (by omega) dX8_opens_35 (fun σ2 hR2 hf2 => ?_)
      refine v_iload O dX8_opens_36 0 rfl ?_
      refine v_istore_n (lv' := [(2, .int (oI (M v))), (4, .int (oI (M v))), (3, .int (nI v)), (0, .ref t), (1, .int e1)]) O hN dX8_opens_38 rfl (by decide) rfl ?_
      refine v_goto (tgt := 2) O dX8_opens_39 (by decide) ?_
      refine v_lv [3, 4, 0] rfl ?_
      exact ih (M v) l (va_up (va_up Mc x v) v x) _ _ (by rw [eL] at h0; simp only [List.length_cons] at h0; omega) hnx (by rw [← hm, eL]; show opn _ (M v) l = opn _ (Mc v) l; rw [hv.2.2.1]) hR2 (hf.trans (hf1.trans hf2)) (fun j hj => by rw [← hF j hj]; simp [va_up, hj]) (by simpa [va_up] using (h1.up x hv.2.1).up v hx12)
theorem c_X8_opens {G : vGC} (hG : vGok G) {σ : vSt} {t : Nat} {ad : Nat → Nat} {I : Nat → Int32} {F : Nat → Nat → Int32} {L : Nat → Nat → Int64} (hR : RecAt layT σ t ad I F L) {M f f2 : Nat → Nat} {rt e : Nat} (hrt : M rt = 12) (h1 : OEnc (F 1) M) (h2 : OEnc (F 2) f2) {v : Nat} {l : List Nat} (he : e < 12) (hfe : f2 e = v) (hp : EP M f rt v l) (hs : Smp M (v :: l)) (hy : ∀ y, y ∈ v :: l → y ≠ e ∧ y < 12 ∧ (y ≠ rt → M y < 12 ∧ M (M y) = y ∧ f2 (M y) = f (M y))) : Ct G yX8_opens (ws_ yX8_opens cX8_opens 5 none) 2 0 0 σ [.ref t, .int (nI e)] (fun v9 σ9 => v9 = none ∧ ∃ F' : Nat → Nat → Int32, RecAt layT σ9 t ad I F' L ∧ FrL [t] σ σ9 ∧ (∀ j, j ≠ 1 → F' j = F j) ∧ OEnc (F' 1) (opn M e (v :: l))) vNo := by
  refine ct_of hG (by decide) (Nat.le_of_ble_eq_true rfl) fun X hN O hnm htb => ?_
  show V G X _ 0 0 σ 0 [(0, .ref t), (1, .int (nI e))] []
  refine v_iload_n O dX8_opens_0 rfl 1 rfl ?_
  refine v_istore_n (lv' := [(2, .int (nI e)), (0, .ref t), (1, .int (nI e))]) O hN dX8_opens_1 rfl (by decide) rfl ?_
  refine v_lv [1, 2, 0] rfl ?_
  show V G X _ 0 0 σ 2 [(0, .ref t), (1, .int (nI e)), (2, .int (nI e))] []
  rw [← oI_n he]
  refine l_X8_opens hG O hN (by omega) (by omega) hrt h2 (Mf := opn M e (v :: l)) (σ0 := σ) (F := F) (fun σZ FZ x hRZ hfZ hFZ hZ => ?_) ((v :: l).length + 1) e (v :: l) M _ _ (by omega) (.inr ⟨v, l, rfl, he, hfe, hp, hs, fun y hy9 => ⟨(hy y hy9).1, (hy y hy9).2.1, rfl, (hy y hy9).2.2⟩⟩) rfl hR FrL.rf (fun _ _ => rfl) h1
  exact v_vret O rfl dX8_opens_42 (by omega) (by omega) ⟨rfl, FZ, hRZ, hfZ, hFZ, hZ⟩
