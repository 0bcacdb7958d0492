/-! Trees: how the arrays hold it; 12 (and more): none -/
def oI (x : Nat) : Int32 := if x < 12 then nI x else -1
theorem oI_n {x : Nat} (h : x < 12) : oI x = nI x := if_pos h
theorem oI_m {x : Nat} : oI x = -1 ↔ ¬ x < 12 := by
  unfold oI
  by_cases h : x < 12
  · rw [if_pos h]
    exact ⟨fun e => absurd e (nI_ne (by omega)), fun h2 => absurd h h2⟩
  · rw [if_neg h]
    exact ⟨fun _ => h, fun _ => rfl⟩
theorem oI_eq {x y : Nat} (hy : y < 12) : oI x = nI y ↔ x = y := by
  unfold oI
  by_cases h : x < 12
  · rw [if_pos h]; exact nI_eq (by omega) (by omega)
  · rw [if_neg h]
    exact ⟨fun e => absurd e.symm (nI_ne (by omega)), fun e => by omega⟩
def OEnc (f : Nat → Int32) (g : Nat → Nat) : Prop := ∀ j, j < 12 → f j = oI (g j)
def BEnc (f : Nat → Int32) (E : Nat → Bool) : Prop := ∀ j, j < 12 → f j = bI (E j)
theorem OEnc.up {f : Nat → Int32} {g : Nat → Nat} (h : OEnc f g) (i : Nat) {x : Nat} (hx : x < 12) : OEnc (va_up f i (nI x)) (va_up g i x) := fun j hj => by
  unfold va_up
  split
  · exact (oI_n hx).symm
  · exact h j hj
theorem BEnc.up {f : Nat → Int32} {E : Nat → Bool} (h : BEnc f E) (i : Nat) : BEnc (va_up f i (nI 1)) (va_up E i true) := fun j hj => by
  unfold va_up
  split
  · rfl
  · exact h j hj
theorem BEnc.to {f : Nat → Int32} {E E' : Nat → Bool} (h : BEnc f E) (he : ∀ j, j < 12 → E j = E' j) : BEnc f E' := fun j hj => by rw [h j hj, he j hj]
theorem EdI.base12 {adj : Nat → Nat → Bool} {S : Nat → Bool} {M : Nat → Nat} {rt : Nat} {f base : Nat → Nat} {E : Nat → Bool} {r : Nat → Nat} (h : EdI adj S M rt f base E r) {x : Nat} (hx : x < 12) : base x < 12 := by
  cases e : E x
  · rw [h.2.2.2.1 x e]; exact hx
  · exact (h.2.1 _ (h.2.1 x e).2.2.1).1
theorem l_J2_fill_2 {G : vGC} (hG : vGok G) {X : vCX} {Q : State → Prop} {c0 n0 : Nat} (O : vOk G X yJ2_fill_2.cls cJ2_fill_2 none 1 0 0) (hN : xn X = 4) (hcm0 : c0 ≤ 0) (hsm0 : n0 ≤ 0) {a l n : Nat} {v : Bool} (hl : l ≠ 0) (hn : n < 2 ^ 31) {σ0 : vSt} (kx : ∀ σ : vSt, FrL [l] σ0 σ → (∀ b, b ≠ a → σ b = σ0 b) → (∃ f : Nat → Int32, σ a = some (l, .inl (2, n, .inl f)) ∧ ∀ j, j < n → f j = bI v) → V G X Q c0 n0 σ 20 [(0, .ref a), (1, .int (bI v)), (3, .int (nI n)), (2, .int (nI n))] []) : ∀ (k : Nat) (i : Nat) (σ : vSt) (f : Nat → Int32), (n < i + k) → (i ≤ n) → (FrL [l] σ0 σ) → (∀ b, b ≠ a → σ b = σ0 b) → (σ a = some (l, .inl (2, n, .inl f)) ∧ ∀ j, j < i → f j = bI v) → V G X Q c0 n0 σ 5 [(0, .ref a), (1, .int (bI v)), (3, .int (nI n)), (2, .int (nI i))] [] := by
  intro k
  induction k with
  | zero => intro i σ f h0 h1 h2 h4 h3; exact absurd h0 (by omega)
  | succ k ih =>
    intro i σ f h0 h1 h2 h4 h3
    refine v_iload_n O dJ2_fill_2_5 rfl 3 rfl ?_
    refine v_iload_n O dJ2_fill_2_6 rfl 2 rfl ?_
    refine v_icmp_geN (tgt := 20) O dJ2_fill_2_7 (by decide) (by omega) (by omega) (fun h_7 => ?_) (fun h_7 => ?_)
    · obtain rfl : i = n := by omega
      exact kx σ h2 h4 ⟨f, h3⟩
    · refine v_aload_n O dJ2_fill_2_10 rfl 0 rfl ?_
      refine v_iload_n O dJ2_fill_2_11 rfl 3 rfl ?_
      refine v_iload_n O dJ2_fill_2_12 rfl 1 rfl ?_
      refine v_zast O hl h3.1 (by omega) (by omega) (vnar_bI v) dJ2_fill_2_13 ?_
      refine v_iinc (v := nI (i + 1)) (lv' := [(2, .int (nI (i + 1))), (0, .ref a), (1, .int (bI v)), (3, .int (nI n))]) O hN dJ2_fill_2_14 3 rfl (nI_add i 1) (by decide) rfl ?_
      refine v_goto (tgt := 5) O dJ2_fill_2_17 (by decide) ?_
      refine v_lv [1, 2, 3, 0] rfl ?_
      exact ih (i + 1) _ _ (by omega) (by omega) (h2.trans (FrL.up h3.1 (by simp))) (fun b hb => (vUp_n hb).trans (h4 b hb)) ⟨vUp_s, fun j hj => by
        by_cases e : j = i
        · simp [va_up, e]
        · simp only [va_up, e, if_false]; exact h3.2 j (by omega)⟩
theorem c_J2_fill_2 {G : vGC} (hG : vGok G) {σ : vSt} {a l n : Nat} {v : Bool} {f : Nat → Int32} (hl : l ≠ 0) (hn : n < 2 ^ 31) (ha : σ a = some (l, .inl (2, n, .inl f))) : Ct G yJ2_fill_2 (ws_ yJ2_fill_2 cJ2_fill_2 4 none) 1 0 0 σ [.ref a, .int (bI v)] (fun r σ9 => r = none ∧ FrL [l] σ σ9 ∧ (∀ b, b ≠ a → σ9 b = σ b) ∧ ∃ f : Nat → Int32, σ9 a = some (l, .inl (2, n, .inl f)) ∧ ∀ j, j < n → f j = bI v) vNo := by
  refine ct_of hG (by decide) (Nat.le_of_ble_eq_true rfl) fun X hN O hnm htb => ?_
  show V G X _ 0 0 σ 0 [(0, .ref a), (1, .int (bI v))] []
  refine v_iconst (v := nI 0) O dJ2_fill_2_0 (by decide) ?_
  refine v_istore_n (lv' := [(2, .int (nI 0)), (0, .ref a), (1, .int (bI v))]) O hN dJ2_fill_2_1 rfl (by decide) rfl ?_
  refine v_aload_n O dJ2_fill_2_2 rfl 1 rfl ?_
  refine v_alen (v := nI n) O ha rfl rfl dJ2_fill_2_3 ?_
  refine v_istore_n (lv' := [(3, .int (nI n)), (2, .int (nI 0)), (0, .ref a), (1, .int (bI v))]) O hN dJ2_fill_2_4 rfl (by decide) rfl ?_
  refine v_lv [2, 3, 0, 1] rfl ?_
  refine l_J2_fill_2 hG O hN (by omega) (by omega) hl hn (fun σ8 h1 h2 h3 => ?_) (n + 1) 0 σ f (by omega) (by omega) FrL.rf (fun _ _ => rfl) ⟨ha, fun j h => absurd h (by omega)⟩
  exact v_vret O rfl dJ2_fill_2_20 (by omega) (by omega) ⟨rfl, h1, h2, h3⟩
theorem l_X8_common1 {G : vGC} (hG : vGok G) {X : vCX} {Q : State → Prop} {c0 n0 : Nat} (O : vOk G X yX8_common.cls cX8_common (some .int) 2 0 0) (hN : xn X = 5) (hcm0 : c0 ≤ 0) (hsm0 : n0 ≤ 0) {σ0 : vSt} {t : Nat} {ad : Nat → Nat} {I : Nat → Int32} {F : Nat → Nat → Int32} {L : Nat → Nat → Int64} {adj : Nat → Nat → Bool} {S : Nat → Bool} {M : Nat → Nat} (hM : MOk adj S M) {rt : Nat} (hrt : M rt = 12) {f base : Nat → Nat} {E : Nat → Bool} {r : Nat → Nat} (hI : EdI adj S M rt f base E r) (h1 : OEnc (F 1) M) (h2 : OEnc (F 2) f) (h3 : OEnc (F 3) base) {a b : Nat} {la : List Nat} (kx : ∀ (σ : vSt) (F' : Nat → Nat → Int32) (x : Nat), RecAt layT σ t ad I F' L → FrL [t] σ0 σ → (∀ j, j ≠ 6 → F' j = F j) → BEnc (F' 6) (fun k => decide (k ∈ base a :: la)) → V G X Q c0 n0 σ 52 [(0, .ref t), (1, .int (nI a)), (2, .int (nI b)), (3, .int (nI x))] []) : ∀ (k : Nat) (x : Nat) (l : List Nat) (PP : List Nat) (σ : vSt) (F' : Nat → Nat → Int32), (l.length < k) → (E x = true) → (BC M f base rt (base x) l) → (base a :: la = PP ++ base x :: l) → (RecAt layT σ t ad I F' L) → (FrL [t] σ0 σ) → (∀ j, j ≠ 6 → F' j = F j) → (BEnc (F' 6) (fun k => decide (k ∈ PP))) → V G X Q c0 n0 σ 10 [(0, .ref t), (1, .int (nI a)), (2, .int (nI b)), (3, .int (nI x))] [] := by
  intro k
  induction k with
  | zero => intro x l PP σ F' h0 hx hc hl hR hf hF h6; exact absurd h0 (by omega)
  | succ k ih =>
    intro x l PP σ F' h0 hx hc hl hR hf hF h6
    have hxx := hI.2.1 x hx
    have hbb := (hI.2.1 _ hxx.2.2.1).1
    have hbx := hxx.1
    refine v_aload_n O dX8_common_10 rfl 0 rfl ?_
    refine v_getf (C := RX8) (T := TX8) (N := 11) (v := .ref (ad 3)) O in_X8 hR.ob rfl 3 (by decide) rfl q229 rfl dX8_common_11 ?_
    refine v_iload_n O dX8_common_14 rfl 3 rfl ?_
    refine v_iald (f := F' 3) O (hR.ar 3 rfl) (by omega) (by omega) dX8_common_15 ?_
    refine v_top (y := nI (base x)) (by rw [hF 3 (by omega), h3 x hbx, oI_n hbb]) ?_
    refine v_istore_n (lv' := [(3, .int (nI (base x))), (0, .ref t), (1, .int (nI a)), (2, .int (nI b))]) O hN dX8_common_16 rfl (by decide) rfl ?_
    refine v_aload_n O dX8_common_17 rfl 1 rfl ?_
    refine v_getf (C := RX8) (T := TX8) (N := 11) (v := .ref (ad 6)) O in_X8 hR.ob rfl 6 (by decide) rfl q232 rfl dX8_common_18 ?_
    refine v_iload_n O dX8_common_21 rfl 0 rfl ?_
    refine v_iconst (v := nI 1) O dX8_common_22 (by decide) ?_
    have h6b : BEnc (va_up F' 6 (va_up (F' 6) (base x) (nI 1)) 6) (fun k => decide (k ∈ PP ++ [base x])) := by
      rw [show va_up F' 6 (va_up (F' 6) (base x) (nI 1)) 6 = va_up (F' 6) (base x) (nI 1) by simp [va_up]]
      refine (h6.up (base x)).to fun j hj => ?_
      by_cases e : j = base x
      · rw [e, up_t]; simp
      · rw [up_f _ _ e]; simp [e]
    refine r_zast (K := layT) O hR 6 rfl (by omega) (by omega) rfl dX8_common_23 (fun σ1 hR1 hf1 => ?_)
    refine v_aload_n O dX8_common_24 rfl 1 rfl ?_
    refine v_getf (C := RX8) (T := TX8) (N := 11) (v := .ref (ad 1)) O in_X8 hR1.ob rfl 1 (by decide) rfl q227 rfl dX8_common_25 ?_
    refine v_iload_n O dX8_common_28 rfl 0 rfl ?_
    refine v_iald (f := F' 1) O (hR1.ar 1 rfl) (by omega) (by omega) dX8_common_29 ?_
    refine v_top (y := (oI (M (base x)))) (by rw [hF 1 (by omega)]; exact h1 _ hbb) ?_
    refine v_iconst (v := (-1)) O dX8_common_30 (by decide) ?_
    refine v_icmp_ne (tgt := 37) O dX8_common_31 (by decide) (fun h_31 => ?_) (fun h_31 => ?_)
    · have hm31 : M (base x) < 12 := Classical.byContradiction fun hn => h_31 (oI_m.mpr hn)
      have er : base x ≠ rt := fun e => by rw [e, hrt] at hm31; omega
      have hJ := hI.2.2.1 _ hxx.2.2.1 er
      obtain ⟨y, l', el⟩ : ∃ y l', l = y :: l' := by
        cases l with
        | nil => exact absurd hc er
        | cons y l => exact ⟨y, l, rfl⟩
      rw [el] at hc
      have hy := hc.2.1
      refine v_aload_n O dX8_common_37 rfl 1 rfl ?_
      refine v_getf (C := RX8) (T := TX8) (N := 11) (v := .ref (ad 2)) O in_X8 hR1.ob rfl 2 (by decide) rfl q228 rfl dX8_common_38 ?_
      refine v_aload_n O dX8_common_41 rfl 1 rfl ?_
      refine v_getf (C := RX8) (T := TX8) (N := 11) (v := .ref (ad 1)) O in_X8 hR1.ob rfl 1 (by decide) rfl q227 rfl dX8_common_42 ?_
      refine v_iload_n O dX8_common_45 rfl 0 rfl ?_
      refine v_iald (f := F' 1) O (hR1.ar 1 rfl) (by omega) (by omega) dX8_common_46 ?_
      refine v_top (y := nI (M (base x))) (by rw [hF 1 (by omega), h1 _ hbb, oI_n hm31]) ?_
      refine v_iald (f := F' 2) O (hR1.ar 2 rfl) (by omega) (by omega) dX8_common_47 ?_
      refine v_top (y := nI (f (M (base x)))) (by rw [hF 2 (by omega), h2 _ hm31, oI_n hJ.2.1]) ?_
      refine v_istore_n (lv' := [(3, .int (nI (f (M (base x))))), (0, .ref t), (1, .int (nI a)), (2, .int (nI b))]) O hN dX8_common_48 rfl (by decide) rfl ?_
      refine v_goto (tgt := 10) O dX8_common_49 (by decide) ?_
      refine v_lv [1, 2, 3, 0] rfl ?_
      exact ih (f (M (base x))) l' (PP ++ [base x]) _ _ (by rw [el] at h0; simp only [List.length_cons] at h0; omega) hJ.2.2.1 (by rw [hy]; exact hc.2.2) (by rw [hl, el, hy, List.append_assoc]; rfl) hR1 (hf.trans hf1) (fun j hj => by rw [← hF j hj]; simp [va_up, hj]) h6b
    · have hm31 := oI_m.mp h_31
      have er : base x = rt := Classical.byContradiction fun hn => hm31 (hI.2.2.1 _ hxx.2.2.1 hn).1
      have el : l = [] := by
        cases l with
        | nil => rfl
        | cons y l => exact absurd er hc.1
      refine v_goto (tgt := 52) O dX8_common_34 (by decide) ?_
      rw [el] at hl
      exact v_lv [1, 2, 3, 0] rfl (kx _ _ (base x) hR1 (hf.trans hf1) (fun j hj => by rw [← hF j hj]; simp [va_up, hj]) (h6b.to fun j hj => by rw [hl]))
theorem BC.root {M f base : Nat → Nat} {rt : Nat} : ∀ {l : List Nat} {x : Nat}, BC M f base rt x l → rt ∈ x :: l
  | [], x, h => by rw [show x = rt from h]; exact List.mem_cons_self ..
  | y :: l, x, h => List.mem_cons_of_mem _ (BC.root h.2.2)
theorem l_X8_common2 {G : vGC} (hG : vGok G) {X : vCX} {Q : State → Prop} {c0 n0 : Nat} (O : vOk G X yX8_common.cls cX8_common (some .int) 2 0 0) (hN : xn X = 5) (hcm0 : c0 ≤ 0) (hsm0 : n0 ≤ 0) {σ : vSt} {t : Nat} {ad : Nat → Nat} {I : Nat → Int32} {F : Nat → Nat → Int32} {L : Nat → Nat → Int64} (hR : RecAt layT σ t ad I F L) {adj : Nat → Nat → Bool} {S : Nat → Bool} {M : Nat → Nat} (hM : MOk adj S M) {rt : Nat} (hrt : M rt = 12) {f base : Nat → Nat} {E : Nat → Bool} {r : Nat → Nat} (hI : EdI adj S M rt f base E r) (h1 : OEnc (F 1) M) (h2 : OEnc (F 2) f) (h3 : OEnc (F 3) base) {a b x : Nat} {la lb : List Nat} (h6 : BEnc (F 6) (fun k => decide (k ∈ base a :: la))) (hca : BC M f base rt (base a) la) (kx : ∀ (y : Nat) (PP QQ : List Nat), y < 12 → base b :: lb = PP ++ y :: QQ → (∀ z, z ∈ PP → z ∉ base a :: la) → y ∈ base a :: la → V G X Q c0 n0 σ 92 [(0, .ref t), (1, .int (nI a)), (2, .int (nI b)), (3, .int (nI x)), (4, .int (nI y))] []) : ∀ (k : Nat) (y : Nat) (l : List Nat) (PP : List Nat), (l.length < k) → (E y = true) → (base y = y) → (BC M f base rt y l) → (base b :: lb = PP ++ y :: l) → (∀ z, z ∈ PP → z ∉ base a :: la) → V G X Q c0 n0 σ 60 [(0, .ref t), (1, .int (nI a)), (2, .int (nI b)), (3, .int (nI x)), (4, .int (nI y))] [] := by
  intro k
  induction k with
  | zero => intro y l PP h0 hy hyb hc hl hP; exact absurd h0 (by omega)
  | succ k ih =>
    intro y l PP h0 hy hyb hc hl hP
    have hy12 := (hI.2.1 y hy).1
    refine v_aload_n O dX8_common_60 rfl 0 rfl ?_
    refine v_getf (C := RX8) (T := TX8) (N := 11) (v := .ref (ad 6)) O in_X8 hR.ob rfl 6 (by decide) rfl q232 rfl dX8_common_61 ?_
    refine v_iload O dX8_common_64 4 rfl ?_
    refine v_zald (f := F 6) O (hR.ar 6 rfl) (by omega) (by omega) dX8_common_66 ?_
    refine v_top (y := bI (decide (y ∈ base a :: la))) (h6 y hy12) ?_
    refine v_if_neB (tgt := 92) O dX8_common_67 (by decide) (fun h_67 => ?_) (fun h_67 => ?_)
    · exact v_lv [0, 1, 2, 3, 4] rfl (kx y PP l hy12 hl hP (of_decide_eq_true h_67))
    · have er : y ≠ rt := fun e => of_decide_eq_false h_67 (by rw [e]; exact hca.root)
      have hJ := hI.2.2.1 y hy er
      have hb12 := hI.base12 hJ.2.1
      obtain ⟨y2, l', el⟩ : ∃ y2 l', l = y2 :: l' := by
        cases l with
        | nil => exact absurd hc er
        | cons y l => exact ⟨y, l, rfl⟩
      rw [el] at hc
      have hy2 := hc.2.1
      refine v_aload_n O dX8_common_70 rfl 0 rfl ?_
      refine v_getf (C := RX8) (T := TX8) (N := 11) (v := .ref (ad 3)) O in_X8 hR.ob rfl 3 (by decide) rfl q229 rfl dX8_common_71 ?_
      refine v_aload_n O dX8_common_74 rfl 0 rfl ?_
      refine v_getf (C := RX8) (T := TX8) (N := 11) (v := .ref (ad 2)) O in_X8 hR.ob rfl 2 (by decide) rfl q228 rfl dX8_common_75 ?_
      refine v_aload_n O dX8_common_78 rfl 0 rfl ?_
      refine v_getf (C := RX8) (T := TX8) (N := 11) (v := .ref (ad 1)) O in_X8 hR.ob rfl 1 (by decide) rfl q227 rfl dX8_common_79 ?_
      refine v_iload O dX8_common_82 4 rfl ?_
      refine v_iald (f := F 1) O (hR.ar 1 rfl) (by omega) (by omega) dX8_common_84 ?_
      refine v_top (y := nI (M y)) (by rw [h1 y hy12, oI_n hJ.1]) ?_
      refine v_iald (f := F 2) O (hR.ar 2 rfl) (by omega) (by omega) dX8_common_85 ?_
      refine v_top (y := nI (f (M y))) (by rw [h2 _ hJ.1, oI_n hJ.2.1]) ?_
      refine v_iald (f := F 3) O (hR.ar 3 rfl) (by omega) (by omega) dX8_common_86 ?_
      refine v_top (y := nI (base (f (M y)))) (by rw [h3 _ hJ.2.1, oI_n hb12]) ?_
      refine v_istore (lv' := [(4, .int (nI (base (f (M y))))), (0, .ref t), (1, .int (nI a)), (2, .int (nI b)), (3, .int (nI x))]) O hN dX8_common_87 (by decide) rfl ?_
      refine v_goto (tgt := 60) O dX8_common_89 (by decide) ?_
      refine v_lv [1, 2, 3, 4, 0] rfl ?_
      exact ih (base (f (M y))) l' (PP ++ [y]) (by rw [el] at h0; simp only [List.length_cons] at h0; omega) (hI.2.1 _ hJ.2.2.1).2.2.1 (hI.2.1 _ hJ.2.2.1).2.2.2 (by rw [hy2]; exact hc.2.2) (by rw [hl, el, hy2, List.append_assoc]; rfl) (fun z hz => by rcases List.mem_append.mp hz with hz | hz; exact hP z hz; rw [List.mem_singleton.mp hz]; exact of_decide_eq_false h_67)
theorem mdJ2_fill_2 : vMd yJ2_fill_2 2 := ⟨by decide +kernel, by decide +kernel, by decide +kernel⟩
theorem c_X8_common {G : vGC} (hG : vGok G) {σ : vSt} {t : Nat} {ad : Nat → Nat} {I : Nat → Int32} {F : Nat → Nat → Int32} {L : Nat → Nat → Int64} (hR : RecAt layT σ t ad I F L) {adj : Nat → Nat → Bool} {S : Nat → Bool} {M : Nat → Nat} (hM : MOk adj S M) {rt : Nat} (hrt : M rt = 12) {f base : Nat → Nat} {E : Nat → Bool} {r : Nat → Nat} (hI : EdI adj S M rt f base E r) (h1 : OEnc (F 1) M) (h2 : OEnc (F 2) f) (h3 : OEnc (F 3) base) {a b : Nat} (ha : E a = true) (hb : E b = true) : Ct G yX8_common (ws_ yX8_common cX8_common 5 (some .int)) 2 0 0 σ [.ref t, .int (nI a), .int (nI b)] (fun v σ9 => ∃ (u : Nat) (A : List Nat) (w : Nat) (R LA B : List Nat) (w2 : Nat) (R2 LB : List Nat) (F' : Nat → Nat → Int32), v = some (.int (nI u)) ∧ u < 12 ∧ Arm M f rt base E u a A w R LA ∧ Arm M f rt base E u b B w2 R2 LB ∧ (∀ v v', v ∈ A → v' ∈ B → base v ≠ base v') ∧ RecAt layT σ9 t ad I F' L ∧ FrL [t] σ σ9 ∧ ∀ j, j ≠ 6 → F' j = F j) vNo := by
  refine ct_of hG (by decide) (Nat.le_of_ble_eq_true rfl) fun X hN O hnm htb => ?_
  show V G X _ 0 0 σ 0 [(0, .ref t), (1, .int (nI a)), (2, .int (nI b))] []
  obtain ⟨la, hca, -⟩ := hI.chain _ _ (Nat.le_refl _) (hI.2.1 a ha).2.2.1 (hI.2.1 a ha).2.2.2
  obtain ⟨lb, hcb, -⟩ := hI.chain _ _ (Nat.le_refl _) (hI.2.1 b hb).2.2.1 (hI.2.1 b hb).2.2.2
  refine v_aload_n O dX8_common_0 rfl 0 rfl ?_
  refine v_getf (C := RX8) (T := TX8) (N := 11) (v := .ref (ad 6)) O in_X8 hR.ob rfl 6 (by decide) rfl q232 rfl dX8_common_1 ?_
  refine v_iconst (v := nI 0) O dX8_common_4 (by decide) ?_
  refine v_callS (as := [.ref (ad 6), .int (nI 0)]) (rest := []) O (c_J2_fill_2 hG (f := F 6) (v := false) hR.nz (by omega) (hR.ar 6 rfl)) q277 q278 q76 q279 mdJ2_fill_2 rfl (by decide) (by omega) (by omega) (by omega) (Nat.le_of_ble_eq_true rfl) rfl dX8_common_5 (fun v9 σ2 hp9 => ?_) (fun _ _ _ h => False.elim h)
  obtain ⟨rfl, hf1, hfb1, g1, hfa1, hfv1⟩ := hp9
  have hR1 := hR.put 6 rfl hfb1 hfa1
  refine v_iload_n O dX8_common_8 rfl 1 rfl ?_
  refine v_istore_n (lv' := [(3, .int (nI a)), (0, .ref t), (1, .int (nI a)), (2, .int (nI b))]) O hN dX8_common_9 rfl (by decide) rfl ?_
  refine v_lv [1, 2, 3, 0] rfl ?_
  refine l_X8_common1 hG O hN (by omega) (by omega) hM hrt hI h1 h2 h3 (a := a) (b := b) (la := la) (σ0 := σ) (F := F) (fun σZ FZ x hRZ hfZ hFZ hZ6 => ?_) (la.length + 1) a la [] _ _ (by omega) ha hca rfl hR1 hf1 (fun j hj => by simp [va_up, hj]) (fun j hj => by rw [show va_up F 6 g1 6 = g1 by simp [va_up]]; rw [hfv1 j hj]; simp)
  have hb12 := (hI.2.1 b hb).1
  have hbb12 := hI.base12 hb12
  refine v_aload_n O dX8_common_52 rfl 0 rfl ?_
  refine v_getf (C := RX8) (T := TX8) (N := 11) (v := .ref (ad 3)) O in_X8 hRZ.ob rfl 3 (by decide) rfl q229 rfl dX8_common_53 ?_
  refine v_iload_n O dX8_common_56 rfl 2 rfl ?_
  refine v_iald (f := FZ 3) O (hRZ.ar 3 rfl) (by omega) (by omega) dX8_common_57 ?_
  refine v_top (y := nI (base b)) (by rw [hFZ 3 (by omega), h3 b hb12, oI_n hbb12]) ?_
  refine v_istore (lv' := [(4, .int (nI (base b))), (0, .ref t), (1, .int (nI a)), (2, .int (nI b)), (3, .int (nI x))]) O hN dX8_common_58 (by decide) rfl ?_
  refine v_lv [1, 2, 3, 4, 0] rfl ?_
  refine l_X8_common2 hG O hN (by omega) (by omega) hRZ hM hrt hI (by rw [hFZ 1 (by omega)]; exact h1) (by rw [hFZ 2 (by omega)]; exact h2) (by rw [hFZ 3 (by omega)]; exact h3) (a := a) (b := b) (la := la) (lb := lb) hZ6 hca (fun y PP QQ hy12 e1 e2 e3 => ?_) (lb.length + 1) (base b) lb [] (by omega) (hI.2.1 b hb).2.2.1 (hI.2.1 b hb).2.2.2 hcb rfl (fun z hz => (nomatch hz))
  obtain ⟨A, w, R, LA, B, w2, R2, LB, g1, g2, g3⟩ := hI.arms ha hb hca hcb e1 e2 e3
  refine v_iload O dX8_common_92 4 rfl ?_
  exact v_iret O rfl dX8_common_94 (by omega) (by omega) (⟨y, A, w, R, LA, B, w2, R2, LB, FZ, rfl, hy12, g1, g2, g3, hRZ, hfZ, hFZ⟩)
