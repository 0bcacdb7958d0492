/-! OddPairs: what it holds; what others keep -/
/-- cells of objects that stand already, and that are not these, stay -/
def FrX (W : List Nat) (σ σ' : vSt) : Prop := ∀ (a : Nat) (e : vCel), σ a = some e → e.1 ∉ W → (∃ c, σ e.1 = some (e.1, c)) → σ' a = some e
def Fresh (σ : vSt) (W W' : List Nat) : Prop := ∀ q, q ∈ W' → q ∈ W ∨ ∀ c, σ q ≠ some (q, c)
theorem Fresh.rf {σ : vSt} {W : List Nat} : Fresh σ W W := fun _ h => .inl h
theorem Fresh.sub {σ : vSt} {W W' : List Nat} (h : ∀ q, q ∈ W' → q ∈ W) : Fresh σ W W' := fun q hq => .inl (h q hq)
theorem FrX.rf {W : List Nat} {σ : vSt} : FrX W σ σ := fun _ _ h _ _ => h
theorem FrX.of {W T : List Nat} {σ σ' : vSt} (h : FrL T σ σ') (hT : Fresh σ W T) : FrX W σ σ' := fun a e h1 h2 ⟨c, h3⟩ => h a e h1 fun h4 => (hT _ h4).elim h2 fun h5 => h5 c h3
theorem FrX.self {W : List Nat} {σ σ' : vSt} (h : FrX W σ σ') {o : Nat} {c : (Nat × vp_A) ⊕ (Nat × List Value)} (ho : σ o = some (o, c)) (hn : o ∉ W) : σ' o = some (o, c) := h o _ ho hn ⟨c, ho⟩
theorem FrX.trL {W T : List Nat} {σ σ1 σ2 : vSt} (h1 : FrX W σ σ1) (h2 : FrL T σ1 σ2) (hT : Fresh σ W T) : FrX W σ σ2 := fun a e e1 e2 ⟨c, e3⟩ => h2 a e (h1 a e e1 e2 ⟨c, e3⟩) fun h4 => (hT _ h4).elim e2 fun h5 => h5 c e3
theorem FrX.tr {W W1 : List Nat} {σ σ1 σ2 : vSt} (h1 : FrX W σ σ1) (h2 : FrX W1 σ1 σ2) (hW : Fresh σ W W1) : FrX W σ σ2 := fun a e e1 e2 ⟨c, e3⟩ => h2 a e (h1 a e e1 e2 ⟨c, e3⟩) (fun h4 => (hW _ h4).elim e2 fun h5 => h5 c e3) ⟨c, h1.self e3 e2⟩
theorem Fresh.tr {W W1 W2 : List Nat} {σ σ1 : vSt} (h1 : Fresh σ W W1) (h2 : Fresh σ1 W1 W2) (hf : FrX W σ σ1) : Fresh σ W W2 := fun q hq => (h2 q hq).elim (h1 q) fun h => by
  by_cases hq2 : q ∈ W
  · exact .inl hq2
  · exact .inr fun c hc => h c (hf.self hc hq2)
def tapeI (b : Nat) : Int32 := (nI b).toInt8.toInt32
/-- the networks that are kept, the oldest first -/
def KepAt (σ : vSt) (ks : List Nat) (Ns : List NetM) : Prop := ks.length = Ns.length ∧ ∀ (i : Nat) (N : NetM), Ns[i]? = some N → NetAt σ (ks.getD i 0) N
theorem KepAt.fr {M : List Nat} {σ σ' : vSt} {ks : List Nat} {Ns : List NetM} (h : KepAt σ ks Ns) (hf : FrL M σ σ') (hm : ∀ k ∈ ks, k ∉ M) : KepAt σ' ks Ns := ⟨h.1, fun i N e => (h.2 i N e).fr hf (by
  have hi : i < ks.length := by rw [h.1]; exact (List.getElem?_eq_some_iff.mp e).1
  rw [List.getD_eq_getElem?_getD, List.getElem?_eq_getElem hi]
  exact hm _ (List.getElem_mem hi))⟩
def XIs (I : Nat → Int32) (F : Nat → Nat → Int32) (S : SysM) : Prop := I 4 = nI (sTp S) ∧ I 5 = sPl S ∧ (∀ j, j < 500 → F 0 j = tapeI (sTb S j)) ∧ ∀ r, r < 3 → F 1 r = sRf S r
def ClsAt (σ : vSt) (x : Nat) (W : List Nat) (S : SysM) : Prop := ∃ (ad : Nat → Nat) (I : Nat → Int32) (F : Nat → Nat → Int32) (L : Nat → Nat → Int64) (ks : List Nat), W = x :: ad 2 :: ad 3 :: ks ∧ RecAt layX σ x ad I F L ∧ DeqAt σ (ad 2) ks ∧ NetAt σ (ad 3) (sN S) ∧ KepAt σ ks (sKs S) ∧ (x :: ad 2 :: ad 3 :: ks).Pairwise (fun a b => a ≠ b) ∧ XIs I F S
theorem Wd {x d h : Nat} {ks : List Nat} (hW : (x :: d :: h :: ks).Pairwise (fun a b => a ≠ b)) : x ≠ d ∧ x ≠ h ∧ d ≠ h ∧ x ∉ ks ∧ d ∉ ks ∧ h ∉ ks := by
  obtain ⟨h1, h2⟩ := List.pairwise_cons.mp hW
  obtain ⟨h3, h4⟩ := List.pairwise_cons.mp h2
  obtain ⟨h5, h6⟩ := List.pairwise_cons.mp h4
  exact ⟨h1 d (by simp), h1 h (by simp), h3 h (by simp), fun e => h1 x (by simp [e]) rfl, fun e => h3 d (by simp [e]) rfl, fun e => h5 h e rfl⟩
/-- the object's own cells are written -/
theorem ClsAt.recw {σ σ' : vSt} {x : Nat} {S S' : SysM} {ad : Nat → Nat} {I' : Nat → Int32} {F' : Nat → Nat → Int32} {L : Nat → Nat → Int64} {ks : List Nat} (hR' : RecAt layX σ' x ad I' F' L) (hD : DeqAt σ (ad 2) ks) (hN : NetAt σ (ad 3) (sN S)) (hK : KepAt σ ks (sKs S)) (hW : (x :: ad 2 :: ad 3 :: ks).Pairwise (fun a b => a ≠ b)) (hf : FrL [x] σ σ') (hX : XIs I' F' S') (e1 : sKs S' = sKs S) (e2 : sN S' = sN S) : ClsAt σ' x (x :: ad 2 :: ad 3 :: ks) S' := by
  obtain ⟨w1, w2, w3, w4, w5, w6⟩ := Wd hW
  refine ⟨ad, I', F', L, ks, rfl, hR', hD.fr hf (by simp [Ne.symm w1]), ?_, ?_, hW, hX⟩
  · rw [e2]; exact hN.fr hf (by simp [Ne.symm w2])
  · rw [e1]; exact hK.fr hf fun k hk => by simp; exact fun e => w4 (e ▸ hk)
/-- the network is written -/
theorem ClsAt.netw {σ σ' : vSt} {x : Nat} {S : SysM} {N' : NetM} {ad : Nat → Nat} {I : Nat → Int32} {F : Nat → Nat → Int32} {L : Nat → Nat → Int64} {ks : List Nat} (hR : RecAt layX σ x ad I F L) (hD : DeqAt σ (ad 2) ks) (hN : NetAt σ' (ad 3) N') (hK : KepAt σ ks (sKs S)) (hW : (x :: ad 2 :: ad 3 :: ks).Pairwise (fun a b => a ≠ b)) (hf : FrL [ad 3] σ σ') (hX : XIs I F S) : ClsAt σ' x (x :: ad 2 :: ad 3 :: ks) (setN S N') := by
  obtain ⟨w1, w2, w3, w4, w5, w6⟩ := Wd hW
  exact ⟨ad, I, F, L, ks, rfl, hR.fr hf (by simp [w2]), hD.fr hf (by simp [w3]), hN, hK.fr hf (fun k hk => by simp; exact fun e => w6 (e ▸ hk)), hW, hX⟩
/-- what a call does to all that the object holds -/
def XPost (σ σ9 : vSt) (x : Nat) (W : List Nat) (S' : SysM) : Prop := ∃ W' : List Nat, ClsAt σ9 x W' S' ∧ FrX W σ σ9 ∧ Fresh σ W W'
theorem XPost.rf {σ : vSt} {x : Nat} {W : List Nat} {S : SysM} (h : ClsAt σ x W S) : XPost σ σ x W S := ⟨W, h, FrX.rf, Fresh.rf⟩
theorem XPost.tr {σ σ1 σ2 : vSt} {x : Nat} {W W1 : List Nat} {S2 : SysM} (f1 : FrX W σ σ1) (g1 : Fresh σ W W1) (h2 : XPost σ1 σ2 x W1 S2) : XPost σ σ2 x W S2 := by
  obtain ⟨W', a1, a2, a3⟩ := h2
  exact ⟨W', a1, f1.tr a2 g1, g1.tr a3 f1⟩
/-- the exception of a number -/
def excT (t : Nat) : String := if t = 1 then "java/util/NoSuchElementException" else if t = 2 then "java/lang/IllegalArgumentException" else "java/lang/IllegalStateException"
theorem c_X1_needThere {G : vGC} (hG : vGok G) {σ : vSt} {x : Nat} {W : List Nat} {S : SysM} (hC : ClsAt σ x W S) {b : Bool} : Ct G yX1_needThere (ws_ yX1_needThere cX1_needThere 2 none) 6 1 6 σ [.ref x, .int (bI b)] (fun v σ9 => v = none ∧ b = true ∧ σ9 = σ) (fun E q σ9 => b = false ∧ E = "java/util/NoSuchElementException" ∧ XPost σ σ9 x W (refS S 0)) := by
  refine ct_of hG (by decide) (Nat.le_of_ble_eq_true rfl) fun X hN O hnm htb => ?_
  show V G X _ 0 0 σ 0 [(0, .ref x), (1, .int (bI b))] []
  obtain ⟨ad, I, F, L, ks, rfl, hR, hD, hN0, hK, hW, hX⟩ := id hC
  obtain ⟨w1, w2, w3, w4, w5, w6⟩ := Wd hW
  obtain ⟨hX4, hX5, hXF, hXR⟩ := id hX
  refine v_iload_n O dX1_needThere_0 rfl 1 rfl ?_
  refine v_if_eqB (tgt := 5) O dX1_needThere_1 (by decide) (fun h_1 => ?_) (fun h_1 => ?_)
  · refine v_aload_n O dX1_needThere_5 rfl 0 rfl ?_
    refine v_getf (C := RX1) (T := TX1) (N := 6) (v := .ref (ad 1)) O in_X1 hR.ob rfl 1 (by decide) rfl q176 rfl dX1_needThere_6 ?_
    refine v_iconst (v := nI 0) O dX1_needThere_9 (by decide) ?_
    refine v_dup2 O dX1_needThere_10 rfl rfl ?_
    refine v_iald (f := F 1) O (hR.ar 1 rfl) (by omega) (by omega) dX1_needThere_11 ?_
    refine v_iconst (v := nI 1) O dX1_needThere_12 (by decide) ?_
    refine v_iadd (z := ((F 1 0) + nI 1)) O dX1_needThere_13 rfl ?_
    refine r_iast (K := layX) O hR 1 rfl (by omega) (by omega) dX1_needThere_14 (fun σ1 hR1 hf1 => ?_)
    exact v_throw0 O (names := excN) (by decide) (by decide) q1161 q98 (thrW_0 O) thrG_0 dX1_needThere_15 dX1_needThere_18 dX1_needThere_19 dX1_needThere_22 (fun z hz => (htb z hz).elim) (by show 2 + 4 ≤ 6; omega) (by omega) (by omega) (fun q hq => ⟨h_1, rfl, _, ClsAt.recw hR1 hD hN0 hK hW hf1 ⟨hX4, hX5, fun j hj => hXF j hj, fun j hj => by
      show va_up (F 1) 0 _ j = va_up (sRf S) 0 _ j
      simp only [va_up]
      split
      · rw [hXR 0 (by omega)]
      · exact hXR j hj⟩ rfl rfl, FrX.of hf1 (fun q hq => .inl (by simp at hq; simp [hq])), Fresh.rf⟩)
  · exact v_vret O rfl dX1_needThere_4 (by omega) (by omega) (⟨rfl, h_1, rfl⟩)
theorem c_X1_need {G : vGC} (hG : vGok G) {σ : vSt} {x : Nat} {W : List Nat} {S : SysM} (hC : ClsAt σ x W S) {b : Bool} : Ct G yX1_need (ws_ yX1_need cX1_need 2 none) 6 1 6 σ [.ref x, .int (bI b)] (fun v σ9 => v = none ∧ b = true ∧ σ9 = σ) (fun E q σ9 => b = false ∧ E = "java/lang/IllegalArgumentException" ∧ XPost σ σ9 x W (refS S 1)) := by
  refine ct_of hG (by decide) (Nat.le_of_ble_eq_true rfl) fun X hN O hnm htb => ?_
  show V G X _ 0 0 σ 0 [(0, .ref x), (1, .int (bI b))] []
  obtain ⟨ad, I, F, L, ks, rfl, hR, hD, hN0, hK, hW, hX⟩ := id hC
  obtain ⟨w1, w2, w3, w4, w5, w6⟩ := Wd hW
  obtain ⟨hX4, hX5, hXF, hXR⟩ := id hX
  refine v_iload_n O dX1_need_0 rfl 1 rfl ?_
  refine v_if_eqB (tgt := 5) O dX1_need_1 (by decide) (fun h_1 => ?_) (fun h_1 => ?_)
  · refine v_aload_n O dX1_need_5 rfl 0 rfl ?_
    refine v_getf (C := RX1) (T := TX1) (N := 6) (v := .ref (ad 1)) O in_X1 hR.ob rfl 1 (by decide) rfl q176 rfl dX1_need_6 ?_
    refine v_iconst (v := nI 1) O dX1_need_9 (by decide) ?_
    refine v_dup2 O dX1_need_10 rfl rfl ?_
    refine v_iald (f := F 1) O (hR.ar 1 rfl) (by omega) (by omega) dX1_need_11 ?_
    refine v_iconst (v := nI 1) O dX1_need_12 (by decide) ?_
    refine v_iadd (z := ((F 1 1) + nI 1)) O dX1_need_13 rfl ?_
    refine r_iast (K := layX) O hR 1 rfl (by omega) (by omega) dX1_need_14 (fun σ1 hR1 hf1 => ?_)
    exact v_throw0 O (names := excN) (by decide) (by decide) q558 q81 (thrW_1 O) thrG_1 dX1_need_15 dX1_need_18 dX1_need_19 dX1_need_22 (fun z hz => (htb z hz).elim) (by show 2 + 4 ≤ 6; omega) (by omega) (by omega) (fun q hq => ⟨h_1, rfl, _, ClsAt.recw hR1 hD hN0 hK hW hf1 ⟨hX4, hX5, fun j hj => hXF j hj, fun j hj => by
      show va_up (F 1) 1 _ j = va_up (sRf S) 1 _ j
      simp only [va_up]
      split
      · rw [hXR 1 (by omega)]
      · exact hXR j hj⟩ rfl rfl, FrX.of hf1 (fun q hq => .inl (by simp at hq; simp [hq])), Fresh.rf⟩)
  · exact v_vret O rfl dX1_need_4 (by omega) (by omega) (⟨rfl, h_1, rfl⟩)
theorem c_X1_needNow {G : vGC} (hG : vGok G) {σ : vSt} {x : Nat} {W : List Nat} {S : SysM} (hC : ClsAt σ x W S) {b : Bool} : Ct G yX1_needNow (ws_ yX1_needNow cX1_needNow 2 none) 6 1 6 σ [.ref x, .int (bI b)] (fun v σ9 => v = none ∧ b = true ∧ σ9 = σ) (fun E q σ9 => b = false ∧ E = "java/lang/IllegalStateException" ∧ XPost σ σ9 x W (refS S 2)) := by
  refine ct_of hG (by decide) (Nat.le_of_ble_eq_true rfl) fun X hN O hnm htb => ?_
  show V G X _ 0 0 σ 0 [(0, .ref x), (1, .int (bI b))] []
  obtain ⟨ad, I, F, L, ks, rfl, hR, hD, hN0, hK, hW, hX⟩ := id hC
  obtain ⟨w1, w2, w3, w4, w5, w6⟩ := Wd hW
  obtain ⟨hX4, hX5, hXF, hXR⟩ := id hX
  refine v_iload_n O dX1_needNow_0 rfl 1 rfl ?_
  refine v_if_eqB (tgt := 5) O dX1_needNow_1 (by decide) (fun h_1 => ?_) (fun h_1 => ?_)
  · refine v_aload_n O dX1_needNow_5 rfl 0 rfl ?_
    refine v_getf (C := RX1) (T := TX1) (N := 6) (v := .ref (ad 1)) O in_X1 hR.ob rfl 1 (by decide) rfl q176 rfl dX1_needNow_6 ?_
    refine v_iconst (v := nI 2) O dX1_needNow_9 (by decide) ?_
    refine v_dup2 O dX1_needNow_10 rfl rfl ?_
    refine v_iald (f := F 1) O (hR.ar 1 rfl) (by omega) (by omega) dX1_needNow_11 ?_
    refine v_iconst (v := nI 1) O dX1_needNow_12 (by decide) ?_
    refine v_iadd (z := ((F 1 2) + nI 1)) O dX1_needNow_13 rfl ?_
    refine r_iast (K := layX) O hR 1 rfl (by omega) (by omega) dX1_needNow_14 (fun σ1 hR1 hf1 => ?_)
    exact v_throw0 O (names := excN) (by decide) (by decide) q1176 q99 (thrW_2 O) thrG_2 dX1_needNow_15 dX1_needNow_18 dX1_needNow_19 dX1_needNow_22 (fun z hz => (htb z hz).elim) (by show 2 + 4 ≤ 6; omega) (by omega) (by omega) (fun q hq => ⟨h_1, rfl, _, ClsAt.recw hR1 hD hN0 hK hW hf1 ⟨hX4, hX5, fun j hj => hXF j hj, fun j hj => by
      show va_up (F 1) 2 _ j = va_up (sRf S) 2 _ j
      simp only [va_up]
      split
      · rw [hXR 2 (by omega)]
      · exact hXR j hj⟩ rfl rfl, FrX.of hf1 (fun q hq => .inl (by simp at hq; simp [hq])), Fresh.rf⟩)
  · exact v_vret O rfl dX1_needNow_4 (by omega) (by omega) (⟨rfl, h_1, rfl⟩)
