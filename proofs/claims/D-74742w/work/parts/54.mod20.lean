/-- the new row, as far as it is laid: mates of the first x', lines of the first x, and of x to the first y -/
def PartE (M : NetM) (mt : Nat → Int32) (g nn : Nat) (f : Nat → Int32) (x x' y : Nat) : Prop := f 0 = nI nn ∧ (∀ u, u < x' → g.testBit u = false → f (1 + numN g u) = mt u) ∧ (∀ u v, v < u → (u < x ∨ (u = x ∧ v < y)) → g.testBit u = false → g.testBit v = false → f (13 + 12 * numN g u + numN g v) = M.2.1 u v ∧ f (13 + 12 * numN g v + numN g u) = M.2.1 u v) ∧ ∀ i, i < 12 → f (13 + 12 * i + i) = -1
theorem PartE.gone {M : NetM} {mt : Nat → Int32} {g nn : Nat} {f : Nat → Int32} {x : Nat} (h : PartE M mt g nn f x x 0) (hg : g.testBit x = true) : PartE M mt g nn f (x + 1) (x + 1) 0 := by
  obtain ⟨h0, h1, h2, h3⟩ := h
  refine ⟨h0, fun u hu hug => ?_, fun u v hv hu hug hvg => ?_, h3⟩
  · by_cases e : u = x
    · subst e; rw [hg] at hug; cases hug
    · exact h1 u (by omega) hug
  · by_cases e : u = x
    · subst e; rw [hg] at hug; cases hug
    · exact h2 u v hv (Or.inl (by omega)) hug hvg
theorem PartE.mate {M : NetM} {mt : Nat → Int32} {g nn : Nat} {f : Nat → Int32} {x : Nat} {w : Int32} (h : PartE M mt g nn f x x 0) (hx : x < 12) (hw : w = mt x) : PartE M mt g nn (va_up f (1 + numN g x) w) x (x + 1) 0 := by
  obtain ⟨h0, h1, h2, h3⟩ := h
  have hx1 : numN g x ≤ x := numN_le
  refine ⟨by rw [vu, if_neg (by omega)]; exact h0, fun u hu hug => ?_, fun u v hv hu hug hvg => ?_, fun i hi => by rw [vu, if_neg (by omega)]; exact h3 i hi⟩
  · rw [vu]
    by_cases e : u = x
    · rw [if_pos (by rw [e]), hw, e]
    · have := numN_lt (show u < x by omega) hug
      rw [if_neg (by omega)]
      exact h1 u (by omega) hug
  · rw [vu, vu, if_neg (by omega), if_neg (by omega)]
    exact h2 u v hv hu hug hvg
theorem PartE.line {M : NetM} {mt : Nat → Int32} {g nn : Nat} {f : Nat → Int32} {x y : Nat} {w : Int32} (h : PartE M mt g nn f x (x + 1) y) (hx : x < 12) (hyx : y < x) (hxg : g.testBit x = false) (hyg : g.testBit y = false) (hw : w = M.2.1 x y) : PartE M mt g nn (va_up (va_up f (13 + 12 * numN g x + numN g y) w) (13 + 12 * numN g y + numN g x) w) x (x + 1) (y + 1) := by
  obtain ⟨h0, h1, h2, h3⟩ := h
  have hx1 : numN g x ≤ x := numN_le
  have hyx1 := numN_lt hyx hyg
  refine ⟨by rw [vu, vu, if_neg (by omega), if_neg (by omega)]; exact h0, fun u hu hug => ?_, fun u v hv hu hug hvg => ?_, fun i hi => by rw [vu, vu, if_neg (by omega), if_neg (by omega)]; exact h3 i hi⟩
  · have hu1 : numN g u ≤ numN g x := numN_mono (by omega)
    rw [vu, vu, if_neg (by omega), if_neg (by omega)]
    exact h1 u hu hug
  · have hvu := numN_lt hv hvg
    have hu1 : numN g u ≤ numN g x := numN_mono (by omega)
    by_cases e : u = x ∧ v = y
    · obtain ⟨rfl, rfl⟩ := e
      rw [vu, vu, vu, vu]
      rw [if_pos rfl, if_pos rfl, hw]
      refine ⟨?_, rfl⟩
      split
      · rfl
      · rfl
    · have hne : ¬ (numN g u = numN g x ∧ numN g v = numN g y) := fun ⟨a, b⟩ => e ⟨numN_inj hug hxg a, numN_inj hvg hyg b⟩
      rw [vu, vu, vu, vu, if_neg (by omega), if_neg (by omega), if_neg (by omega), if_neg (by omega)]
      refine h2 u v hv ?_ hug hvg
      rcases hu with hu | ⟨hu, hu'⟩
      · exact Or.inl hu
      · exact Or.inr ⟨hu, by omega⟩
theorem PartE.skip {M : NetM} {mt : Nat → Int32} {g nn : Nat} {f : Nat → Int32} {x y : Nat} (h : PartE M mt g nn f x (x + 1) y) (hyg : g.testBit y = true) : PartE M mt g nn f x (x + 1) (y + 1) := by
  obtain ⟨h0, h1, h2, h3⟩ := h
  refine ⟨h0, h1, fun u v hv hu hug hvg => ?_, h3⟩
  refine h2 u v hv ?_ hug hvg
  rcases hu with hu | ⟨hu, hu'⟩
  · exact Or.inl hu
  · refine Or.inr ⟨hu, ?_⟩
    have : v ≠ y := fun e => by rw [e, hyg] at hvg; cases hvg
    omega
theorem PartE.next {M : NetM} {mt : Nat → Int32} {g nn : Nat} {f : Nat → Int32} {x : Nat} (h : PartE M mt g nn f x (x + 1) x) : PartE M mt g nn f (x + 1) (x + 1) 0 := by
  obtain ⟨h0, h1, h2, h3⟩ := h
  refine ⟨h0, h1, fun u v hv hu hug hvg => h2 u v hv ?_ hug hvg, h3⟩
  by_cases e : u = x
  · exact Or.inr ⟨e, by omega⟩
  · exact Or.inl (by omega)
theorem wm_sym {N : NetM} (hN : okN N) {a : Nat} {cur : Nat → Int32} {x y : Nat} (hx : x < N.1) (hy : y < N.1) : (wmN N a cur).2.1 x y = (wmN N a cur).2.1 y x := by
  show (if x = a ∧ y ≠ a then cur y else if y = a ∧ x ≠ a then cur x else N.2.1 x y) = (if y = a ∧ x ≠ a then cur x else if x = a ∧ y ≠ a then cur y else N.2.1 y x)
  by_cases e1 : x = a ∧ y ≠ a
  · rw [if_pos e1, if_neg (fun h => e1.2 h.1), if_pos e1]
  · rw [if_neg e1]
    by_cases e2 : y = a ∧ x ≠ a
    · rw [if_pos e2, if_pos e2]
    · rw [if_neg e2, if_neg e2, if_neg e1]
      exact hN.2.2.1 x y hx hy
theorem PartE.done {N : NetM} (hN : okN N) {a : Nat} {r : List Nat} {f : Nat → Int32} (h : PartE (wmN N a (curN N a r)) (mateM N (goneR r)) (goneR r) (numN (goneR r) N.1) f N.1 N.1 0) : Enc f (shrN N a r) := by
  obtain ⟨h0, h1, h2, h3⟩ := h
  have hn := hN.2.1
  have hnn : numN (goneR r) N.1 ≤ N.1 := numN_le
  refine ⟨h0, fun i hi => ?_, fun i j hi hj => ?_⟩
  · obtain ⟨x, hx, hg, rfl⟩ := numN_on (n := N.1) N.1 (show i < numN (goneR r) N.1 from hi)
    show _ = mateM N (goneR r) (whoN (goneR r) N.1 (numN (goneR r) x))
    rw [whoN_num hx hg]
    exact h1 x hx hg
  · have hi' : i < numN (goneR r) N.1 := hi
    obtain ⟨x, hx, hg, rfl⟩ := numN_on (n := N.1) N.1 hi'
    obtain ⟨y, hy, hgy, rfl⟩ := numN_on (n := N.1) N.1 (show j < numN (goneR r) N.1 from hj)
    show _ = if numN (goneR r) x = numN (goneR r) y then -1 else (wmN N a (curN N a r)).2.1 (whoN (goneR r) N.1 (numN (goneR r) x)) (whoN (goneR r) N.1 (numN (goneR r) y))
    rw [whoN_num hx hg, whoN_num hy hgy]
    rcases Nat.lt_trichotomy x y with e | e | e
    · rw [if_neg (by have := numN_lt e hg; omega), (h2 y x e (Or.inl hy) hgy hg).2]
      exact wm_sym hN hy hx
    · subst e
      rw [if_pos rfl]
      exact h3 _ (by omega)
    · rw [if_neg (by have := numN_lt e hgy; omega)]
      exact (h2 x y e (Or.inl hx) hg hgy).1
theorem l_X3_shrink_y {G : vGC} (hG : vGok G) {X : vCX} {Q : State → Prop} {c0 n0 : Nat} (O : vOk G X yX3_shrink.cls cX3_shrink (some .int) 16 0 0) (hN : xn X = 6) (hcm0 : c0 ≤ 0) (hsm0 : n0 ≤ 0) {σ0 : vSt} {m : Nat} {ad : Nat → Nat} {I : Nat → Int32} {F : Nat → Nat → Int32} {L : Nat → Nat → Int64} {N M : NetM} (hN0 : okN N) (hT : Enc (F 10) M) (hM1 : M.1 = N.1) (hM2 : M.2.2 = N.2.2) {a g : Nat} (hg : g < 4096) (h26 : ∀ j, j < N.1 → F 26 j = nI (numN g j)) {x : Nat} (hx : x < N.1) (hxg : g.testBit x = false) (kx : ∀ (σ : vSt) (F' : Nat → Nat → Int32), RecAt layM σ m ad I F' L → FrL [m] σ0 σ → (∀ j, j ≠ 9 → F' j = F j) → PartE M (mateM N g) g (numN g N.1) (F' 9) x (x + 1) x → V G X Q c0 n0 σ 390 [(0, .ref m), (1, .int (nI a)), (2, .int (nI g)), (3, .int (nI (numN g N.1))), (4, .int (nI x))] []) : ∀ (k : Nat) (y : Nat) (σ : vSt) (F' : Nat → Nat → Int32), (x < y + k) → (y ≤ x) → (RecAt layM σ m ad I F' L) → (FrL [m] σ0 σ) → (∀ j, j ≠ 9 → F' j = F j) → (PartE M (mateM N g) g (numN g N.1) (F' 9) x (x + 1) y) → V G X Q c0 n0 σ 331 [(0, .ref m), (1, .int (nI a)), (2, .int (nI g)), (3, .int (nI (numN g N.1))), (4, .int (nI x)), (5, .int (nI y))] [] := by
  intro k
  induction k with
  | zero => intro y σ F' h0 h1 hR hf ho hP; exact absurd h0 (by omega)
  | succ k ih =>
    intro y σ F' h0 h1 hR hf ho hP
    have hn := hN0.2.1
    have hnx : numN g x ≤ x := numN_le
    have hny : numN g y ≤ y := numN_le
    refine v_iload O dX3_shrink_331 5 rfl ?_
    refine v_iload O dX3_shrink_333 4 rfl ?_
    refine v_icmp_geN (tgt := 390) O dX3_shrink_335 (by decide) (by omega) (by omega) (fun h_335 => ?_) (fun h_335 => ?_)
    · obtain rfl : y = x := by omega
      exact v_lv [0, 1, 2, 3, 4] rfl (kx σ F' hR hf ho hP)
    · refine v_iload_n O dX3_shrink_338 rfl 2 rfl ?_
      refine v_iload O dX3_shrink_339 5 rfl ?_
      refine v_callS (as := [.int (nI g), .int (nI y)]) (rest := []) O (c_X3_has hG (s := g) (k := y) (by omega) (by omega)) q1741 q1742 q77 q1743 mdX3_has rfl (by decide) (by omega) (by omega) (by omega) (Nat.le_of_ble_eq_true rfl) rfl dX3_shrink_341 (fun v9 σ9 hp9 => ?_) (fun _ _ _ h => False.elim h)
      obtain ⟨rfl, hs9⟩ := hp9
      obtain rfl := hs9.symm
      refine v_if_neB (tgt := 384) O dX3_shrink_344 (by decide) (fun h_344 => ?_) (fun h_344 => ?_)
      · refine v_iinc (v := nI (y + 1)) (lv' := [(5, .int (nI (y + 1))), (0, .ref m), (1, .int (nI a)), (2, .int (nI g)), (3, .int (nI (numN g N.1))), (4, .int (nI x))]) O hN dX3_shrink_384 5 rfl (nI_add y 1) (by decide) rfl ?_
        refine v_goto (tgt := 331) O dX3_shrink_387 (by decide) ?_
        refine v_lv [1, 2, 3, 4, 5, 0] rfl ?_
        exact ih (y + 1) _ F' (by omega) (by omega) hR hf ho (hP.skip h_344)
      · refine v_aload_n O dX3_shrink_347 rfl 0 rfl ?_
        refine v_getf (C := RX3) (T := TX3) (N := 27) (v := .ref (ad 9)) O in_X3 hR.ob rfl 9 (by decide) rfl q1501 rfl dX3_shrink_348 ?_
        refine v_aload_n O dX3_shrink_351 rfl 0 rfl ?_
        refine v_getf (C := RX3) (T := TX3) (N := 27) (v := .ref (ad 26)) O in_X3 hR.ob rfl 26 (by decide) rfl q1518 rfl dX3_shrink_352 ?_
        refine v_iload O dX3_shrink_355 4 rfl ?_
        refine v_iald (f := F' 26) O (hR.ar 26 rfl) (by omega) (by omega) dX3_shrink_357 ?_
        refine v_top (y := nI (numN g x)) (by rw [ho 26 (by omega)]; exact h26 _ (by omega)) ?_
        refine v_aload_n O dX3_shrink_358 rfl 0 rfl ?_
        refine v_getf (C := RX3) (T := TX3) (N := 27) (v := .ref (ad 26)) O in_X3 hR.ob rfl 26 (by decide) rfl q1518 rfl dX3_shrink_359 ?_
        refine v_iload O dX3_shrink_362 5 rfl ?_
        refine v_iald (f := F' 26) O (hR.ar 26 rfl) (by omega) (by omega) dX3_shrink_364 ?_
        refine v_top (y := nI (numN g y)) (by rw [ho 26 (by omega)]; exact h26 _ (by omega)) ?_
        refine v_aload_n O dX3_shrink_365 rfl 0 rfl ?_
        refine v_getf (C := RX3) (T := TX3) (N := 27) (v := .ref (ad 10)) O in_X3 hR.ob rfl 10 (by decide) rfl q1502 rfl dX3_shrink_366 ?_
        refine v_bipush (v := nI 13) O dX3_shrink_369 (by decide) ?_
        refine v_bipush (v := nI 12) O dX3_shrink_371 (by decide) ?_
        refine v_iload O dX3_shrink_373 4 rfl ?_
        refine v_imul (z := nI (12 * x)) O dX3_shrink_375 (pk_mul 12 x) ?_
        refine v_iadd (z := nI (13 + (12 * x))) O dX3_shrink_376 (nI_add 13 (12 * x)) ?_
        refine v_iload O dX3_shrink_377 5 rfl ?_
        refine v_iadd (z := nI ((13 + (12 * x)) + y)) O dX3_shrink_379 (nI_add (13 + (12 * x)) y) ?_
        refine v_iald (f := F' 10) O (hR.ar 10 rfl) (by omega) (by omega) dX3_shrink_380 ?_
        refine v_top (y := (M.2.1 x y)) (by rw [ho 10 (by omega)]; exact hT.2.2 x y (by omega) (by omega)) ?_
        refine v_callS (as := [.ref (ad 9), .int (nI (numN g x)), .int (nI (numN g y)), .int (M.2.1 x y)]) (rest := []) O (c_X3_joins hG (f := F' 9) (a := numN g x) (b := numN g y) (w := (M.2.1 x y)) hR.nz (hR.ar 9 rfl) (by omega) (by omega)) q1485 q1486 q77 q1487 mdX3_joins rfl (by decide) (by omega) (by omega) (by omega) (Nat.le_of_ble_eq_true rfl) rfl dX3_shrink_381 (fun v9 σ9 hp9 => ?_) (fun _ _ _ h => False.elim h)
        obtain ⟨rfl, rfl⟩ := hp9
        have hR1 := hR.sa (9) rfl (va_up (va_up (F' 9) (13 + 12 * (numN g x) + (numN g y)) (M.2.1 x y)) (13 + 12 * (numN g y) + (numN g x)) (M.2.1 x y))
        have hf1 := FrL.up (L := [m]) (e' := (m, .inl (0, 157, .inl (va_up (va_up (F' 9) (13 + 12 * (numN g x) + (numN g y)) (M.2.1 x y)) (13 + 12 * (numN g y) + (numN g x)) (M.2.1 x y))))) (hR.ar 9 rfl) (by simp)
        generalize vUp σ (ad (9)) (m, .inl (0, 157, .inl (va_up (va_up (F' 9) (13 + 12 * (numN g x) + (numN g y)) (M.2.1 x y)) (13 + 12 * (numN g y) + (numN g x)) (M.2.1 x y)))) = σ1 at hR1 hf1 ⊢
        refine v_iinc (v := nI (y + 1)) (lv' := [(5, .int (nI (y + 1))), (0, .ref m), (1, .int (nI a)), (2, .int (nI g)), (3, .int (nI (numN g N.1))), (4, .int (nI x))]) O hN dX3_shrink_384 5 rfl (nI_add y 1) (by decide) rfl ?_
        refine v_goto (tgt := 331) O dX3_shrink_387 (by decide) ?_
        refine v_lv [1, 2, 3, 4, 5, 0] rfl ?_
        exact ih (y + 1) _ _ (by omega) (by omega) hR1 (hf.trans hf1) (fun j9 hj => by rw [← ho j9 hj]; funext z; simp [va_up, hj]) (by have e9 : (va_up F' (9) (va_up (va_up (F' 9) (13 + 12 * (numN g x) + (numN g y)) (M.2.1 x y)) (13 + 12 * (numN g y) + (numN g x)) (M.2.1 x y))) 9 = (va_up (va_up (F' 9) (13 + 12 * (numN g x) + (numN g y)) (M.2.1 x y)) (13 + 12 * (numN g y) + (numN g x)) (M.2.1 x y)) := (by funext z; simp [va_up]); rw [e9]; exact hP.line (by omega) (by omega) hxg h_344 rfl)
theorem l_X3_shrink_x {G : vGC} (hG : vGok G) {X : vCX} {Q : State → Prop} {c0 n0 : Nat} (O : vOk G X yX3_shrink.cls cX3_shrink (some .int) 16 0 0) (hN : xn X = 6) (hcm0 : c0 ≤ 0) (hsm0 : n0 ≤ 0) {σ0 : vSt} {m : Nat} {ad : Nat → Nat} {I : Nat → Int32} {F : Nat → Nat → Int32} {L : Nat → Nat → Int64} {N M : NetM} (hN0 : okN N) (hT : Enc (F 10) M) (hM1 : M.1 = N.1) (hM2 : M.2.2 = N.2.2) {a g : Nat} (hg : g < 4096) (h26 : ∀ j, j < N.1 → F 26 j = nI (numN g j)) (kx : ∀ (σ : vSt) (F' : Nat → Nat → Int32), RecAt layM σ m ad I F' L → FrL [m] σ0 σ → (∀ j, j ≠ 9 → F' j = F j) → PartE M (mateM N g) g (numN g N.1) (F' 9) N.1 N.1 0 → V G X Q c0 n0 σ 396 [(0, .ref m), (3, .int (nI (numN g N.1)))] []) : ∀ (k : Nat) (x : Nat) (σ : vSt) (F' : Nat → Nat → Int32), (N.1 < x + k) → (x ≤ N.1) → (RecAt layM σ m ad I F' L) → (FrL [m] σ0 σ) → (∀ j, j ≠ 9 → F' j = F j) → (PartE M (mateM N g) g (numN g N.1) (F' 9) x x 0) → V G X Q c0 n0 σ 260 [(0, .ref m), (1, .int (nI a)), (2, .int (nI g)), (3, .int (nI (numN g N.1))), (4, .int (nI x))] [] := by
  intro k
  induction k with
  | zero => intro x σ F' h0 h1 hR hf ho hP; exact absurd h0 (by omega)
  | succ k ih =>
    intro x σ F' h0 h1 hR hf ho hP
    have hn := hN0.2.1
    have hnx : numN g x ≤ x := numN_le
    refine v_iload O dX3_shrink_260 4 rfl ?_
    refine v_aload_n O dX3_shrink_262 rfl 0 rfl ?_
    refine v_getf (C := RX3) (T := TX3) (N := 27) (v := .ref (ad 10)) O in_X3 hR.ob rfl 10 (by decide) rfl q1502 rfl dX3_shrink_263 ?_
    refine v_iconst (v := nI 0) O dX3_shrink_266 (by decide) ?_
    refine v_iald (f := F' 10) O (hR.ar 10 rfl) (by omega) (by omega) dX3_shrink_267 ?_
    refine v_top (y := nI N.1) (by rw [ho 10 (by omega), ← hM1]; exact hT.1) ?_
    refine v_icmp_geN (tgt := 396) O dX3_shrink_268 (by decide) (by omega) (by omega) (fun h_268 => ?_) (fun h_268 => ?_)
    · obtain rfl : x = N.1 := by omega
      exact v_lv [0, 3] rfl (kx σ F' hR hf ho hP)
    · refine v_iload_n O dX3_shrink_271 rfl 2 rfl ?_
      refine v_iload O dX3_shrink_272 4 rfl ?_
      refine v_callS (as := [.int (nI g), .int (nI x)]) (rest := []) O (c_X3_has hG (s := g) (k := x) (by omega) (by omega)) q1741 q1742 q77 q1743 mdX3_has rfl (by decide) (by omega) (by omega) (by omega) (Nat.le_of_ble_eq_true rfl) rfl dX3_shrink_274 (fun v9 σ9 hp9 => ?_) (fun _ _ _ h => False.elim h)
      obtain ⟨rfl, hs9⟩ := hp9
      obtain rfl := hs9.symm
      refine v_if_eqB (tgt := 283) O dX3_shrink_277 (by decide) (fun h_277 => ?_) (fun h_277 => ?_)
      · refine v_aload_n O dX3_shrink_283 rfl 0 rfl ?_
        refine v_getf (C := RX3) (T := TX3) (N := 27) (v := .ref (ad 9)) O in_X3 hR.ob rfl 9 (by decide) rfl q1501 rfl dX3_shrink_284 ?_
        refine v_iconst (v := nI 1) O dX3_shrink_287 (by decide) ?_
        refine v_aload_n O dX3_shrink_288 rfl 0 rfl ?_
        refine v_getf (C := RX3) (T := TX3) (N := 27) (v := .ref (ad 26)) O in_X3 hR.ob rfl 26 (by decide) rfl q1518 rfl dX3_shrink_289 ?_
        refine v_iload O dX3_shrink_292 4 rfl ?_
        refine v_iald (f := F' 26) O (hR.ar 26 rfl) (by omega) (by omega) dX3_shrink_294 ?_
        refine v_top (y := nI (numN g x)) (by rw [ho 26 (by omega)]; exact h26 _ (by omega)) ?_
        refine v_iadd (z := nI (1 + (numN g x))) O dX3_shrink_295 (nI_add 1 (numN g x)) ?_
        refine v_aload_n O dX3_shrink_296 rfl 0 rfl ?_
        refine v_getf (C := RX3) (T := TX3) (N := 27) (v := .ref (ad 10)) O in_X3 hR.ob rfl 10 (by decide) rfl q1502 rfl dX3_shrink_297 ?_
        refine v_iconst (v := nI 1) O dX3_shrink_300 (by decide) ?_
        refine v_iload O dX3_shrink_301 4 rfl ?_
        refine v_iadd (z := nI (1 + x)) O dX3_shrink_303 (nI_add 1 x) ?_
        refine v_iald (f := F' 10) O (hR.ar 10 rfl) (by omega) (by omega) dX3_shrink_304 ?_
        refine v_top (y := (N.2.2 x)) (by rw [ho 10 (by omega), ← hM2]; exact hT.2.1 x (by omega)) ?_
        refine v_iconst (v := (-1)) O dX3_shrink_305 (by decide) ?_
        refine v_icmp_ne (tgt := 313) O dX3_shrink_306 (by decide) (fun h_306 => ?_) (fun h_306 => ?_)
        · obtain ⟨c, hc, hxc, hcx, hwc⟩ := hN0.mate (a := x) (by omega) h_306
          refine v_aload_n O dX3_shrink_313 rfl 0 rfl ?_
          refine v_getf (C := RX3) (T := TX3) (N := 27) (v := .ref (ad 26)) O in_X3 hR.ob rfl 26 (by decide) rfl q1518 rfl dX3_shrink_314 ?_
          refine v_aload_n O dX3_shrink_317 rfl 0 rfl ?_
          refine v_getf (C := RX3) (T := TX3) (N := 27) (v := .ref (ad 10)) O in_X3 hR.ob rfl 10 (by decide) rfl q1502 rfl dX3_shrink_318 ?_
          refine v_iconst (v := nI 1) O dX3_shrink_321 (by decide) ?_
          refine v_iload O dX3_shrink_322 4 rfl ?_
          refine v_iadd (z := nI (1 + x)) O dX3_shrink_324 (nI_add 1 x) ?_
          refine v_iald (f := F' 10) O (hR.ar 10 rfl) (by omega) (by omega) dX3_shrink_325 ?_
          refine v_top (y := nI c) (by rw [ho 10 (by omega), ← hxc, ← hM2]; exact hT.2.1 x (by omega)) ?_
          refine v_iald (f := F' 26) O (hR.ar 26 rfl) (by omega) (by omega) dX3_shrink_326 ?_
          refine v_top (y := nI (numN g c)) (by rw [ho 26 (by omega)]; exact h26 _ (by omega)) ?_
          refine r_iast (K := layM) O hR 9 rfl (by omega) (by omega) dX3_shrink_327 (fun σ1 hR1 hf1 => ?_)
          refine v_iconst (v := nI 0) O dX3_shrink_328 (by decide) ?_
          refine v_istore (lv' := [(5, .int (nI 0)), (0, .ref m), (1, .int (nI a)), (2, .int (nI g)), (3, .int (nI (numN g N.1))), (4, .int (nI x))]) O hN dX3_shrink_329 (by decide) rfl ?_
          refine v_lv [1, 2, 3, 4, 5, 0] rfl ?_
          refine l_X3_shrink_y hG O hN hcm0 hsm0 (F := (va_up F' 9 (va_up (F' 9) (1 + (numN g x)) (nI (numN g c))))) hN0 (by have e9 : (va_up F' 9 (va_up (F' 9) (1 + (numN g x)) (nI (numN g c)))) 10 = F 10 := (by rw [← ho 10 (by omega)]; funext z; simp [va_up]); rw [e9]; exact hT) hM1 hM2 hg (fun j hj => by rw [← h26 j hj, ← ho 26 (by omega)]; simp [va_up]) (x := x) (by omega) h_277 (fun σ6 F6 hR6 hf6 ho6 hP6 => ?_) (x + 1) 0 _ _ (by omega) (by omega) hR1 FrL.rf (fun _ _ => rfl) (by have e9 : (va_up F' 9 (va_up (F' 9) (1 + (numN g x)) (nI (numN g c)))) 9 = va_up (F' 9) (1 + numN g x) (nI (numN g c)) := (by funext z; simp [va_up]); rw [e9]; exact hP.mate (by omega) (by rw [mateM, if_neg h_306, hxc, show cl (nI c) = c from nI_clamp (by omega)]))
          refine v_iinc (v := nI (x + 1)) (lv' := [(4, .int (nI (x + 1))), (0, .ref m), (1, .int (nI a)), (2, .int (nI g)), (3, .int (nI (numN g N.1)))]) O hN dX3_shrink_390 4 rfl (nI_add x 1) (by decide) rfl ?_
          refine v_goto (tgt := 260) O dX3_shrink_393 (by decide) ?_
          refine v_lv [1, 2, 3, 4, 0] rfl ?_
          exact ih (x + 1) _ F6 (by omega) (by omega) hR6 (hf.trans (hf1.trans hf6)) (fun j hj => by rw [ho6 j hj, ← ho j hj]; funext z; simp [va_up, hj]) hP6.next
        · refine v_iconst (v := (-1)) O dX3_shrink_309 (by decide) ?_
          refine v_goto (tgt := 327) O dX3_shrink_310 (by decide) ?_
          refine r_iast (K := layM) O hR 9 rfl (by omega) (by omega) dX3_shrink_327 (fun σ2 hR2 hf2 => ?_)
          refine v_iconst (v := nI 0) O dX3_shrink_328 (by decide) ?_
          refine v_istore (lv' := [(5, .int (nI 0)), (0, .ref m), (1, .int (nI a)), (2, .int (nI g)), (3, .int (nI (numN g N.1))), (4, .int (nI x))]) O hN dX3_shrink_329 (by decide) rfl ?_
          refine v_lv [1, 2, 3, 4, 5, 0] rfl ?_
          refine l_X3_shrink_y hG O hN hcm0 hsm0 (F := (va_up F' 9 (va_up (F' 9) (1 + (numN g x)) (-1)))) hN0 (by have e9 : (va_up F' 9 (va_up (F' 9) (1 + (numN g x)) (-1))) 10 = F 10 := (by rw [← ho 10 (by omega)]; funext z; simp [va_up]); rw [e9]; exact hT) hM1 hM2 hg (fun j hj => by rw [← h26 j hj, ← ho 26 (by omega)]; simp [va_up]) (x := x) (by omega) h_277 (fun σ6 F6 hR6 hf6 ho6 hP6 => ?_) (x + 1) 0 _ _ (by omega) (by omega) hR2 FrL.rf (fun _ _ => rfl) (by have e9 : (va_up F' 9 (va_up (F' 9) (1 + (numN g x)) (-1))) 9 = va_up (F' 9) (1 + numN g x) (-1) := (by funext z; simp [va_up]); rw [e9]; exact hP.mate (by omega) (by rw [mateM, if_pos h_306]))
          refine v_iinc (v := nI (x + 1)) (lv' := [(4, .int (nI (x + 1))), (0, .ref m), (1, .int (nI a)), (2, .int (nI g)), (3, .int (nI (numN g N.1)))]) O hN dX3_shrink_390 4 rfl (nI_add x 1) (by decide) rfl ?_
          refine v_goto (tgt := 260) O dX3_shrink_393 (by decide) ?_
          refine v_lv [1, 2, 3, 4, 0] rfl ?_
          exact ih (x + 1) _ F6 (by omega) (by omega) hR6 (hf.trans (hf2.trans hf6)) (fun j hj => by rw [ho6 j hj, ← ho j hj]; funext z; simp [va_up, hj]) hP6.next
      · refine v_goto (tgt := 390) O dX3_shrink_280 (by decide) ?_
        refine v_iinc (v := nI (x + 1)) (lv' := [(4, .int (nI (x + 1))), (0, .ref m), (1, .int (nI a)), (2, .int (nI g)), (3, .int (nI (numN g N.1)))]) O hN dX3_shrink_390 4 rfl (nI_add x 1) (by decide) rfl ?_
        refine v_goto (tgt := 260) O dX3_shrink_393 (by decide) ?_
        refine v_lv [1, 2, 3, 4, 0] rfl ?_
        exact ih (x + 1) _ F' (by omega) (by omega) hR hf ho (hP.gone h_277)
