/-! arrays of objects -/
theorem vCS {G : vGC} {X : vCX} {own : String} {cc : ByteArray} {ret : Option FieldType} {fr mc ms : Nat} (O : vOk G X own cc ret fr mc ms) {C T : String} (h : Cond.castable C T ∈ lw_tbl) : (Cond.castable C T).before (xa X) (xs X) = true := va_Nw.use rfl (va_Nw.warmC O.wm (va_Nw.of rfl (O.gk.2.1 _ h)))
section VA
variable {G : vGC} {X : vCX} {Q : State → Prop} {own : String} {cc : ByteArray} {ret : Option FieldType} {fr mc ms c n : Nat} {σ : vSt} {pc : Nat} {lv : List (Nat × Value)} {st : List Value} {a l N i : Nat} {f : Nat → Option Nat}
theorem v_aast (O : vOk G X own cc ret fr mc ms) (hlz : l ≠ 0) (hσ : σ a = some (l, .inl (5, N, .inr (.inr (.inr (.inr f)))))) (hi : i < N) (hN : N < 2 ^ 31) {v lb ci : Nat} {vs : List Value} {r : vw_C} (hv : σ v = some (lb, .inr (ci, vs))) (hc : vcl[ci]? = some r) (hca : Cond.castable r.1 "java/lang/Object" ∈ lw_tbl) (hd : decode cc pc = .ok (.aastore, 1))
    (kk : V G X Q c n (vUp σ a (l, .inl (5, N, .inr (.inr (.inr (.inr (va_up f i (some v)))))))) (pc + 1) lv st) : V G X Q c n σ pc lv (.ref v :: .int (nI i) :: .ref a :: st) := by
  intro H locs ls hH hS hl
  have hP := hH a _ hσ
  have hin := vp_in_nI hi hN
  have hlt : (nI i).toNatClampNeg < N := Nat.not_le.mp fun q => hin (Or.inr q)
  have h0 : ¬ nI i < 0 := fun q => hin (Or.inl q)
  obtain ⟨r', hr', cellV, g1, g2, g3, -⟩ := (hH v _ hv).2
  have hcls := (O.K.1 ci r hc).2
  obtain ⟨kA, comp, k1, k2, k3, -⟩ := (O.K.2 5 _ rfl).2
  obtain ⟨kE, hkE, -⟩ := Vm.findClass_spec k3
  obtain ⟨c0, t1, f1, f2, f3⟩ := Cond.castable_spec (vCS O hca)
  cases hcls.1.symm.trans f1
  cases k3.symm.trans f2
  obtain ⟨kC, hkC, -⟩ := hcls.2
  refine W.aast O.ex O.by hP.2 (fun q h => by cases h) (fun h => by cases h) k1 k2 rfl hkE ⟨h0, by show _ < (arrV _ _ _).slots.size; rw [arrV_size]; exact hlt⟩ g1 (fun q h => by rw [g3] at h; cases h) (by rw [g2]; exact hkC) (by rw [g2]; exact f3) rfl rfl hd fun H1 e z oq => ?_
  refine kk H1 _ ls (hH.up (c := (l, .inl (5, N, .inr (.inr (.inr (.inr (va_up f i (some v)))))))) (fun _ => hP.1 hlz) ?_ oq) (hS.put z oq (hP.1 hlz)) hl
  show H1[a]? = some (vp_cell _ _)
  rw [e]
  show some ((vp_cell (vGK G 5) (N, .inr (.inr (.inr (.inr f))))).setSlot _ _) = _
  rw [vp_cell_q, vp_cell_q, arrV_store, nI_clamp (by omega)]
  congr 2
  funext q
  by_cases hq : q = i
  · subst hq
    simp [updV, va_up, va_rf]
  · simp [updV, va_up, hq]
theorem v_aastN (O : vOk G X own cc ret fr mc ms) (hlz : l ≠ 0) (hσ : σ a = some (l, .inl (5, N, .inr (.inr (.inr (.inr f)))))) (hi : i < N) (hN : N < 2 ^ 31) (hd : decode cc pc = .ok (.aastore, 1))
    (kk : V G X Q c n (vUp σ a (l, .inl (5, N, .inr (.inr (.inr (.inr (va_up f i none))))))) (pc + 1) lv st) : V G X Q c n σ pc lv (.null :: .int (nI i) :: .ref a :: st) := by
  intro H locs ls hH hS hl
  have hP := hH a _ hσ
  have hin := vp_in_nI hi hN
  refine va_WaastN (C := "java/lang/Object") O.ex O.by hP.2 ((O.K.2 5 _ rfl).1 N (fun j => va_rf (f j))) (fun h => by cases h) (by show ¬ (nI i < 0 ∨ (arrV _ _ _).slots.size ≤ _); rw [arrV_size]; exact hin) rfl rfl hd fun H1 e z oq => ?_
  refine kk H1 _ ls (hH.up (c := (l, .inl (5, N, .inr (.inr (.inr (.inr (va_up f i none))))))) (fun _ => hP.1 hlz) ?_ oq) (hS.put z oq (hP.1 hlz)) hl
  show H1[a]? = some (vp_cell _ _)
  rw [e]
  show some ((vp_cell (vGK G 5) (N, .inr (.inr (.inr (.inr f))))).setSlot _ _) = _
  rw [vp_cell_q, vp_cell_q, arrV_store, nI_clamp (by omega)]
  congr 2
  funext q
  by_cases hq : q = i
  · subst hq
    simp [updV, va_up, va_rf]
  · simp [updV, va_up, hq]
theorem v_ccast (O : vOk G X own cc ret fr mc ms) {ix ci : Nat} {vs : List Value} {r : vw_C} (hσ : σ a = some (l, .inr (ci, vs))) (hc : vcl[ci]? = some r) (hl1 : Cond.classLink own ix r.1 ∈ lw_all) (hd : decode cc pc = .ok (.checkcast ix, 3)) (kk : V G X Q c n σ (pc + 3) lv (.ref a :: st)) : V G X Q c n σ pc lv (.ref a :: st) := by
  intro H locs ls hH hS hl
  obtain ⟨r', hr', cellV, g1, g2, g3, -⟩ := (hH a _ hσ).2
  have hcls := (O.K.1 ci r hc).2
  exact va_castS O.ex O.by O.ow (O.ts _ hl1) hcls ⟨cellV, g1, by rw [g3]; rfl, by rw [g2]; exact hcls.1⟩ hd (kk H locs ls hH hS hl)
theorem v_anewa (O : vOk G X own cc ret fr mc ms) {ix : Nat} (lab : Nat → Nat) (hcl : Cond.classLink own ix "java/lang/Object" ∈ lw_all) (hN : N < 2 ^ 26) (hcm : c + 1 ≤ mc) (hsm : n + N ≤ ms) (hd : decode cc pc = .ok (.anewarray ix, 3))
    (kk : ∀ q : Nat, σ q = none → q ≠ 0 → V G X Q (c + 1) (n + N) (vUp σ q (lab q, .inl (5, N, .inr (.inr (.inr (.inr (fun _ => none))))))) (pc + 3) lv (.ref q :: st)) : V G X Q c n σ pc lv (.int (nI N) :: st) := by
  intro H locs ls hH hS hl
  refine W.anew O.ex O.by O.ow (O.ts _ hcl) (va_AO.use (va_AO.moved O.wm.alike (va_AO.of (O.gk.2.1 _ q125)))) rfl hd rfl (nI_pos (by omega)) (by rw [nI_clamp (by omega)]; omega) (Nat.le_trans hcm O.rm.2.2.1) (by rw [nI_clamp (by omega)]; exact Nat.le_trans hsm O.rm.2.2.2) fun cA kA comp f1 f2 f3 f4 => ?_
  rw [nI_clamp (by omega)]
  generalize hH1 : H.push ({ cls := cA, slots := Array.replicate N .null, vm := .none } : Cell) = H1
  have z1 : H1.size = H.size + 1 := by rw [← hH1, Array.size_push]
  have e1 : H1[H.size]? = some (arrV cA N (fun _ => .null)) := by rw [← hH1, Array.getElem?_push_size, ← arrV_new]
  have o1 : ∀ q : Nat, q < H.size → H1[q]? = H[q]? := fun q hq => by rw [← hH1, Array.getElem?_push, if_neg (Nat.ne_of_lt hq)]
  have hB : vB0 G ≤ H.size := Nat.le_trans O.ba.1 hS.1
  have hcA : cA = vGK G 5 := by
    obtain ⟨k2, c2, a1, a2, a3, a4⟩ := (O.K.2 5 _ rfl).2
    cases f4.symm.trans a3
    exact Option.some.inj (f1.symm.trans a4)
  refine kk H.size hH.fresh (by have := O.gk.2.2.2.2; omega) H1 _ ls (hH.push hB ?_ o1) ⟨Nat.le_trans hS.1 (by omega), fun x h1 h2 => (o1 x (Nat.lt_of_lt_of_le h1 hS.1)).trans (hS.2.1 x h1 h2), hS.2.2⟩ hl
  show H1[H.size]? = some (vp_cell _ _)
  rw [vp_cell_q, ← hcA]
  exact e1
end VA
