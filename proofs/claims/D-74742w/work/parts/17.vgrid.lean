/-! new int[n][k] -/
theorem outerV (c : ClassId) (N h0 : Nat) : ∀ i, Jvm.Free.Multi.outerC c N h0 i = arrV c N (fun j => if j < i then .ref (h0 + 1 + j) else .null)
  | 0 => by
    show ({ cls := c, slots := Array.replicate N .null, vm := .none } : Cell) = _
    rw [arrV_new]
    rfl
  | i + 1 => by
    show (Jvm.Free.Multi.outerC c N h0 i).setSlot i (.ref (h0 + 1 + i)) = _
    rw [outerV c N h0 i, arrV_store]
    congr 1
    funext j
    simp only [updV]
    by_cases h : j = i
    · rw [if_pos h, if_pos (by omega), h]
    · rw [if_neg h]
      by_cases h2 : j < i
      · rw [if_pos h2, if_pos (by omega)]
      · rw [if_neg h2, if_neg (by omega)]
def vGrid (σ : vSt) (q lab n k : Nat) : vSt := fun x => if x = q then some (lab, .inl (4, n, .inr (.inr (.inr (.inr (fun i => some (q + 1 + i))))))) else if q < x ∧ x ≤ q + n then some (lab, .inl (0, k, .inl (fun _ => 0))) else σ x
section VG
variable {G : vGC} {X : vCX} {Q : State → Prop} {own : String} {cc : ByteArray} {ret : Option FieldType} {fr mc ms c n : Nat} {σ : vSt} {pc : Nat} {lv : List (Nat × Value)} {st : List Value}
theorem v_mnew (O : vOk G X own cc ret fr mc ms) {ix a k : Nat} (lab : Nat) (hcl : Cond.classLink own ix "[[I" ∈ lw_all) (hao : Cond.arrayOver (.array .int) ∈ lw_tbl) (hai : Cond.arrayClass .int ∈ lw_all) (ha : a < 4096) (hk : k < 4096) (hcm : c + (1 + a) ≤ mc) (hsm : n + (a + a * k) ≤ ms) (hAO : (Cond.arrayOver (.array .int)).before (xa X) (xs X) = true) (hd : decode cc pc = .ok (.multianewarray ix 2, 4))
    (kk : ∀ q : Nat, (∀ x, q ≤ x → σ x = none) → q ≠ 0 → V G X Q (c + 1 + a) (n + a + a * k) (vGrid σ q lab a k) (pc + 4) lv (.ref q :: st)) : V G X Q c n σ pc lv (.int (nI k) :: .int (nI a) :: st) := by
  intro H locs ls hH hS hl T hT Xs
  have c1 : (nI a).toNatClampNeg = a := nI_clamp (by omega)
  have c2 : (nI k).toNatClampNeg = k := nI_clamp (by omega)
  obtain ⟨vm₁, cA, comp, hW, hfA, hfC, hO, hI, X1, step⟩ := Xs.multianewarray2F O.ex (own := own) (index := ix) (ty := .int) O.ow (by rw [show ("[" ++ (FieldType.array .int).toString) = "[[I" from by decide +kernel]; exact O.ts _ hcl) hAO (O.ts _ hai)
    (g := F0 (xm X) pc ls (.int (nI k) :: .int (nI a) :: st)) rfl (by rw [O.by]; exact hd) (n := nI a) (k := nI k) (rest := st) rfl (nI_pos (by omega)) (nI_pos (by omega)) (by rw [c1]; omega) (by rw [c2]; show k * 4 ≤ _; omega) (by rw [c2]; omega) rfl rfl
    (by rw [c1]; exact Nat.le_trans hcm O.rm.2.2.1) (by rw [c1, c2]; exact Nat.le_trans hsm O.rm.2.2.2)
  rw [c1, c2] at X1 step
  have hB : vB0 G ≤ H.size := Nat.le_trans O.ba.1 hS.1
  have hcA : cA = vGK G 4 := Option.some.inj (hfA.symm.trans (O.K.2 4 _ rfl).2)
  have hcI : comp = vGK G 0 := Option.some.inj (hfC.symm.trans (O.K.2 0 _ rfl).2)
  subst hcA
  subst hcI
  have hTs : (T.setVm vm₁).heap = H := hT
  have hfull := Jvm.Free.Multi.fill_facts (T.setVm vm₁) (vGK G 4) (vGK G 0) a k (defaultValue .int) a
  rw [hTs] at hfull
  obtain ⟨z1, e1, -, -⟩ := hfull
  have hinn := Jvm.Free.Multi.fill_inner (T.setVm vm₁) (vGK G 4) (vGK G 0) a k (defaultValue .int) a
  rw [hTs] at hinn
  have hold : ∀ q : Nat, q < H.size → (Jvm.Free.Multi.fill (T.setVm vm₁) (vGK G 4) (vGK G 0) a k (defaultValue .int) a).heap[q]? = H[q]? := fun q hq => by
    rw [Jvm.Free.Multi.fill_old (T.setVm vm₁) (vGK G 4) (vGK G 0) a k (defaultValue .int) (by rw [hTs]; exact hq) a, hTs]
  generalize hH1 : (Jvm.Free.Multi.fill (T.setVm vm₁) (vGK G 4) (vGK G 0) a k (defaultValue .int) a) = T1 at *
  have hfre : ∀ x, H.size ≤ x → σ x = none := fun x hx => by
    cases e : σ x with
    | none => rfl
    | some c0 => exact absurd (hH.lt e) (by omega)
  have hHo : vHolds G (vGrid σ H.size lab a k) T1.heap := by
    intro b d hb
    unfold vGrid at hb
    split at hb
    · rename_i hbe
      subst hbe
      cases hb
      refine ⟨fun _ => hB, ?_⟩
      show T1.heap[H.size]? = some (vp_cell _ _)
      rw [e1, outerV, vp_cell_q]
      congr 1
      unfold arrV
      congr 1
      apply Array.ext
      · simp
      · intro i h1 h2
        simp at h1
        simp [h1, va_rf]
    · split at hb
      · rename_i hbr
        cases hb
        refine ⟨fun _ => by omega, ?_⟩
        show T1.heap[b]? = some (vp_cell _ _)
        have := hinn (b - (H.size + 1)) (by omega)
        rw [show H.size + 1 + (b - (H.size + 1)) = b by omega] at this
        rw [this, vp_cell_i]
        show some ({ cls := _, slots := Array.replicate k (defaultValue .int), vm := .none } : Cell) = _
        rw [arrV_new]
        rfl
      · exact ⟨(hH b d hb).1, (hH b d hb).2.kept (hold b (hH.lt hb))⟩
  obtain ⟨t, a1, b1⟩ := kk H.size hfre (by have := O.gk.2.2.2.2; omega) T1.heap locs ls hHo ⟨Nat.le_trans hS.1 (by omega), fun x h1 h2 => (hold x (Nat.lt_of_lt_of_le h1 hS.1)).trans (hS.2.1 x h1 h2), hS.2.2⟩ hl T1 rfl X1
  rw [← hT] at a1
  exact ⟨t, step t a1, b1⟩
end VG
