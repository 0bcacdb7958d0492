section VM
variable {G : vGC} {X : vCX} {Q : State → Prop} {own : String} {cc : ByteArray} {ret : Option FieldType} {fr mc ms c n : Nat} {σ : vSt} {pc : Nat} {lv : List (Nat × Value)} {st : List Value}
theorem v_ldcw (O : vOk G X own cc ret fr mc ms) {ix : Nat} {v : Int32} (hw : Jvm.Cond.constant own ix v ∈ lw_all) (hd : decode cc pc = .ok (.ldc_w ix, 3)) (kk : V G X Q c n σ (pc + 3) lv (.int v :: st)) : V G X Q c n σ pc lv st := fun H locs ls hH hS hl => lv_ldcw O.ex O.by O.ow (O.ts _ hw) hd (kk H locs ls hH hS hl)
theorem vInt_nn {z : Int32} (hz : ¬ z < 0) : z.toInt = (z.toNatClampNeg : Int) := by
  have hz0 : (0 : Int) ≤ z.toInt := by
    have := Int32.not_lt.mp hz
    simpa using Int32.le_iff_toInt_le.mp this
  show z.toInt = ((z.toInt.toNat : Nat) : Int)
  omega
/-- System.arraycopy of whole numbers (ints, bytes): places nI -/
theorem v_copy (O : vOk G X own cc ret fr mc ms) {ix t a0 a1 l0 l1 n0 n1 sp dp k : Nat} {f g : Nat → Int32} {ty : FieldType} (hw : Cond.methodLink own ix arraycopyName ∈ lw_all) (hnat : Cond.native arraycopyName ∈ lw_all) (hst : Cond.static arraycopyName ∈ lw_all) (hini : Cond.initialized "java/lang/System" ∈ lw_all) (h0 : σ a0 = some (l0, .inl (t, n0, .inl f))) (hlz : l1 ≠ 0) (h1 : σ a1 = some (l1, .inl (t, n1, .inl g))) (ht : (vTys (vGK G))[t]? = some (vGK G t, ty)) (hpr : refKind ty = false) (hs : sp + k ≤ n0) (hdn : dp + k ≤ n1) (hN : n0 < 2 ^ 31 ∧ n1 < 2 ^ 31) (hfit : ∀ i, i < k → fits ty (.int (f (sp + i))) = true) (hfr : 2 ≤ fr) (hcat : (st.map fun v => v.category).sum ≤ 8) (hd : decode cc pc = .ok (.invokestatic ix, 3))
    (kk : V G X Q c n (vUp σ a1 (l1, .inl (t, n1, .inl (va_cpy f g sp dp k)))) (pc + 3) lv st) : V G X Q c n σ pc lv (.int (nI k) :: .int (nI dp) :: .ref a1 :: .int (nI sp) :: .ref a0 :: st) := by
  intro H locs ls hH hS hl T hT Xs
  have hP0 := (hH a0 _ h0)
  have hP1 := (hH a1 _ h1)
  have hc0 : H[a0]? = some (vp_cell (vGK G t) (n0, .inl f)) := hP0.2
  have hc1 : H[a1]? = some (vp_cell (vGK G t) (n1, .inl g)) := hP1.2
  have c1 : (nI sp).toNatClampNeg = sp := nI_clamp (by omega)
  have c2 : (nI dp).toNatClampNeg = dp := nI_clamp (by omega)
  have c3 : (nI k).toNatClampNeg = k := nI_clamp (by omega)
  have m1 : ¬ nI sp < 0 := nI_pos (by omega)
  have m2 : ¬ nI dp < 0 := nI_pos (by omega)
  have m3 : ¬ nI k < 0 := nI_pos (by omega)
  obtain ⟨-, k0, hk0, cm0, hkk0⟩ := (O.K.2 t _ ht).1 n0 (fun j => .int (f j))
  obtain ⟨-, k1, hk1, cm1, hkk1⟩ := (O.K.2 t _ ht).1 n1 (fun j => .int (g j))
  obtain ⟨vm', X', step⟩ := Xs.arraycopy O.ex O.ow (O.ts _ hw) (O.ts _ hnat) (O.ts _ hst) (O.ts _ hini) (src := a0) (dst := a1) (cs := vp_cell (vGK G t) (n0, .inl f)) (cd := vp_cell (vGK G t) (n1, .inl g)) (srcPos := nI sp) (destPos := nI dp) (n := nI k) (by rw [hT]; exact hc0) (by rw [hT]; exact hc1)
    (fun _ h => by cases h) (fun _ h => by cases h) (fun h => by cases h) (fun h => by cases h) hk0 hk1 hkk0 hkk1 (by simp [hpr]) m1 m2 m3
    (by rw [vInt_nn m1, vInt_nn m3, c1, c3]; show ¬ _ > ((arrV (vGK G t) n0 (fun j => .int (f j))).slots.size : Int); rw [arrV_size]; omega)
    (by rw [vInt_nn m2, vInt_nn m3, c2, c3]; show ¬ _ > ((arrV (vGK G t) n1 (fun j => .int (g j))).slots.size : Int); rw [arrV_size]; omega)
    (fun vm₁ _ i hi => by
      rw [c3] at hi
      rw [c1]
      have e : (vp_cell (vGK G t) (n0, .inl f)).slots.getD (sp + i) .null = .int (f (sp + i)) := by
        show (arrV (vGK G t) n0 (fun j => .int (f j))).slots.getD _ _ = _
        rw [Array.getD_eq_getD_getElem?, arrV_read _ _ (by omega)]
        rfl
      refine ⟨?_, ?_⟩
      · rw [e]
        exact hfit i hi
      · rw [e]
        exact trivial)
    (g := F0 (xm X) pc ls (.int (nI k) :: .int (nI dp) :: .ref a1 :: .int (nI sp) :: .ref a0 :: st)) rfl (by rw [O.ml]; exact hl.1) (rest := st) rfl (by rw [O.by]; exact hd) (by have := O.rm.1; omega)
    (by have h9 := O.rm.2.1
        have h8 : nativeFrameWords "java/lang/System" "arraycopy" 5 ≤ 100 := by decide
        show 2 * 0 + _ + _ ≤ _
        omega)
  have e1 : copied (vp_cell (vGK G t) (n0, .inl f)) (vp_cell (vGK G t) (n1, .inl g)) (nI sp) (nI dp) (nI k) = vp_cell (vGK G t) (n1, .inl (va_cpy f g sp dp k)) := by
    have := va_copied (sp := sp) (dp := dp) (n := k) (n1 := n1) (fun z => Value.int z) (vGK G t) (vGK G t) f g hs
    unfold copied
    rw [c1, c2, c3]
    exact this
  rw [e1] at X' step
  have hla : a1 < H.size := (Array.getElem?_eq_some_iff.mp hc1).1
  have oq : ∀ q : Nat, q ≠ a1 → (H.setIfInBounds a1 (vp_cell (vGK G t) (n1, .inl (va_cpy f g sp dp k))))[q]? = H[q]? := fun q hq => by simp [Array.getElem?_setIfInBounds, Ne.symm hq]
  have hheap : ((T.setVm vm').setCell a1 (vp_cell (vGK G t) (n1, .inl (va_cpy f g sp dp k)))).heap = H.setIfInBounds a1 (vp_cell (vGK G t) (n1, .inl (va_cpy f g sp dp k))) := by rw [← hT]; rfl
  obtain ⟨t', a9, b9⟩ := kk _ _ ls (hH.up (c := (l1, .inl (t, n1, .inl (va_cpy f g sp dp k)))) (fun _ => hP1.1 hlz) (show (H.setIfInBounds a1 _)[a1]? = some _ by simp [Array.getElem?_setIfInBounds, hla, vE]) oq) ⟨by simp; exact hS.1, fun q g1 g2 => by
      rw [oq q (fun e => g2 (by rw [e]; exact hP1.1 hlz))]
      exact hS.2.1 q g1 g2, fun q hq => by
      rcases List.mem_append.mp hq with h | h
      · exact hS.2.2 q h
      · obtain ⟨z, -, hz⟩ := List.mem_map.mp h
        rw [← hz]
        exact hP1.1 hlz⟩ hl _ hheap X'
  exact ⟨t', step t' a9, b9⟩
theorem v_dummy : True := trivial
end VM
