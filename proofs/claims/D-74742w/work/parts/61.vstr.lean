/-! Strings of the start: constants that ldc pushes -/
section VSTR
variable {G : vGC} {X : vCX} {Q : State → Prop} {own : String} {cc : ByteArray} {ret : Option FieldType} {fr mc ms c n pc : Nat} {σ : vSt} {lv : List (Nat × Value)} {st : List Value}
theorem v_ldcS (O : vOk G X own cc ret fr mc ms) {ix sa : Nat} {text : String} (hs : vk_R own ix text sa (vGs G)) (hd : decode cc pc = .ok (.ldc ix, 2)) (kk : V G X Q c n σ (pc + 2) lv (.ref sa :: st)) : V G X Q c n σ pc lv st := by
  intro H locs ls hH hS hl T hT S
  have hs' : vk_R own ix text sa (xs X) := vk_R.warm O.wm hs
  obtain ⟨t, a, b⟩ := kk H locs ls hH hS hl T hT S
  exact ⟨t, S.ldcString O.ex O.ow hs'.1 hs'.2 rfl (by rw [O.by]; exact hd) t a, b⟩
/-- a static field that nobody writes -/
theorem v_gets (O : vOk G X own cc ret fr mc ms) {C nm d : String} {v : Value} {ix : Nat} (hZ : va_Z C nm d v (vA G) (vGs G) (vGs G).heap) (hlink : Jvm.Cond.fieldLink own ix C nm d ∈ lw_all) (hd : decode cc pc = .ok (.getstatic ix, 3)) (kk : V G X Q c n σ (pc + 3) lv (v :: st)) : V G X Q c n σ pc lv st := by
  intro H locs ls hH hS hl
  have hZ' : va_Z C nm d v (vA G) (xs X) (xs X).heap := (hZ.moved O.wm.alike).kept (fun a ha _ => O.ba.2 a ha)
  exact va_gets O.ex O.by hZ' hS O.ow (O.ts _ hlink) (fun _ h => h) hd (kk H locs ls hH hS hl)
end VSTR
/-- a String of these (Latin-1) signs: nobody writes it -/
def StrIs (σ : vSt) (sa : Nat) (w : List Nat) : Prop := ∃ (ba : Nat) (h z : Int32), σ sa = some (0, .inr (13, [.ref ba, .int (nI 0), .int h, .int z])) ∧ σ ba = some (0, .inl (1, w.length, .inl (fun i => nI (w.getD i 0))))
theorem StrIs.fr {M : List Nat} {σ σ' : vSt} {sa : Nat} {w : List Nat} (h : StrIs σ sa w) (hf : FrL M σ σ') (hm : 0 ∉ M) : StrIs σ' sa w := by
  obtain ⟨ba, h1, z, h2, h3⟩ := h
  exact ⟨ba, h1, z, hf _ _ h2 hm, hf _ _ h3 hm⟩
