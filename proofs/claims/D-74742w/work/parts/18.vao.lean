theorem ao_moved {u U : State} (hvm : u.vm.Alike U.vm) {A A' : Array Value} (h : (Cond.arrayOver (.array .int)).before A u = true) : (Cond.arrayOver (.array .int)).before A' U = true := by
  have h' := h
  simp only [Cond.before, Cond.holds, Cond.value, beq_iff_eq] at h'
  cases hc : u.vm.findClass (FieldType.array .int).toString with
  | none => simp [hc] at h'
  | some comp =>
    simp only [hc, Option.bind_some, Option.bind_eq_some_iff, Option.map_eq_some_iff] at h'
    obtain ⟨c, hi, k, hk, hb⟩ := h'
    obtain ⟨k', hk', he⟩ := hvm.2.2 _ _ hk
    have hi2 : (U.vm.classes.findIdx? fun (x : Class) => match x.kind with | .array component _ => component == comp | _ => false) = (u.vm.classes.findIdx? fun (x : Class) => match x.kind with | .array component _ => component == comp | _ => false) := by
      have hbe : U.vm.bare.classes = u.vm.bare.classes := by first | rw [hvm.bare_eq] | rw [← hvm.bare_eq]
      exact (va_idx_bare U.vm comp).symm.trans ((congrArg (fun z : Array Class => z.findIdx? fun (x : Class) => match x.kind with | .array component _ => component == comp | _ => false) hbe).trans (va_idx_bare u.vm comp))
    have hkind : k'.kind = k.kind := by rw [he]
    have f1 : U.vm.findClass (FieldType.array .int).toString = some comp := by rw [hvm.findClass]; exact hc
    unfold Cond.before Cond.holds
    simp only [Cond.value]
    rw [f1, Option.bind_some]
    refine (congrArg (fun o : Option Nat => (o.bind (fun c => (U.vm.classes[c]?).map fun (k : Class) => match k.kind with | .array _ ty => decide (ty = FieldType.array .int) && decide (U.vm.findClass ("[" ++ (FieldType.array .int).toString) = some c) | _ => false) == some true)) (hi2.trans hi)).trans ?_
    rw [Option.bind_some, hk', Option.map_some, hkind, hvm.findClass]
    exact (congrArg (fun b : Bool => (some b == some true)) hb).trans rfl
theorem vAO {G : vGC} {X : vCX} {own : String} {cc : ByteArray} {ret : Option FieldType} {fr mc ms : Nat} (O : vOk G X own cc ret fr mc ms) : (Cond.arrayOver (.array .int)).before (xa X) (xs X) = true := ao_moved O.wm.alike (O.gk.2.1 _ q145)
