section VH
variable {G : vGC} {X : vCX} {Q : State → Prop} {own : String} {cc : ByteArray} {ret : Option FieldType} {fr mc ms c n : Nat} {σ : vSt} {pc : Nat} {lv : List (Nat × Value)} {st : List Value}
theorem vP1 {H : Heap} {a : Nat} {e : vCel} (h : vHolds G σ H) (he : σ a = some e) : va_P (vGD G) vcl [(a, vE G e)] H := by
  intro k q hk
  cases k with
  | zero => cases hk; exact (h a e he).2
  | succ k => simp at hk
/-! fields -/
theorem v_getf (O : vOk G X own cc ret fr mc ms) {ref C : String} {T : u_T} {N ci ix a l : Nat} {fs : List Value} {v : Value} (hin : ∀ w ∈ u_ws C T N, w ∈ lw_all) (hσ : σ a = some (l, .inr (ci, fs))) (hc : vcl[ci]? = some (C, T, N)) (k : Nat) (hk : k < N) (href : (T k).1 = ref) (hlink : Cond.fieldLink own ix ref (T k).2.1 (T k).2.2.1 ∈ lw_all) (hv : fs[k]? = some v) (hd : decode cc pc = .ok (.getfield ix, 3))
    (kk : V G X Q c n σ (pc + 3) lv (v :: st)) : V G X Q c n σ pc lv (.ref a :: st) := fun H locs ls hH hS hl =>
  va_get O.ex O.by O.ts hin O.ow O.K (vP1 hH hσ) 0 rfl hc k hk (O.ts _ hlink) (fun _ h => href ▸ h) hv hd (kk H locs ls hH hS hl)
theorem vNestF (O : vOk G X own cc ret fr mc ms) {a b nm d h : String} {i : Nat} (hw : Cond.fieldLinkNest a i b nm d h ∈ lw_tbl) : (Cond.fieldLinkNest a i b nm d h).before (xa X) (xs X) = true := va_Nw.use rfl (va_Nw.warmF O.wm (va_Nw.of rfl (O.gk.2.1 _ hw)))
theorem vNestM (O : vOk G X own cc ret fr mc ms) {a h : String} {i : Nat} {x : MethodName} (hw : Cond.methodLinkNest a i x h ∈ lw_tbl) : va_Nw (Cond.methodLinkNest a i x h) (xs X) := va_Nw.warmM O.wm (va_Nw.of rfl (O.gk.2.1 _ hw))
theorem v_getfN (O : vOk G X own cc ret fr mc ms) {ref C host : String} {T : u_T} {N ci ix a l : Nat} {fs : List Value} {v : Value} (hin : ∀ w ∈ u_ws C T N, w ∈ lw_all) (hσ : σ a = some (l, .inr (ci, fs))) (hc : vcl[ci]? = some (C, T, N)) (k : Nat) (hk : k < N) (href : (T k).1 = ref) (hlink : Cond.fieldLinkNest own ix ref (T k).2.1 (T k).2.2.1 host ∈ lw_tbl) (hv : fs[k]? = some v) (hd : decode cc pc = .ok (.getfield ix, 3))
    (kk : V G X Q c n σ (pc + 3) lv (v :: st)) : V G X Q c n σ pc lv (.ref a :: st) := fun H locs ls hH hS hl =>
  va_getN O.ex O.by O.ts hin O.ow O.K (vP1 hH hσ) 0 rfl hc k hk (vNestF O hlink) (fun _ h => href ▸ h) hv hd (kk H locs ls hH hS hl)
theorem v_putf (O : vOk G X own cc ret fr mc ms) {ref C : String} {T : u_T} {N ci ix a l : Nat} {fs : List Value} {v : Value} {ty0 : Nat → FieldType} {ty : FieldType} (hin : ∀ w ∈ u_ws C T N, w ∈ lw_all) (hty : ∀ k, k < N → parseFieldDescriptor (T k).2.2.1 = some (ty0 k)) (hnm : ∀ a, a < N → ∀ b, b < N → a ≠ b → (T a).2.1 ≠ (T b).2.1) (hlz : l ≠ 0) (hσ : σ a = some (l, .inr (ci, fs))) (hc : vcl[ci]? = some (C, T, N)) (k : Nat) (hk : k < N) (href : (T k).1 = ref) (hlink : Cond.fieldLink own ix ref (T k).2.1 (T k).2.2.1 ∈ lw_all) (hfin : (T k).2.2.2 = false) (hdd : parseFieldDescriptor (T k).2.2.1 = some ty) (hn : narrow ty v = v) (hfit : fits ty v = true) (hfl : k < fs.length) (hd : decode cc pc = .ok (.putfield ix, 3))
    (kk : V G X Q c n (vUp σ a (l, .inr (ci, fs.set k v))) (pc + 3) lv st) : V G X Q c n σ pc lv (v :: .ref a :: st) := by
  intro H locs ls hH hS hl
  have hsame : ∀ x, (xs X).fieldFound? (T k).1 (T k).2.1 (T k).2.2.1 = some x → (xs X).fieldFound? ref (T k).2.1 (T k).2.2.1 = some x := fun _ h => href ▸ h
  have hap := va_apart (own := own) O.ts hin ty0 hty hnm O.K hc
  have hP := hH a _ hσ
  obtain ⟨r, h1, cell, q1, q2, q3, q4⟩ := hP.2
  have hr : r = (C, T, N) := Option.some.inj (h1.symm.trans hc)
  subst hr
  obtain ⟨hSl, hfc, kC, hkC, hkind⟩ := O.K.1 ci _ hc
  obtain ⟨cf, kf, fi, f, hi, hsl⟩ := hSl k hk
  have hlay := O.ts _ (hin _ (u_in_lay hk))
  unfold u_lay at hlay
  rw [if_neg (by rw [hfin]; decide)] at hlay
  have hst := (u_facts hfc hkC (u_lays O.ts hin hk) hi).1
  have h6 := u_store hfc hkC hkind hlay hi hdd hn hfit
  refine W.putK O.ex O.by (f := f) ⟨O.ow, O.ts _ hlink, ⟨_, _, _, hsame _ hi⟩, hst⟩ (by rw [q2]; exact h6) q1 q3 (by rw [hsl]; exact k2_hasslot (q4 k hk)) rfl rfl hd fun H' e1 e2 e3 => ?_
  rw [hsl] at e1 ⊢
  exact kk H' _ ls (hH.up (c := (l, .inr (ci, fs.set k v))) (fun _ => hP.1 hlz) ⟨_, hc, t_OB.to (V := updV (vp_V fs) k v) ⟨_, e1, q2, q3, t_set q4 hap hk v⟩ (fun j _ => vp_updV_set hfl v j)⟩ e3) (hS.put e2 e3 (hP.1 hlz)) hl
theorem v_putfN (O : vOk G X own cc ret fr mc ms) {ref C host : String} {T : u_T} {N ci ix a l : Nat} {fs : List Value} {v : Value} {ty0 : Nat → FieldType} {ty : FieldType} (hin : ∀ w ∈ u_ws C T N, w ∈ lw_all) (hty : ∀ k, k < N → parseFieldDescriptor (T k).2.2.1 = some (ty0 k)) (hnm : ∀ a, a < N → ∀ b, b < N → a ≠ b → (T a).2.1 ≠ (T b).2.1) (hlz : l ≠ 0) (hσ : σ a = some (l, .inr (ci, fs))) (hc : vcl[ci]? = some (C, T, N)) (k : Nat) (hk : k < N) (href : (T k).1 = ref) (hlink : Cond.fieldLinkNest own ix ref (T k).2.1 (T k).2.2.1 host ∈ lw_tbl) (hfin : (T k).2.2.2 = false) (hdd : parseFieldDescriptor (T k).2.2.1 = some ty) (hn : narrow ty v = v) (hfit : fits ty v = true) (hfl : k < fs.length) (hd : decode cc pc = .ok (.putfield ix, 3))
    (kk : V G X Q c n (vUp σ a (l, .inr (ci, fs.set k v))) (pc + 3) lv st) : V G X Q c n σ pc lv (v :: .ref a :: st) := by
  intro H locs ls hH hS hl
  have hsame : ∀ x, (xs X).fieldFound? (T k).1 (T k).2.1 (T k).2.2.1 = some x → (xs X).fieldFound? ref (T k).2.1 (T k).2.2.1 = some x := fun _ h => href ▸ h
  have hap := va_apart (own := own) O.ts hin ty0 hty hnm O.K hc
  have hP := hH a _ hσ
  obtain ⟨r, h1, cell, q1, q2, q3, q4⟩ := hP.2
  have hr : r = (C, T, N) := Option.some.inj (h1.symm.trans hc)
  subst hr
  obtain ⟨hSl, hfc, kC, hkC, hkind⟩ := O.K.1 ci _ hc
  obtain ⟨cf, kf, fi, f, hi, hsl⟩ := hSl k hk
  have hlay := O.ts _ (hin _ (u_in_lay hk))
  unfold u_lay at hlay
  rw [if_neg (by rw [hfin]; decide)] at hlay
  have hst := (u_facts hfc hkC (u_lays O.ts hin hk) hi).1
  have h6 := u_store hfc hkC hkind hlay hi hdd hn hfit
  refine va_WputK O.ex O.by (f := f) O.ow (vNestF O hlink) (hsame _ hi) hst (by rw [q2]; exact h6) q1 q3 (by rw [hsl]; exact k2_hasslot (q4 k hk)) rfl rfl hd fun H' e1 e2 e3 => ?_
  rw [hsl] at e1 ⊢
  exact kk H' _ ls (hH.up (c := (l, .inr (ci, fs.set k v))) (fun _ => hP.1 hlz) ⟨_, hc, t_OB.to (V := updV (vp_V fs) k v) ⟨_, e1, q2, q3, t_set q4 hap hk v⟩ (fun j _ => vp_updV_set hfl v j)⟩ e3) (hS.put e2 e3 (hP.1 hlz)) hl
/-- a final field, in the constructor of its class -/
theorem v_putF (O : vOk G X own cc ret fr mc ms) {ref C : String} {T : u_T} {N ci ix a l : Nat} {fs : List Value} {v : Value} {ty0 : Nat → FieldType} {ty : FieldType} (hin2 : (xt X).name = "<init>") (hin : ∀ w ∈ u_ws C T N, w ∈ lw_all) (hty : ∀ k, k < N → parseFieldDescriptor (T k).2.2.1 = some (ty0 k)) (hnm : ∀ a, a < N → ∀ b, b < N → a ≠ b → (T a).2.1 ≠ (T b).2.1) (hlz : l ≠ 0) (hσ : σ a = some (l, .inr (ci, fs))) (hc : vcl[ci]? = some (C, T, N)) (k : Nat) (hk : k < N) (href : (T k).1 = ref) (hlink : Cond.fieldLink own ix ref (T k).2.1 (T k).2.2.1 ∈ lw_all) (hfin : (T k).2.2.2 = true) (hdecl : (T k).1 = own) (hdd : parseFieldDescriptor (T k).2.2.1 = some ty) (hn : narrow ty v = v) (hfit : fits ty v = true) (hfl : k < fs.length) (hd : decode cc pc = .ok (.putfield ix, 3))
    (kk : V G X Q c n (vUp σ a (l, .inr (ci, fs.set k v))) (pc + 3) lv st) : V G X Q c n σ pc lv (v :: .ref a :: st) := by
  intro H locs ls hH hS hl
  have hsame : ∀ x, (xs X).fieldFound? (T k).1 (T k).2.1 (T k).2.2.1 = some x → (xs X).fieldFound? ref (T k).2.1 (T k).2.2.1 = some x := fun _ h => href ▸ h
  have hap := va_apart (own := own) O.ts hin ty0 hty hnm O.K hc
  have hP := hH a _ hσ
  obtain ⟨r, h1, cell, q1, q2, q3, q4⟩ := hP.2
  have hr : r = (C, T, N) := Option.some.inj (h1.symm.trans hc)
  subst hr
  obtain ⟨hSl, hfc, kC, hkC, hkind⟩ := O.K.1 ci _ hc
  obtain ⟨cf, kf, fi, f, hi, hsl⟩ := hSl k hk
  have hlay := O.ts _ (hin _ (u_in_lay hk))
  unfold u_lay at hlay
  rw [if_pos hfin] at hlay
  have hst := (u_facts hfc hkC (u_lays O.ts hin hk) hi).1
  have hcf : (xm X).cls = cf := by
    obtain ⟨_, _, c', _, _, _, -, -, hf', -, -, -, hown2, -⟩ := Cond.laysFinal_spec hlay
    have e1 : c' = cf := by have := hi.symm.trans hf'; simp at this; exact this.1.symm
    rw [hdecl] at hown2
    rw [← e1]; exact Option.some.inj (O.ow.symm.trans hown2)
  have h6 := u_fits hfc hkC hkind (Or.inr hlay) hi hdd hn hfit
  refine W.putFinK O.ex O.by O.ow (O.ts _ hlink) (hsame _ hi) hst hcf hin2 (by rw [q2]; exact h6) q1 q3 (by rw [hsl]; exact k2_hasslot (q4 k hk)) rfl rfl hd fun H' e1 e2 e3 => ?_
  rw [hsl] at e1 ⊢
  exact kk H' _ ls (hH.up (c := (l, .inr (ci, fs.set k v))) (fun _ => hP.1 hlz) ⟨_, hc, t_OB.to (V := updV (vp_V fs) k v) ⟨_, e1, q2, q3, t_set q4 hap hk v⟩ (fun j _ => vp_updV_set hfl v j)⟩ e3) (hS.put e2 e3 (hP.1 hlz)) hl
/-! arrays: the index is nI i -/
variable {a l N i : Nat} {f : Nat → Int32} {x : Int32}
theorem v_iald (O : vOk G X own cc ret fr mc ms) (hσ : σ a = some (l, .inl (0, N, .inl f))) (hi : i < N) (hN : N < 2 ^ 31) (hd : decode cc pc = .ok (.iaload, 1)) (kk : V G X Q c n σ (pc + 1) lv (.int (f i) :: st)) : V G X Q c n σ pc lv (.int (nI i) :: .ref a :: st) := fun H locs ls hH hS hl => va_iald O.ex O.by O.K (vP1 hH hσ) 0 0 rfl rfl (vp_in_nI hi hN) hd (by rw [nI_clamp (by omega)]; exact kk H locs ls hH hS hl)
theorem v_bald (O : vOk G X own cc ret fr mc ms) (hσ : σ a = some (l, .inl (1, N, .inl f))) (hi : i < N) (hN : N < 2 ^ 31) (hd : decode cc pc = .ok (.baload, 1)) (kk : V G X Q c n σ (pc + 1) lv (.int (f i) :: st)) : V G X Q c n σ pc lv (.int (nI i) :: .ref a :: st) := fun H locs ls hH hS hl => va_bald O.ex O.by O.K (vP1 hH hσ) 0 1 rfl rfl (vp_in_nI hi hN) hd (by rw [nI_clamp (by omega)]; exact kk H locs ls hH hS hl)
theorem v_zald (O : vOk G X own cc ret fr mc ms) (hσ : σ a = some (l, .inl (2, N, .inl f))) (hi : i < N) (hN : N < 2 ^ 31) (hd : decode cc pc = .ok (.baload, 1)) (kk : V G X Q c n σ (pc + 1) lv (.int (f i) :: st)) : V G X Q c n σ pc lv (.int (nI i) :: .ref a :: st) := fun H locs ls hH hS hl => va_zald O.ex O.by O.K (vP1 hH hσ) 0 2 rfl rfl (vp_in_nI hi hN) hd (by rw [nI_clamp (by omega)]; exact kk H locs ls hH hS hl)
theorem v_lald (O : vOk G X own cc ret fr mc ms) {f : Nat → Int64} (hσ : σ a = some (l, .inl (3, N, .inr (.inl f)))) (hi : i < N) (hN : N < 2 ^ 31) (hd : decode cc pc = .ok (.laload, 1)) (kk : V G X Q c n σ (pc + 1) lv (.long (f i) :: st)) : V G X Q c n σ pc lv (.int (nI i) :: .ref a :: st) := fun H locs ls hH hS hl => va_lald O.ex O.by O.K (vP1 hH hσ) 0 3 rfl rfl (vp_in_nI hi hN) hd (by rw [nI_clamp (by omega)]; exact kk H locs ls hH hS hl)
theorem v_aald (O : vOk G X own cc ret fr mc ms) {f : Nat → Option Nat} {t : Nat} {ty : FieldType} {r : Value} (hσ : σ a = some (l, .inl (t, N, .inr (.inr (.inr (.inr f)))))) (ht : (vTys (vGK G))[t]? = some (vGK G t, ty)) (hr : ty.isReference = true) (hi : i < N) (hN : N < 2 ^ 31) (hf : va_rf (f i) = r) (hd : decode cc pc = .ok (.aaload, 1)) (kk : V G X Q c n σ (pc + 1) lv (r :: st)) : V G X Q c n σ pc lv (.int (nI i) :: .ref a :: st) := by
  intro H locs ls hH hS hl
  subst hf
  have hin := vp_in_nI hi hN
  have hlt : (nI i).toNatClampNeg < N := Nat.not_le.mp fun q => hin (Or.inr q)
  refine W.aald (v := va_rf (f i)) (ty := ty) O.ex O.by (hH a _ hσ).2 ((O.K.2 t _ ht).1 N (fun j => va_rf (f j))) hr (fun q => by cases q) (by show ¬ (nI i < 0 ∨ (arrV _ _ _).slots.size ≤ _); rw [arrV_size]; exact hin) (by show (arrV _ _ _).slots[_]? = _; rw [arrV_read _ _ hlt, nI_clamp (by omega)]) rfl rfl hd (kk H locs ls hH hS hl)
theorem v_iast (O : vOk G X own cc ret fr mc ms) (hlz : l ≠ 0) (hσ : σ a = some (l, .inl (0, N, .inl f))) (hi : i < N) (hN : N < 2 ^ 31) (hd : decode cc pc = .ok (.iastore, 1)) (kk : V G X Q c n (vUp σ a (l, .inl (0, N, .inl (va_up f i x)))) (pc + 1) lv st) : V G X Q c n σ pc lv (.int x :: .int (nI i) :: .ref a :: st) := by
  intro H locs ls hH hS hl
  have hP := hH a _ hσ
  have hin := vp_in_nI hi hN
  refine W.iast O.ex O.by hP.2 ((O.K.2 0 _ rfl).1 N (fun j => .int (f j))) (fun q => by cases q) (by show ¬ (nI i < 0 ∨ (arrV _ _ _).slots.size ≤ _); rw [arrV_size]; exact hin) rfl rfl hd fun H1 e z oq => ?_
  refine kk H1 _ ls (hH.up (c := (l, .inl (0, N, .inl (va_up f i x)))) (fun _ => hP.1 hlz) ?_ oq) (hS.put z oq (hP.1 hlz)) hl
  show H1[a]? = some (vp_cell _ _)
  rw [e]
  show some ((vp_cell (vGK G 0) (N, .inl f)).setSlot _ _) = _
  rw [vp_cell_i, vp_cell_i, arrV_store, nI_clamp (by omega)]
  congr 2
  funext q
  by_cases hq : q = i
  · subst hq
    simp [updV, va_up]
  · simp [updV, va_up, hq]
theorem v_bast (O : vOk G X own cc ret fr mc ms) (hlz : l ≠ 0) (hσ : σ a = some (l, .inl (1, N, .inl f))) (hi : i < N) (hN : N < 2 ^ 31) (hd : decode cc pc = .ok (.bastore, 1)) (kk : V G X Q c n (vUp σ a (l, .inl (1, N, .inl (va_up f i (vp_nar .byte x))))) (pc + 1) lv st) : V G X Q c n σ pc lv (.int x :: .int (nI i) :: .ref a :: st) := by
  intro H locs ls hH hS hl
  have hP := hH a _ hσ
  have hin := vp_in_nI hi hN
  refine W.bast O.ex O.by hP.2 ((O.K.2 1 _ rfl).1 N (fun j => .int (f j))) (fun q => by cases q) (by show ¬ (nI i < 0 ∨ (arrV _ _ _).slots.size ≤ _); rw [arrV_size]; exact hin) rfl rfl hd fun H1 e z oq => ?_
  refine kk H1 _ ls (hH.up (c := (l, .inl (1, N, .inl (va_up f i (vp_nar .byte x))))) (fun _ => hP.1 hlz) ?_ oq) (hS.put z oq (hP.1 hlz)) hl
  show H1[a]? = some (vp_cell _ _)
  rw [e]
  show some ((vp_cell (vGK G 1) (N, .inl f)).setSlot _ _) = _
  rw [vp_cell_i, vp_cell_i, arrV_store, nI_clamp (by omega)]
  congr 2
  funext q
  by_cases hq : q = i
  · subst hq
    simp [updV, va_up, vp_nar]
    try rfl
  · simp [updV, va_up, hq]
theorem v_zast (O : vOk G X own cc ret fr mc ms) (hlz : l ≠ 0) (hσ : σ a = some (l, .inl (2, N, .inl f))) (hi : i < N) (hN : N < 2 ^ 31) (hx : vp_nar .boolean x = x) (hd : decode cc pc = .ok (.bastore, 1)) (kk : V G X Q c n (vUp σ a (l, .inl (2, N, .inl (va_up f i x)))) (pc + 1) lv st) : V G X Q c n σ pc lv (.int x :: .int (nI i) :: .ref a :: st) := by
  intro H locs ls hH hS hl
  have hP := hH a _ hσ
  have hin := vp_in_nI hi hN
  refine W.zast O.ex O.by hP.2 ((O.K.2 2 _ rfl).1 N (fun j => .int (f j))) (fun q => by cases q) (by show ¬ (nI i < 0 ∨ (arrV _ _ _).slots.size ≤ _); rw [arrV_size]; exact hin) rfl rfl hd fun H1 e z oq => ?_
  refine kk H1 _ ls (hH.up (c := (l, .inl (2, N, .inl (va_up f i x)))) (fun _ => hP.1 hlz) ?_ oq) (hS.put z oq (hP.1 hlz)) hl
  show H1[a]? = some (vp_cell _ _)
  rw [e]
  show some ((vp_cell (vGK G 2) (N, .inl f)).setSlot _ _) = _
  rw [vp_cell_i, vp_cell_i, arrV_store, nI_clamp (by omega)]
  congr 2
  funext q
  have hx' : narrow .boolean (.int x) = .int (vp_nar .boolean x) := by
    simp [vp_nar]
    try rfl
  by_cases hq : q = i
  · subst hq
    rw [hx', hx]
    simp [updV, va_up]
  · simp [updV, va_up, hq]
theorem v_last (O : vOk G X own cc ret fr mc ms) {f : Nat → Int64} {x : Int64} (hlz : l ≠ 0) (hσ : σ a = some (l, .inl (3, N, .inr (.inl f)))) (hi : i < N) (hN : N < 2 ^ 31) (hd : decode cc pc = .ok (.lastore, 1)) (kk : V G X Q c n (vUp σ a (l, .inl (3, N, .inr (.inl (va_up f i x))))) (pc + 1) lv st) : V G X Q c n σ pc lv (.long x :: .int (nI i) :: .ref a :: st) := by
  intro H locs ls hH hS hl
  have hP := hH a _ hσ
  have hin := vp_in_nI hi hN
  refine W.last O.ex O.by hP.2 ((O.K.2 3 _ rfl).1 N (fun j => .long (f j))) (fun q => by cases q) (by show ¬ (nI i < 0 ∨ (arrV _ _ _).slots.size ≤ _); rw [arrV_size]; exact hin) rfl rfl hd fun H1 e z oq => ?_
  refine kk H1 _ ls (hH.up (c := (l, .inl (3, N, .inr (.inl (va_up f i x))))) (fun _ => hP.1 hlz) ?_ oq) (hS.put z oq (hP.1 hlz)) hl
  show H1[a]? = some (vp_cell _ _)
  rw [e]
  show some ((vp_cell (vGK G 3) (N, .inr (.inl f))).setSlot _ _) = _
  rw [vp_cell_l, vp_cell_l, arrV_store, nI_clamp (by omega)]
  congr 2
  funext q
  by_cases hq : q = i
  · subst hq
    simp [updV, va_up]
  · simp [updV, va_up, hq]
theorem v_alen (O : vOk G X own cc ret fr mc ms) {t : Nat} {y : vp_A} {ty : FieldType} {v : Int32} (hσ : σ a = some (l, .inl (t, y))) (ht : (vTys (vGK G))[t]? = some (vGK G t, ty)) (hv : Int32.ofNat y.1 = v) (hd : decode cc pc = .ok (.arraylength, 1)) (kk : V G X Q c n σ (pc + 1) lv (.int v :: st)) : V G X Q c n σ pc lv (.ref a :: st) := fun H locs ls hH hS hl => va_alen (x := y) O.ex O.by O.K (vP1 hH hσ) 0 t rfl ht hv hd (kk H locs ls hH hS hl)
/-! making -/
theorem v_new (O : vOk G X own cc ret fr mc ms) {C : String} {T : u_T} {N ci ix : Nat} {ty : Nat → FieldType} {fs : List Value} (lab : Nat → Nat) (hin : ∀ w ∈ u_ws C T N, w ∈ lw_all) (hty : ∀ k, k < N → parseFieldDescriptor (T k).2.2.1 = some (ty k)) (hcl : Cond.classLink own ix C ∈ lw_all) (hinst : Cond.instantiable C N ∈ lw_all) (hini : Cond.initialized C ∈ lw_all) (hc : vcl[ci]? = some (C, T, N)) (hfs : ∀ j, j < N → defaultValue (ty j) = vp_V fs j) (hcm : c + 1 ≤ mc) (hsm : n + N ≤ ms) (hd : decode cc pc = .ok (.new ix, 3))
    (kk : ∀ q : Nat, σ q = none → q ≠ 0 → V G X Q (c + 1) (n + N) (vUp σ q (lab q, .inr (ci, fs))) (pc + 3) lv (.ref q :: st)) : V G X Q c n σ pc lv st := by
  intro H locs ls hH hS hl
  have hKn := O.K.1 ci _ hc
  refine W.newcK O.ex O.by O.ow (O.ts _ hcl) (O.ts _ hinst) (O.ts _ hini) rfl hd (Nat.le_trans hcm O.rm.2.2.1) (Nat.le_trans hsm O.rm.2.2.2) hKn.2.1 rfl fun H1 kC hkC e1 z1 o1 => ?_
  have hB : vB0 G ≤ H.size := Nat.le_trans O.ba.1 hS.1
  refine kk H.size hH.fresh (by have := O.gk.2.2.2.2; omega) H1 _ ls (hH.push hB ⟨_, hc, (u_born ty O.ts hin hKn hkC e1 hty).to hfs⟩ o1) ⟨Nat.le_trans hS.1 (by omega), fun x h1 h2 => (o1 x (Nat.lt_of_lt_of_le h1 hS.1)).trans (hS.2.1 x h1 h2), hS.2.2⟩ hl
theorem v_newa (O : vOk G X own cc ret fr mc ms) {atype : ArrayType} {t : Nat} {ty : FieldType} {a0 : vp_A} (lab : Nat → Nat) (harr : Cond.arrayClass ty ∈ lw_all) (hty : newarray.typeOf atype = ty) (ht : (vTys (vGK G))[t]? = some (vGK G t, ty)) (hob : ∀ C, ty ≠ .object C) (ha : ∀ cA : ClassId, vp_cell cA a0 = arrV cA N (fun _ => defaultValue ty)) (hN : N < 2 ^ 26) (hcm : c + 1 ≤ mc) (hsm : n + N ≤ ms) (hd : decode cc pc = .ok (.newarray atype, 2))
    (kk : ∀ q : Nat, σ q = none → q ≠ 0 → V G X Q (c + 1) (n + N) (vUp σ q (lab q, .inl (t, a0))) (pc + 2) lv (.ref q :: st)) : V G X Q c n σ pc lv (.int (nI N) :: st) := by
  intro H locs ls hH hS hl
  subst hty
  refine va_newaK (N := N) O.ex O.by (O.ts _ harr) rfl hd rfl (nI_pos (by omega)) (nI_clamp (by omega)) (by cases atype <;> simp only [newarray.typeOf, componentBytes] <;> omega) (Nat.le_trans hcm O.rm.2.2.1) (Nat.le_trans hsm O.rm.2.2.2) rfl fun H1 cA e1 z1 o1 hAr hNm => ?_
  have hB : vB0 G ≤ H.size := Nat.le_trans O.ba.1 hS.1
  have hcA : cA = vGK G t := by
    have h1 := (O.K.2 t _ ht).2
    cases atype <;> exact Option.some.inj (hNm.symm.trans h1)
  refine kk H.size hH.fresh (by have := O.gk.2.2.2.2; omega) H1 _ ls (hH.push hB ?_ o1) ⟨Nat.le_trans hS.1 (by omega), fun x h1 h2 => (o1 x (Nat.lt_of_lt_of_le h1 hS.1)).trans (hS.2.1 x h1 h2), hS.2.2⟩ hl
  show H1[H.size]? = some (vp_cell _ _)
  rw [ha, ← hcA]
  exact e1
theorem v_objInit (O : vOk G X own cc ret fr mc ms) {ix a : Nat} (hl1 : Cond.methodLink own ix Lib.objectInit ∈ lw_all) (hl2 : Cond.instanceMethod Lib.objectInit ∈ lw_all) (hl3 : Cond.code Lib.objectInit ⟨#[0xb1]⟩ 1 none ∈ lw_all) (hd : decode cc pc = .ok (.invokespecial ix, 3)) (hf : 1 ≤ fr) (hs : (st.map fun v => v.category).sum ≤ 8) (kk : V G X Q c n σ (pc + 3) lv st) : V G X Q c n σ pc lv (.ref a :: st) := fun H locs ls hH hS hl =>
  W.objInit O.ex O.by O.ow (O.ts _ hl1) (O.ts _ hl2) (O.ts _ hl3) rfl (by rw [O.ml]; exact hl.1) rfl hd (Nat.le_trans hf O.rm.1) (by have h1 := O.rm.2.1; have h2 : 64 ≤ 64 * fr := by omega
                                                                                                                                     show 2 * 0 + _ + _ ≤ _
                                                                                                                                     omega) (kk H locs ls hH hS hl)
end VH
