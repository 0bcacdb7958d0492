/-! ===== V: a layer of my own over W: the heap as a store by address, every constant of a launch in one name ===== -/
/-- a cell: its label (0: nobody writes it; else the address of the object it belongs to), and an array by its kind, or an object -/
abbrev vCel : Type := Nat × ((Nat × vp_A) ⊕ (Nat × List Value))
abbrev vSt : Type := Nat → Option vCel
abbrev vcl : List vw_C := [(RX1, TX1, 6), (RX2, TX2, 3), (RX3, TX3, 27), (RX4, TX4, 6), (RX5, TX5, 8), (RX6, TX6, 5), (RX7, TX7, 3), (RX8, TX8, 11), (RX9, TX9, 4), (RJ1, TJ1, 3), (RJ8, TJ8, 3), (RJ18, TJ18, 4), (RJ10, TJ10, 4), (RJ11, TJ11, 4)]
/-- launch, the law's start, its argument's cell, class numbers and places, array classes -/
abbrev vGC : Type := Launch × State × Nat × va_G × (Nat → ClassId)
abbrev vGl (G : vGC) : Launch := G.1
abbrev vGs (G : vGC) : State := G.2.1
abbrev vGb (G : vGC) : Nat := G.2.2.1
abbrev vGD (G : vGC) : va_G := G.2.2.2.1
abbrev vGK (G : vGC) : Nat → ClassId := G.2.2.2.2
def vB0 (G : vGC) : Nat := (vGs G).heap.size
def vTys (K : Nat → ClassId) : List (ClassId × FieldType) := [(K 0, .int), (K 1, .byte), (K 2, .boolean), (K 3, .long), (K 4, .array .int), (K 5, .object "java/lang/Object")]
def vE (G : vGC) (c : vCel) : va_E := match c.2 with
  | .inl a => .inl (vGK G a.1, a.2)
  | .inr o => .inr o
def vHolds (G : vGC) (σ : vSt) (H : Heap) : Prop := ∀ (a : Nat) (c : vCel), σ a = some c → (c.1 ≠ 0 → vB0 G ≤ a) ∧ va_at (vGD G) vcl (a, vE G c) H
def vA (G : vGC) : Nat → Prop := fun q => vB0 G ≤ q
def vBase (G : vGC) (H : Heap) : Prop := vB0 G ≤ H.size ∧ ∀ q : Nat, q < vB0 G → H[q]? = (vGs G).heap[q]?
/-- what is known of the start -/
def vGok (G : vGC) : Prop := va_K (vGD G) vcl (vTys (vGK G)) (vGs G) ∧ (∀ w ∈ lw_tbl, w.before #[Value.ref (vGb G)] (vGs G) = true) ∧ (vGl G).stackTraces = false ∧ (Jvm.Cond.and given_1 narrow_1).before #[Value.ref (vGb G)] (vGs G) = true ∧ 1 ≤ vB0 G
/-- a method's activation -/
abbrev vCX : Type := Program × Env × Room × State × MethodId × Array Value × List Frame × Method × Code × Nat
abbrev xp (X : vCX) : Program := X.1
abbrev xe (X : vCX) : Env := X.2.1
abbrev xR (X : vCX) : Room := X.2.2.1
abbrev xs (X : vCX) : State := X.2.2.2.1
abbrev xm (X : vCX) : MethodId := X.2.2.2.2.1
abbrev xa (X : vCX) : Array Value := X.2.2.2.2.2.1
abbrev xb (X : vCX) : List Frame := X.2.2.2.2.2.2.1
abbrev xt (X : vCX) : Method := X.2.2.2.2.2.2.2.1
abbrev xc (X : vCX) : Code := X.2.2.2.2.2.2.2.2.1
abbrev xn (X : vCX) : Nat := X.2.2.2.2.2.2.2.2.2
def V (G : vGC) (X : vCX) (Q : State → Prop) (c n : Nat) (σ : vSt) (pc : Nat) (lv : List (Nat × Value)) (st : List Value) : Prop :=
  ∀ (H : Heap) (locs : List Loc) (ls : Array Slot), vHolds G σ H → va_S (vA G) (xs X).heap H locs → lv_has ls (xn X) lv → W (xp X) (vGl G) (xe X) (xR X) (xs X) (xm X) (xa X) (xb X) (xt X) (xc X) H locs c n Q (F0 (xm X) pc ls st)
/-- an exception of the class E, the cell q, thrown at pc -/
def VX (G : vGC) (X : vCX) (Q : State → Prop) (c n : Nat) (σ : vSt) (pc : Nat) (lv : List (Nat × Value)) (E : String) (q : Nat) : Prop :=
  ∀ (H : Heap) (locs : List Loc) (ls : Array Slot) (rest : List Value) (ce : Cell), vHolds G σ H → va_S (vA G) (xs X).heap H locs → lv_has ls (xn X) lv → H[q]? = some ce → ce.vm = .none → (xs X).vm.findClass E = some ce.cls → vx_W (xp X) (vGl G) (xe X) (xR X) (xs X) (xm X) (xa X) (xb X) (xt X) (xc X) H locs c n Q (F0 (xm X) pc ls rest) q
def vOk (G : vGC) (X : vCX) (own : String) (cc : ByteArray) (ret : Option FieldType) (fr mc ms : Nat) : Prop :=
  (xp X).tables.exec = Jvm.exec ∧ (xc X).code = cc ∧ (xt X).sig.returnType = ret ∧ (xc X).maxLocals = xn X ∧ (xs X).vm.findClass own = some (xm X).cls ∧ (∀ w ∈ lw_all, w.before (xa X) (xs X) = true) ∧ (xt X).locks = false ∧ (vGs G).WarmedH (xs X).vm ∧ vBase G (xs X).heap ∧ (fr ≤ (xR X).frames ∧ 64 * fr ≤ (xR X).locals ∧ mc ≤ (xR X).cells ∧ ms ≤ (xR X).slots) ∧ vGok G
section VOK
variable {G : vGC} {X : vCX} {own : String} {cc : ByteArray} {ret : Option FieldType} {fr mc ms : Nat}
theorem vOk.ex (O : vOk G X own cc ret fr mc ms) : (xp X).tables.exec = Jvm.exec := O.1
theorem vOk.by (O : vOk G X own cc ret fr mc ms) : (xc X).code = cc := O.2.1
theorem vOk.rt (O : vOk G X own cc ret fr mc ms) : (xt X).sig.returnType = ret := O.2.2.1
theorem vOk.ml (O : vOk G X own cc ret fr mc ms) : (xc X).maxLocals = xn X := O.2.2.2.1
theorem vOk.ow (O : vOk G X own cc ret fr mc ms) : (xs X).vm.findClass own = some (xm X).cls := O.2.2.2.2.1
theorem vOk.ts (O : vOk G X own cc ret fr mc ms) : ∀ w ∈ lw_all, w.before (xa X) (xs X) = true := O.2.2.2.2.2.1
theorem vOk.lk (O : vOk G X own cc ret fr mc ms) : (xt X).locks = false := O.2.2.2.2.2.2.1
theorem vOk.wm (O : vOk G X own cc ret fr mc ms) : (vGs G).WarmedH (xs X).vm := O.2.2.2.2.2.2.2.1
theorem vOk.ba (O : vOk G X own cc ret fr mc ms) : vBase G (xs X).heap := O.2.2.2.2.2.2.2.2.1
theorem vOk.rm (O : vOk G X own cc ret fr mc ms) : fr ≤ (xR X).frames ∧ 64 * fr ≤ (xR X).locals ∧ mc ≤ (xR X).cells ∧ ms ≤ (xR X).slots := O.2.2.2.2.2.2.2.2.2.1
theorem vOk.gk (O : vOk G X own cc ret fr mc ms) : vGok G := O.2.2.2.2.2.2.2.2.2.2
theorem vOk.K (O : vOk G X own cc ret fr mc ms) : va_K (vGD G) vcl (vTys (vGK G)) (xs X) := va_K.moved O.wm.alike O.gk.1
theorem vOk.A (O : vOk G X own cc ret fr mc ms) : ∀ q : Nat, (xs X).heap.size ≤ q → vA G q := fun q h => Nat.le_trans O.ba.1 h
end VOK
def vUp (σ : vSt) (a : Nat) (c : vCel) : vSt := fun x => if x = a then some c else σ x
theorem vUp_s {σ : vSt} {a : Nat} {c : vCel} : vUp σ a c a = some c := by simp [vUp]
theorem vUp_n {σ : vSt} {a b : Nat} {c : vCel} (h : b ≠ a) : vUp σ a c b = σ b := by simp [vUp, h]
theorem vHolds.lt {G : vGC} {σ : vSt} {H : Heap} (h : vHolds G σ H) {a : Nat} {c : vCel} (e : σ a = some c) : a < H.size := (h a c e).2.lt
theorem vHolds.up {G : vGC} {σ : vSt} {H H1 : Heap} (h : vHolds G σ H) {a : Nat} {c : vCel} (hl : c.1 ≠ 0 → vB0 G ≤ a) (e : va_at (vGD G) vcl (a, vE G c) H1) (oq : ∀ q : Nat, q ≠ a → H1[q]? = H[q]?) : vHolds G (vUp σ a c) H1 := by
  intro b d hb
  by_cases hba : b = a
  · subst hba
    rw [vUp_s] at hb
    cases hb
    exact ⟨hl, e⟩
  · rw [vUp_n hba] at hb
    exact ⟨(h b d hb).1, (h b d hb).2.kept (oq b hba)⟩
theorem vHolds.kept {G : vGC} {σ : vSt} {H H1 : Heap} (h : vHolds G σ H) (oq : ∀ q : Nat, q < H.size → H1[q]? = H[q]?) : vHolds G σ H1 := fun b d hb => ⟨(h b d hb).1, (h b d hb).2.kept (oq b (h.lt hb))⟩
theorem vHolds.push {G : vGC} {σ : vSt} {H H1 : Heap} (h : vHolds G σ H) (hb : vB0 G ≤ H.size) {c : vCel} (e : va_at (vGD G) vcl (H.size, vE G c) H1) (oq : ∀ q : Nat, q < H.size → H1[q]? = H[q]?) : vHolds G (vUp σ H.size c) H1 := by
  intro b d hbd
  by_cases hba : b = H.size
  · subst hba
    rw [vUp_s] at hbd
    cases hbd
    exact ⟨fun _ => hb, e⟩
  · rw [vUp_n hba] at hbd
    exact ⟨(h b d hbd).1, (h b d hbd).2.kept (oq b (h.lt hbd))⟩
theorem vHolds.fresh {G : vGC} {σ : vSt} {H : Heap} (h : vHolds G σ H) : σ H.size = none := by
  cases e : σ H.size with
  | none => rfl
  | some c => exact absurd (h.lt e) (Nat.lt_irrefl _)
theorem vHolds.mono {G : vGC} {σ σ' : vSt} {H : Heap} (h : vHolds G σ H) (hs : ∀ a c, σ' a = some c → σ a = some c) : vHolds G σ' H := fun a c e => h a c (hs a c e)
/-! contracts -/
def vRm (fr mc ms : Nat) : Room := { frames := fr, cells := mc, slots := ms, locals := 64 * fr }
def vPre (G : vGC) (σ : vSt) (U : State) : Prop := (vGs G).WarmedH U.vm ∧ vBase G U.heap ∧ vHolds G σ U.heap
def vQc (G : vGC) (P : Option Value → vSt → Prop) : Array Value → State → Outcome → State → Prop := fun _ st o t => (∃ (v : Option Value) (σ' : vSt), o = .returned v ∧ P v σ' ∧ vHolds G σ' t.heap) ∧ va_F (vA G) st t
def vXC (G : vGC) (PX : String → Nat → vSt → Prop) : Addr → String → State → State → Prop := fun q E st t => (∃ σ' : vSt, PX E q σ' ∧ vHolds G σ' t.heap) ∧ va_F (vA G) st t
def Ct (G : vGC) (y : MethodName) (ws : List Cond) (fr mc ms : Nat) (σ : vSt) (as : List Value) (P : Option Value → vSt → Prop) (PX : String → Nat → vSt → Prop) : Prop :=
  vx_Met (vGl G) y ws (vRm fr mc ms) (va_Pc as (vPre G σ)) (vQc G P) (vXC G PX) mc ms (vA G)
def vNo : String → Nat → vSt → Prop := fun _ _ _ => False
def vRQ (G : vGC) (X : vCX) (P : Option Value → vSt → Prop) (PX : String → Nat → vSt → Prop) (mc ms : Nat) : State → Prop := vx_MQ (xb X) (vQc G P) (vXC G PX) (xa X) (xs X) mc ms (vA G)
theorem vPre_blind {G : vGC} {σ : vSt} {as : List Value} : FrameBlind (va_Pc as (vPre G σ)) := fun a U g mk h => ⟨h.1, h.2.1, h.2.2.1, h.2.2.2⟩
theorem ct_of {G : vGC} (hG : vGok G) {y : MethodName} {cc : ByteArray} {nL : Nat} {ret : Option FieldType} {fr mc ms : Nat} {σ : vSt} {as : List Value} {P : Option Value → vSt → Prop} {PX : String → Nat → vSt → Prop} (hy : plainName y.cls = true) (hn : (lg_sl as).length ≤ nL)
    (body : ∀ X : vCX, xn X = nL → vOk G X y.cls cc ret fr mc ms → (xt X).name = y.name → (∀ x ∈ (xc X).exceptionTable.toList, False) → V G X (vRQ G X P PX mc ms) 0 0 σ 0 (lv_args 0 as) []) : Ct G y (ws_ y cc nL ret) fr mc ms σ as P PX := by
  refine vx_ofW (cc := cc) (maxL := nL) (ret := ret) hy rfl ?_
  intro p e s m args below meth c s₁ B hml htb hv
  obtain ⟨rfl, hw, hba, hho⟩ := hv
  have hts := atoms_spec (ws := ws_ y cc nL ret) B.pre
  have O : vOk G (p, e, vRm fr mc ms, s, m, as.toArray, below, meth, c, nL) y.cls cc ret fr mc ms := ⟨B.exec, B.bytes, B.returns, hml, findClass_of_methodNamed B.named, fun w h => hts w (List.mem_cons_of_mem _ h), B.notSynchronized, hw, hba, ⟨Nat.le_refl _, Nat.le_refl _, Nat.le_refl _, Nat.le_refl _⟩, hG⟩
  have hl := lv_entry as (n := nL) hn
  rw [lg_entry_eq]
  exact body _ rfl O (name_of_methodNamed B.named B.method).1 htb s.heap [] _ hho va_S.rf hl
theorem ct_ofH {G : vGC} (hG : vGok G) {y : MethodName} {cc : ByteArray} {nL : Nat} {ret : Option FieldType} {hh : List (Nat × Nat × Nat × Nat)} {fr mc ms : Nat} {σ : vSt} {as : List Value} {P : Option Value → vSt → Prop} {PX : String → Nat → vSt → Prop} (hy : plainName y.cls = true) (hn : (lg_sl as).length ≤ nL)
    (body : ∀ X : vCX, xn X = nL → vOk G X y.cls cc ret fr mc ms → (xt X).name = y.name → (xc X).exceptionTable.toList = tableOf hh → V G X (vRQ G X P PX mc ms) 0 0 σ 0 (lv_args 0 as) []) : Ct G y (wsW_ y cc nL ret hh) fr mc ms σ as P PX := by
  refine vx_ofWH (cc := cc) (maxL := nL) (ret := ret) (hh := hh) hy (hw := rfl) ?_
  intro p e s m args below meth c s₁ B hml hv
  obtain ⟨rfl, hw, hba, hho⟩ := hv
  have hts := atoms_spec (ws := wsW_ y cc nL ret hh) B.pre
  have htb := vx_table (x := y) B (hts _ List.mem_cons_self)
  have O : vOk G (p, e, vRm fr mc ms, s, m, as.toArray, below, meth, c, nL) y.cls cc ret fr mc ms := ⟨B.exec, B.bytes, B.returns, hml, findClass_of_methodNamed B.named, fun w h => hts w (List.mem_cons_of_mem _ h), B.notSynchronized, hw, hba, ⟨Nat.le_refl _, Nat.le_refl _, Nat.le_refl _, Nat.le_refl _⟩, hG⟩
  have hl := lv_entry as (n := nL) hn
  rw [lg_entry_eq]
  exact body _ rfl O (name_of_methodNamed B.named B.method).1 htb s.heap [] _ hho va_S.rf hl
