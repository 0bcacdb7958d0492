/-! what the start says: words of the two long conditions -/
theorem nar_lr {a b : Cond} {args : Array Value} {s : State} (h : (Cond.and a b).before args s = true) : a.before args s = true ∧ b.before args s = true := by
  simp only [Cond.before, Cond.holds, Cond.value] at h ⊢
  cases hv : Cond.value args s none s [] a with
  | none => rw [hv] at h; cases h
  | some x =>
    rw [hv] at h
    cases x
    · cases h
    · exact ⟨rfl, h⟩
theorem nar_l {a b : Cond} {args : Array Value} {s : State} (h : (Cond.and a b).before args s = true) : a.before args s = true := (nar_lr h).1
theorem nar_r {a b : Cond} {args : Array Value} {s : State} (h : (Cond.and a b).before args s = true) : b.before args s = true := (nar_lr h).2
theorem lw_inT {w : Cond} (h : w ∈ lw_all) : w ∈ lw_tbl := (List.mem_filter.mp h).1
/-- what a throw asks of the start -/
theorem vThr {G : vGC} (hG : vGok G) : vx_Zq Bundle.tN "UNASSIGNED_STACK" Bundle.steD (vA G) (vGs G) (vGs G).heap ∧ vx_Zq Bundle.tN "SUPPRESSED_SENTINEL" Bundle.listD (vA G) (vGs G) (vGs G).heap :=
  ⟨vx_Zqof (hG.2.1 _ q370) (hG.2.1 _ (lw_inT q78)) (nar_r (nar_r (nar_l (nar_l (nar_l (nar_l (nar_l (nar_l (nar_l (nar_l (nar_l (nar_r hG.2.2.2.1)))))))))))) (fun a h1 h2 => absurd h1 (Nat.not_lt.mpr h2)),
   vx_Zqof (hG.2.1 _ q372) (hG.2.1 _ (lw_inT q78)) (nar_l (nar_r (nar_l (nar_l (nar_l (nar_l (nar_l (nar_l (nar_l (nar_l (nar_r hG.2.2.2.1))))))))))) (fun a h1 h2 => absurd h1 (Nat.not_lt.mpr h2))⟩
theorem vZq {G : vGC} {X : vCX} {own : String} {cc : ByteArray} {ret : Option FieldType} {fr mc ms : Nat} (O : vOk G X own cc ret fr mc ms) {C n d : String} (h : vx_Zq C n d (vA G) (vGs G) (vGs G).heap) : vx_Zq C n d (vA G) (xs X) (xs X).heap :=
  vx_Zq.moved O.wm.alike (h.kept fun a h1 h2 => O.ba.2 a (Nat.not_le.mp h2))
theorem vDc {G : vGC} {X : vCX} {own : String} {cc : ByteArray} {ret : Option FieldType} {fr mc ms : Nat} (O : vOk G X own cc ret fr mc ms) {x : MethodName} (h : Cond.declares x ∈ lw_tbl) : (Cond.declares x).before (xa X) (xs X) = true := va_Nw.use rfl (va_Nw.warmD O.wm (va_Nw.of rfl (O.gk.2.1 _ h)))
/-- 'throw new E()' in a method without handlers -/
theorem v_throw0 {G : vGC} {X : vCX} {own : String} {cc : ByteArray} {ret : Option FieldType} {fr mc ms c n : Nat} {σ : vSt} {pc : Nat} {lv : List (Nat × Value)} {P : Option Value → vSt → Prop} {PX : String → Nat → vSt → Prop} (O : vOk G X own cc ret fr mc ms) {cls : String} {names : List String} {ik ic : Nat}
    (hcls : Bundle.fit cls = true) (hnames : ∀ n ∈ names, Bundle.fit n = true) (hk : Cond.classLink own ik cls ∈ lw_all) (hini : Cond.initialized cls ∈ lw_all) (hat : ∀ w ∈ vx_at0 own ic cls names, w.before (xa X) (xs X) = true)
    (hgood : ∀ w ∈ Cond.classLink own ik cls :: Cond.initialized cls :: vx_at0 own ic cls names, vx_ot w = true)
    (d0 : decode cc pc = .ok (.new ik, 3)) (d3 : decode cc (pc + 3) = .ok (.dup, 1)) (d4 : decode cc (pc + 4) = .ok (.invokespecial ic, 3)) (d7 : decode cc (pc + 7) = .ok (.athrow, 1))
    (hout : ∀ x ∈ (xc X).exceptionTable.toList, covers x (pc + 7) = false) (hf : names.length + 4 ≤ fr) (hcm : c + 1 ≤ mc) (hsm : n + 6 ≤ ms) (hp : ∀ q : Nat, σ q = none → PX cls q σ) : V G X (vRQ G X P PX mc ms) c n σ pc lv [] := fun H locs ls hH hS hl => by
  obtain ⟨z1, z2⟩ := vThr O.gk
  obtain ⟨r1, r2, r3, r4⟩ := O.rm
  refine vx_throw0 (A := vA G) O.ex O.by O.gk.2.2.1 O.ow hcls hnames (O.ts _ hk) (O.ts _ hini) hat hgood (vZq O z1) (vZq O z2) hS (hl.1.trans O.ml.symm) d0 d3 d4 d7 hout (by omega) (by show 0 + _ ≤ _; omega) (by omega) (by omega) O.lk (fun q9 t h1 h2 h3 h4 => ⟨⟨σ, hp q9 (by
    cases e : σ q9 with
    | none => rfl
    | some x => have := hH.lt e; omega), hH.kept h4⟩, ?_⟩) hS.2.2 hcm hsm
  exact ⟨Nat.le_trans hS.1 h3, fun q hq hA => (h4 q (Nat.lt_of_lt_of_le hq hS.1)).trans (hS.2.1 q hq hA)⟩
