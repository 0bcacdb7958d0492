def chd (M : Nat → Nat) (b : Nat) : List Nat → Nat
  | [] => b
  | x :: _ => M x
/-- from whom, backwards over a part of a path and then over to the other side -/
def Back (M f : Nat → Nat) (b : Nat) : List Nat → Prop
  | [] => True
  | x :: X => f x = chd M b X ∧ Back M f b X
theorem Back.suf {M f : Nat → Nat} {b : Nat} {X : List Nat} : ∀ {Z : List Nat}, Back M f b (Z ++ X) → Back M f b X
  | [], h => h
  | _ :: _, h => Back.suf h.2
theorem Back.mem {M f : Nat → Nat} {b v : Nat} : ∀ {Z : List Nat}, Back M f b Z → v ∈ Z → ∃ Z1 X, Z = Z1 ++ v :: X ∧ Back M f b (v :: X) := fun {Z} h hv => by
  obtain ⟨Z1, X, rfl⟩ := List.append_of_mem hv
  exact ⟨Z1, X, rfl, h.suf⟩
theorem Back.ep {M f : Nat → Nat} {rt b : Nat} {Lb : List Nat} : ∀ {X : List Nat} {v : Nat}, Back M f b (v :: X) → (∀ x, x ∈ v :: X → M (M x) = x ∧ M x ≠ rt) → EP M f rt b Lb → EP M f rt (M v) (X.map M ++ b :: Lb)
  | [], v, h, hm, hb => ⟨(hm v (List.mem_cons_self ..)).2, by rw [(hm v (List.mem_cons_self ..)).1]; exact h.1, hb⟩
  | x :: X, v, h, hm, hb => ⟨(hm v (List.mem_cons_self ..)).2, by rw [(hm v (List.mem_cons_self ..)).1]; exact h.1, Back.ep h.2 (fun y hy => hm y (List.mem_cons_of_mem _ hy)) hb⟩
theorem MOk.inv {adj : Nat → Nat → Bool} {S : Nat → Bool} {M : Nat → Nat} (h : MOk adj S M) {x : Nat} (hx : x < 12) (hm : M x < 12) : M (M x) = x ∧ S x = true ∧ adj x (M x) = true := by
  rcases h x hx with e | e
  · omega
  · exact e.2
theorem Smp.ne {adj : Nat → Nat → Bool} {S : Nat → Bool} {M : Nat → Nat} (h : MOk adj S M) (hirr : ∀ x, adj x x = false) : ∀ {L : List Nat}, Smp M L → (∀ x, x ∈ L → x < 12) → ∀ x y, x ∈ L → y ∈ L → x ≠ M y
  | [], _, _, _, _, hx, _ => nomatch hx
  | z :: L, hs, hl, x, y, hx, hy => by
    obtain ⟨h1, h2⟩ := List.pairwise_cons.mp hs
    rcases List.mem_cons.mp hx with ex | hx
    · rcases List.mem_cons.mp hy with ey | hy
      · rw [ex, ey]
        intro e
        have h3 := h.inv (hl z (List.mem_cons_self ..)) (by rw [← e]; exact hl z (List.mem_cons_self ..))
        rw [← e, hirr] at h3
        cases h3.2.2
      · rw [ex]; exact (h1 y hy).2
    · rcases List.mem_cons.mp hy with ey | hy
      · rw [ey]
        intro e
        have hx2 := hl x (List.mem_cons_of_mem _ hx)
        have h3 := h.inv (hl z (List.mem_cons_self ..)) (by rw [← e]; exact hx2)
        rw [← e] at h3
        exact (h1 x hx).2 h3.1.symm
      · exact Smp.ne h hirr h2 (fun x hx => hl x (List.mem_cons_of_mem _ hx)) x y hx hy
theorem first_of {p : Nat → Prop} : ∀ {l : List Nat}, (∃ y, y ∈ l ∧ p y) → ∃ P z R, l = P ++ z :: R ∧ p z ∧ ∀ y, y ∈ P → ¬p y
  | [], ⟨_, h, _⟩ => nomatch h
  | x :: l, ⟨y, hy, hp⟩ => by
    by_cases hx : p x
    · exact ⟨[], x, l, rfl, hx, fun y hy => nomatch hy⟩
    · rcases List.mem_cons.mp hy with e | hy
      · rw [e] at hp; exact absurd hp hx
      · obtain ⟨P, z, R, e, hz, h⟩ := first_of ⟨y, hy, hp⟩
        exact ⟨x :: P, z, R, by rw [e]; rfl, hz, fun y hy => by
          rcases List.mem_cons.mp hy with e | hy
          · rw [e]; exact hx
          · exact h y hy⟩
/-- one side of a ring: a path up to the first of the common block -/
def Arm (M f : Nat → Nat) (rt : Nat) (base : Nat → Nat) (E : Nat → Bool) (t a : Nat) (A : List Nat) (w : Nat) (R L : List Nat) : Prop :=
  E a = true ∧ EP M f rt a L ∧ Smp M (a :: L) ∧ a :: L = A ++ w :: R ∧ (∀ v, v ∈ A → base v ≠ t) ∧ base w = t
theorem Arm.even {adj : Nat → Nat → Bool} {S : Nat → Bool} {M : Nat → Nat} {rt : Nat} {f base : Nat → Nat} {E : Nat → Bool} {r : Nat → Nat} (h : EdI adj S M rt f base E r) {t a w : Nat} {A R L : List Nat} (hA : Arm M f rt base E t a A w R L) : (∀ y, y ∈ a :: L → E y = true) ∧ (∀ y, y ∈ A → y ∈ a :: L ∧ E y = true ∧ y ≠ rt ∧ r t < r (base y) ∧ (f (M y) ∈ A ∨ f (M y) = w)) ∧ E w = true ∧ (∀ y, y ∈ w :: R → y ∈ a :: L ∧ (base y = t ∨ r (base y) < r t)) := by
  obtain ⟨h1, h2, h3, h4, h5, h6⟩ := hA
  have ev : ∀ y, y ∈ a :: L → E y = true := fun y hy => by
    rcases List.mem_cons.mp hy with e | hy
    · rw [e]; exact h1
    · exact (h.mem h1 h2 y hy).1
  have hw : E w = true := ev w (by rw [h4]; simp)
  refine ⟨ev, fun y hy => ?_, hw, fun y hy => ⟨by rw [h4]; exact List.mem_append_right _ hy, ?_⟩⟩
  · have hy2 : y ∈ a :: L := by rw [h4]; exact List.mem_append_left _ hy
    obtain ⟨P, Q, e⟩ := List.append_of_mem hy
    have hn := EP.nxt h2 h4 y hy
    refine ⟨hy2, ev y hy2, hn.1, ?_, hn.2⟩
    have h7 : EP M f rt y (Q ++ w :: R) := h2.split (P := P) (by rw [h4, e, List.append_assoc]; rfl)
    have h8 := h.mem (ev y hy2) h7 w (by simp)
    rw [h6] at h8
    exact h8.2.resolve_left fun e => h5 y hy e.symm
  · rcases List.mem_cons.mp hy with e | hy
    · rw [e]; exact .inl h6
    · have h9 := h.mem hw (h2.split h4) y hy
      rw [h6] at h9
      exact h9.2
theorem Arm.k1 {adj : Nat → Nat → Bool} {S : Nat → Bool} {M : Nat → Nat} (hM : MOk adj S M) (hirr : ∀ x, adj x x = false) {rt : Nat} (hr : M rt = 12) {f base : Nat → Nat} {E : Nat → Bool} {r : Nat → Nat} (h : EdI adj S M rt f base E r) {t a w b w' : Nat} {A R L B R' L' : List Nat} (hA : Arm M f rt base E t a A w R L) (hB : Arm M f rt base E t b B w' R' L') (hAB : ∀ v v', v ∈ A → v' ∈ B → base v ≠ base v') : ∀ y, y ∈ a :: L → M y ∉ A ∧ M y ∉ B := by
  obtain ⟨a1, a2, a3, a4⟩ := hA.even h
  obtain ⟨b1, b2, b3, b4⟩ := hB.even h
  intro y hy
  refine ⟨fun hm => Smp.ne hM hirr hA.2.2.1 (fun x hx => (h.2.1 x (a1 x hx)).1) (M y) y (a2 _ hm).1 hy rfl, fun hm => ?_⟩
  have e := (h.mate hr (a1 y hy) (b2 _ hm).2.1).1
  have hy2 := hy
  rw [hA.2.2.2.1] at hy2
  rcases List.mem_append.mp hy2 with hy2 | hy2
  · exact hAB y (M y) hy2 hm e.symm
  · have := (b2 _ hm).2.2.2.1
    rw [e] at this
    rcases (a4 y hy2).2 with e9 | e9
    · rw [e9] at this; omega
    · omega
/-- the way of a mate of a side's node, once the ring is shrunk -/
theorem Arm.back {adj : Nat → Nat → Bool} {S : Nat → Bool} {M : Nat → Nat} (hM : MOk adj S M) (hirr : ∀ x, adj x x = false) {rt : Nat} (hr : M rt = 12) {f f' base : Nat → Nat} {E : Nat → Bool} {r : Nat → Nat} (h : EdI adj S M rt f base E r) {t a w b w' : Nat} {A R L B R' L' : List Nat} (hA : Arm M f rt base E t a A w R L) (hB : Arm M f rt base E t b B w' R' L') (hAB : ∀ v v', v ∈ A → v' ∈ B → base v ≠ base v') (hbA : Back M f' b A.reverse) (hf : ∀ x, x ∉ A → x ∉ B → f' x = f x) {v : Nat} (hv : v ∈ A) : ∃ X : List Nat, (∀ x, x ∈ X → x ∈ A) ∧ EP M f' rt (M v) (X.map M ++ b :: L') ∧ Smp M (M v :: (X.map M ++ b :: L')) := by
  obtain ⟨a1, a2, a3, a4⟩ := hA.even h
  obtain ⟨b1, b2, b3, b4⟩ := hB.even h
  have kb := hB.k1 hM hirr hr h hA (fun v v' hv hv' e => hAB v' v hv' hv e.symm)
  obtain ⟨Z1, X, e, hX⟩ := hbA.mem (List.mem_reverse.mpr hv)
  have hXA : ∀ x, x ∈ v :: X → x ∈ A := fun x hx => List.mem_reverse.mp (by rw [e]; exact List.mem_append_right _ hx)
  have mm : ∀ x, x ∈ A → M x < 12 ∧ M (M x) = x := fun x hx => by
    obtain ⟨h1, h2, h3, -⟩ := a2 x hx
    have h4 := (h.2.2.1 x h2 h3).1
    exact ⟨h4, (hM.inv (h.2.1 x h2).1 h4).1⟩
  have eb : EP M f' rt b L' := hB.2.1.frame fun y hy => hf _ (kb y hy).2 (kb y hy).1
  refine ⟨X, fun x hx => hXA x (List.mem_cons_of_mem _ hx), hX.ep (fun x hx => ⟨(mm x (hXA x hx)).2, fun e => ?_⟩) eb, ?_⟩
  · have h1 := (mm x (hXA x hx)).2
    rw [e, hr] at h1
    have := (h.2.1 x (a2 x (hXA x hx)).2.1).1
    omega
  · have hsA : Smp M (v :: X) := by
      have h1 : Smp M A := by
        have := hA.2.2.1
        rw [hA.2.2.2.1] at this
        exact (List.pairwise_append.mp this).1
      have h2 : A.Pairwise fun x y => x ≠ y := h1.imp fun h => h.1
      have h3 : A.reverse.Pairwise fun x y => x ≠ y := List.pairwise_reverse.mpr (h2.imp fun h => Ne.symm h)
      rw [e] at h3
      have h4 := (List.pairwise_append.mp h3).2.1
      refine List.Pairwise.imp_of_mem (fun {x y} hx hy h9 => ⟨h9, ?_⟩) h4
      exact Smp.ne hM hirr hA.2.2.1 (fun x hx => (h.2.1 x (a1 x hx)).1) x y (a2 _ (hXA x hx)).1 (a2 _ (hXA y hy)).1
    rw [show M v :: (X.map M ++ b :: L') = (v :: X).map M ++ (b :: L') from rfl]
    refine List.pairwise_append.mpr ⟨?_, hB.2.2.1, fun x' hx' y hy => ?_⟩
    · rw [List.pairwise_map]
      refine List.Pairwise.imp_of_mem (fun {x y} hx hy h9 => ⟨fun e => ?_, fun e => ?_⟩) hsA
      · apply h9.1; rw [← (mm x (hXA x hx)).2, e, (mm y (hXA y hy)).2]
      · rw [(mm y (hXA y hy)).2] at e
        apply h9.2
        rw [← e, (mm x (hXA x hx)).2]
    · obtain ⟨x, hx, rfl⟩ := List.mem_map.mp hx'
      have hx := hXA x hx
      refine ⟨fun e => ?_, fun e => ?_⟩
      · have := (kb y hy).2
        rw [← e, (mm x hx).2] at this
        exact this hx
      · have ey : x = y := by
          have h1 := (mm x hx)
          have h2 : M y < 12 := by rw [← e]; exact h1.1
          have h3 := (hM.inv (h.2.1 y (b1 y hy)).1 h2).1
          rw [← h3, ← e, h1.2]
        have hy2 := hy
        rw [hB.2.2.2.1] at hy2
        rcases List.mem_append.mp hy2 with hy2 | hy2
        · exact hAB x y hx hy2 (by rw [ey])
        · have h1 := (a2 x hx).2.2.2.1
          rw [ey] at h1
          rcases (b4 y hy2).2 with e9 | e9
          · rw [e9] at h1; omega
          · omega
/-- a way that comes to a side's mate goes on over the ring -/
theorem Arm.redir {adj : Nat → Nat → Bool} {S : Nat → Bool} {M : Nat → Nat} (hM : MOk adj S M) (hirr : ∀ x, adj x x = false) {rt : Nat} (hr : M rt = 12) {f f' base : Nat → Nat} {E : Nat → Bool} {r : Nat → Nat} (h : EdI adj S M rt f base E r) {t a w b w' : Nat} {A R L B R' L' : List Nat} (hA : Arm M f rt base E t a A w R L) (hB : Arm M f rt base E t b B w' R' L') (hAB : ∀ v v', v ∈ A → v' ∈ B → base v ≠ base v') (hbA : Back M f' b A.reverse) (hf : ∀ x, x ∉ A → x ∉ B → f' x = f x)
    {u z : Nat} {Lu P Q : List Nat} (hu : E u = true) (hp : EP M f rt u Lu) (hs : Smp M (u :: Lu)) (e : u :: Lu = P ++ z :: Q) (hz : M z ∈ A) (hP : ∀ y, y ∈ P → M y ∉ A ∧ M y ∉ B) : ∃ L, EP M f' rt u L ∧ Smp M (u :: L) := by
  obtain ⟨a1, a2, a3, a4⟩ := hA.even h
  obtain ⟨b1, b2, b3, b4⟩ := hB.even h
  have ka := hA.k1 hM hirr hr h hB hAB
  have kb := hB.k1 hM hirr hr h hA (fun v v' hv hv' e => hAB v' v hv' hv e.symm)
  obtain ⟨X, hX, h1, h2⟩ := hA.back hM hirr hr h hB hAB hbA hf hz
  have eu : ∀ y, y ∈ u :: Lu → E y = true := fun y hy => by
    rcases List.mem_cons.mp hy with e | hy
    · rw [e]; exact hu
    · exact (h.mem hu hp y hy).1
  have ez : E z = true := eu z (by rw [e]; simp)
  have mz : M (M z) = z := (hM.inv (h.2.1 z ez).1 (h.2.1 _ (a2 _ hz).2.1).1).1
  rw [mz] at h1 h2
  obtain ⟨L9, e9, h9⟩ := hp.join e (fun y hy => hf _ (hP y hy).1 (hP y hy).2) h1
  refine ⟨L9, h9, ?_⟩
  rw [e9]
  rw [e] at hs
  obtain ⟨s1, s2, s3⟩ := List.pairwise_append.mp hs
  have suf : ∀ y, y ∈ P → ∃ P2, EP M f rt y (P2 ++ z :: Q) := fun y hy => by
    obtain ⟨P1, P2, e3⟩ := List.append_of_mem hy
    exact ⟨P2, hp.split (P := P1) (by rw [e, e3, List.append_assoc]; rfl)⟩
  have noA : ∀ y, y ∈ P → y ∉ A := fun y hy hyA => by
    obtain ⟨P2, h5⟩ := suf y hy
    obtain ⟨A1, A2, e6⟩ := List.append_of_mem hyA
    have h7 : EP M f rt y (A2 ++ w :: R) := hA.2.1.split (P := A1) (by rw [hA.2.2.2.1, e6, List.append_assoc]; rfl)
    have h8 := h5.det h7
    refine (ka z ?_).1 hz
    rw [hA.2.2.2.1, e6, List.append_assoc, List.cons_append, ← h8]
    simp
  have noB : ∀ y, y ∈ P → y ∉ B := fun y hy hyA => by
    obtain ⟨P2, h5⟩ := suf y hy
    obtain ⟨A1, A2, e6⟩ := List.append_of_mem hyA
    have h7 : EP M f rt y (A2 ++ w' :: R') := hB.2.1.split (P := A1) (by rw [hB.2.2.2.1, e6, List.append_assoc]; rfl)
    have h8 := h5.det h7
    refine (kb z ?_).2 hz
    rw [hB.2.2.2.1, e6, List.append_assoc, List.cons_append, ← h8]
    simp
  refine List.pairwise_append.mpr ⟨s1, h2, fun y hy y' hy' => ?_⟩
  have hyE : E y = true := eu y (by rw [e]; exact List.mem_append_left _ hy)
  rcases List.mem_cons.mp hy' with hy' | hy'
  · rw [hy']; exact s3 y hy z (List.mem_cons_self ..)
  rcases List.mem_append.mp hy' with hy' | hy'
  · obtain ⟨x, hx, rfl⟩ := List.mem_map.mp hy'
    have hxA := hX x hx
    obtain ⟨-, x1, x2, -⟩ := a2 x hxA
    have mx : M (M x) = x := (hM.inv (h.2.1 x x1).1 (h.2.2.1 x x1 x2).1).1
    refine ⟨fun e2 => (hP y hy).1 (by rw [e2, mx]; exact hxA), fun e2 => noA y hy (by rw [e2, mx]; exact hxA)⟩
  · have hyB := b1 y' hy'
    rw [hB.2.2.2.1] at hy'
    rcases List.mem_append.mp hy' with hy' | hy'
    · refine ⟨fun e2 => noB y hy (by rw [e2]; exact hy'), fun e2 => (hP y hy).2 ?_⟩
      have h3 : M y' < 12 := by rw [← e2]; exact (h.2.1 y hyE).1
      rw [e2, (hM.inv (h.2.1 y' hyB).1 h3).1]
      exact hy'
    · have r1 : r t < r (base z) := by
        have := (a2 _ hz).2.2.2.1
        rwa [(h.mate hr ez (a2 _ hz).2.1).1] at this
      have r2 : r t < r (base y) := by
        obtain ⟨P2, h5⟩ := suf y hy
        rcases (h.mem hyE h5 z (by simp)).2 with e3 | e3
        · rwa [← e3]
        · omega
      have r3 : r (base y') ≤ r t := by
        rcases (b4 y' hy').2 with e9 | e9
        · rw [e9]; exact Nat.le_refl _
        · omega
      refine ⟨fun e2 => ?_, fun e2 => ?_⟩
      · rw [e2] at r2; omega
      · have := (h.mate hr hyB (by rw [← e2]; exact hyE)).1
        rw [← e2] at this
        rw [this] at r2
        omega
