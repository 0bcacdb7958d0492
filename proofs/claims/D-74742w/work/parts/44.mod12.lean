def BeenIs (f : Nat → Int32) (B : Nat → Nat → Prop) : Prop := ∀ s v, s < 4096 → v < 12 → (f (12 * s + v) = nI 1 ∧ B s v) ∨ (f (12 * s + v) = nI 0 ∧ ¬ B s v)
theorem BeenIs.add {f : Nat → Int32} {B : Nat → Nat → Prop} (h : BeenIs f B) {s v : Nat} (hv : v < 12) : BeenIs (va_up f (12 * s + v) (nI 1)) (addB B s v) := by
  intro s' v' h1 h2
  rw [vu]
  by_cases e : s' = s ∧ v' = v
  · rw [if_pos (by omega)]
    exact Or.inl ⟨rfl, Or.inr e⟩
  · rw [if_neg (by omega)]
    rcases h s' v' h1 h2 with ⟨a, b⟩ | ⟨a, b⟩
    · exact Or.inl ⟨a, Or.inl b⟩
    · refine Or.inr ⟨a, fun h9 => ?_⟩
      rcases h9 with h9 | h9
      · exact b h9
      · exact e h9
def LabS (N : NetM) (B B' : Nat → Nat → Prop) (s v : Nat) : Prop := (∀ s1 w, B s1 w → B' s1 w) ∧ B' s v ∧ ∀ s1 w, B' s1 w → ¬ B s1 w → LabC N B' s1 w
/-- within the search at a node -/
def LabT (N : NetM) (B B' : Nat → Nat → Prop) (s v b : Nat) : Prop := (∀ s1 w, B s1 w → B' s1 w) ∧ B' s v ∧ (∀ s1 w, B' s1 w → ¬ B s1 w → (s1 = s ∧ w = v) ∨ LabC N B' s1 w) ∧ ∀ b', b' < b → stepOk N s v b' → B' (s ||| 2 ^ b') b'
theorem LabT.skip {N : NetM} {B B' : Nat → Nat → Prop} {s v b : Nat} (h : LabT N B B' s v b) (hb : ¬ stepOk N s v b) : LabT N B B' s v (b + 1) := by
  obtain ⟨h1, h2, h3, h4⟩ := h
  refine ⟨h1, h2, h3, fun b' hb' hs => ?_⟩
  by_cases e : b' = b
  · subst e; exact absurd hs hb
  · exact h4 b' (by omega) hs
theorem LabT.go {N : NetM} {B B' B2 : Nat → Nat → Prop} {s v b : Nat} (h : LabT N B B' s v b) (hb : LabS N B' B2 (s ||| 2 ^ b) b) : LabT N B B2 s v (b + 1) := by
  obtain ⟨h1, h2, h3, h4⟩ := h
  obtain ⟨g1, g2, g3⟩ := hb
  refine ⟨fun s1 w hw => g1 _ _ (h1 _ _ hw), g1 _ _ h2, fun s1 w hw hnw => ?_, fun b' hb' hs => ?_⟩
  · by_cases e : B' s1 w
    · rcases h3 s1 w e hnw with h5 | h5
      · exact Or.inl h5
      · exact Or.inr fun c hc => g1 _ _ (h5 c hc)
    · exact Or.inr (g3 s1 w hw e)
  · by_cases e : b' = b
    · subst e; exact g2
    · exact g1 _ _ (h4 b' (by omega) hs)
theorem LabT.done {N : NetM} {B B' : Nat → Nat → Prop} {s v : Nat} (h : LabT N B B' s v N.1) : LabS N B B' s v := by
  obtain ⟨h1, h2, h3, h4⟩ := h
  refine ⟨h1, h2, fun s1 w hw hnw => ?_⟩
  rcases h3 s1 w hw hnw with ⟨rfl, rfl⟩ | h5
  · exact fun b hb => h4 b hb.1 hb
  · exact h5
theorem LabT.start {N : NetM} {B : Nat → Nat → Prop} {s v : Nat} : LabT N B (addB B s v) s v 0 := ⟨fun _ _ h => Or.inl h, Or.inr ⟨rfl, rfl⟩, fun _ _ h hn => h.elim (fun h => absurd h hn) (fun h => Or.inl h), fun b' hb' => absurd hb' (by omega)⟩
theorem step_at {N : NetM} {s v b : Nat} (hb : b < N.1) (h1 : s.testBit b = false) (h2 : N.2.1 v b ≠ -1) (h3 : ¬ bI (decide (N.2.2 v = nI b)) = bI (decide (pcn s % 2 = 1))) : stepOk N s v b := by
  refine ⟨hb, h1, decide_eq_true h2, ?_⟩
  have h4 : decide (N.2.2 v = nI b) ≠ decide (pcn s % 2 = 1) := fun e => h3 (by rw [e])
  by_cases e1 : N.2.2 v = nI b
  · by_cases e2 : pcn s % 2 = 1
    · exact absurd (by rw [decide_eq_true e1, decide_eq_true e2]) h4
    · exact ⟨fun _ => by omega, fun _ => e1⟩
  · by_cases e2 : pcn s % 2 = 1
    · exact ⟨fun h => absurd h e1, fun h => by omega⟩
    · exact absurd (by rw [decide_eq_false e1, decide_eq_false e2]) h4
theorem bI_inj {p q : Bool} (h : bI p = bI q) : p = q := by
  cases p <;> cases q <;> first | rfl | exact absurd h (by decide)
theorem step_no {N : NetM} {s v b : Nat} (h3 : bI (decide (N.2.2 v = nI b)) = bI (decide (pcn s % 2 = 1))) : ¬ stepOk N s v b := fun h => by
  have h4 := bI_inj h3
  rw [decide_eq_decide] at h4
  have h5 := h.2.2.2
  rw [h5] at h4
  omega
def GoesC (G : vGC) (k : Nat) : Prop := ∀ {σ : vSt} {m : Nat} {ad : Nat → Nat} {I : Nat → Int32} {F : Nat → Nat → Int32} {L : Nat → Nat → Int64} (hR : RecAt layM σ m ad I F L) {N : NetM} (hE : Enc (F 9) N) (hn : N.1 ≤ 12) {B : Nat → Nat → Prop} {E U s v : Nat} (hJ : LabJ N B E U) (hB : BeenIs (F 21) B) (hI22 : I 22 = nI E) (hI23 : I 23 = nI U) (hg : Good N s v), 12 < pcn s + k → Ct G yX3_goes (ws_ yX3_goes cX3_goes 5 none) (2 + k) 0 0 σ [.ref m, .int (nI s), .int (nI v)] (fun r σ9 => r = none ∧ ∃ (I' : Nat → Int32) (F' : Nat → Nat → Int32) (B' : Nat → Nat → Prop) (E' U' : Nat), RecAt layM σ9 m ad I' F' L ∧ FrL [m] σ σ9 ∧ (∀ j, j ≠ 22 → j ≠ 23 → I' j = I j) ∧ (∀ j, j ≠ 21 → F' j = F j) ∧ BeenIs (F' 21) B' ∧ I' 22 = nI E' ∧ I' 23 = nI U' ∧ LabJ N B' E' U' ∧ LabS N B B' s v) vNo
theorem mdX3_goes : vMd yX3_goes 2 := ⟨by decide +kernel, by decide +kernel, by decide +kernel⟩
theorem l_X3_goes {G : vGC} (hG : vGok G) {X : vCX} {Q : State → Prop} {c0 n0 k9 : Nat} (O : vOk G X yX3_goes.cls cX3_goes none (2 + (k9 + 1)) 0 0) (hN : xn X = 5) (hcm0 : c0 ≤ 0) (hsm0 : n0 ≤ 0) {σ0 : vSt} {m : Nat} {ad : Nat → Nat} {I : Nat → Int32} {F : Nat → Nat → Int32} {L : Nat → Nat → Int64} {N : NetM} (hE0 : Enc (F 9) N) (hn : N.1 ≤ 12) {B : Nat → Nat → Prop} {s v : Nat} (hrec : GoesC G k9) (hk9 : 12 < pcn s + (k9 + 1)) (hg : Good N s v) (kx : ∀ (σ : vSt) (I' : Nat → Int32) (F' : Nat → Nat → Int32) (B' : Nat → Nat → Prop) (E' U' : Nat), RecAt layM σ m ad I' F' L → FrL [m] σ0 σ → (∀ j, j ≠ 22 → j ≠ 23 → I' j = I j) → (∀ j, j ≠ 21 → F' j = F j) → BeenIs (F' 21) B' → I' 22 = nI E' → I' 23 = nI U' → LabJ N B' E' U' → LabS N B B' s v → V G X Q c0 n0 σ 146 [(0, .ref m)] []) : ∀ (k : Nat) (b : Nat) (σ : vSt) (I' : Nat → Int32) (F' : Nat → Nat → Int32) (B' : Nat → Nat → Prop) (E' : Nat) (U' : Nat), (N.1 < b + k) → (b ≤ N.1) → (RecAt layM σ m ad I' F' L) → (FrL [m] σ0 σ) → (∀ j, j ≠ 22 → j ≠ 23 → I' j = I j) → (∀ j, j ≠ 21 → F' j = F j) → (BeenIs (F' 21) B') → (I' 22 = nI E') → (I' 23 = nI U') → (LabJ N B' E' U') → (LabT N B B' s v b) → V G X Q c0 n0 σ 77 [(0, .ref m), (1, .int (nI s)), (2, .int (nI v)), (3, .int (bI (decide (pcn s % 2 = 1)))), (4, .int (nI b))] [] := by
  intro k
  induction k with
  | zero => intro b σ I' F' B' E' U' h0 h1 hR hf hI hF hB hI22 hI23 hJ hT; exact absurd h0 (by omega)
  | succ k ih =>
    intro b σ I' F' B' E' U' h0 h1 hR hf hI hF hB hI22 hI23 hJ hT
    obtain ⟨hs, hv, hsv, hp1⟩ := hg.lt hn
    have hE : Enc (F' 9) N := by rw [hF 9 (by omega)]; exact hE0
    have hps := pcn_le s
    have h2b : b < N.1 → 2 ^ b < 4096 := fun h => Nat.pow_lt_pow_right (by omega) (show b < 12 by omega)
    refine v_iload O dX3_goes_77 4 rfl ?_
    refine v_aload_n O dX3_goes_79 rfl 0 rfl ?_
    refine v_callV (as := []) (rest := [.int (nI b)]) O (c_X3_nodes hG hR hE (by first | omega | exact hn)) q1677 q1679 qs47 q77 q1680 hR.ob (show vcl[2]? = some (RX3, TX3, 27) from rfl) rfl mdX3_nodes rfl (by decide) (by omega) (by omega) (by omega) (Nat.le_of_ble_eq_true rfl) rfl dX3_goes_80 (fun v9 σ9 hp9 => ?_) (fun _ _ _ h => False.elim h)
    obtain ⟨rfl, hs9⟩ := hp9
    obtain rfl := hs9.symm
    refine v_icmp_geN (tgt := 146) O dX3_goes_83 (by decide) (by omega) (by omega) (fun h_83 => ?_) (fun h_83 => ?_)
    · obtain rfl : b = N.1 := by omega
      exact v_lv [0] rfl (kx σ I' F' B' E' U' hR hf hI hF hB hI22 hI23 hJ hT.done)
    · refine v_iload_n O dX3_goes_86 rfl 1 rfl ?_
      refine v_iload O dX3_goes_87 4 rfl ?_
      refine v_callS (as := [.int (nI s), .int (nI b)]) (rest := []) O (c_X3_has hG (s := s) (k := b) (by omega) (by omega)) q1741 q1742 q77 q1743 mdX3_has rfl (by decide) (by omega) (by omega) (by omega) (Nat.le_of_ble_eq_true rfl) rfl dX3_goes_89 (fun v9 σ9 hp9 => ?_) (fun _ _ _ h => False.elim h)
      obtain ⟨rfl, hs9⟩ := hp9
      obtain rfl := hs9.symm
      refine v_if_neB (tgt := 140) O dX3_goes_92 (by decide) (fun h_92 => ?_) (fun h_92 => ?_)
      · refine v_iinc (v := nI (b + 1)) (lv' := [(4, .int (nI (b + 1))), (0, .ref m), (1, .int (nI s)), (2, .int (nI v)), (3, .int (bI (decide (pcn s % 2 = 1))))]) O hN dX3_goes_140 4 rfl (nI_add b 1) (by decide) rfl ?_
        refine v_goto (tgt := 77) O dX3_goes_143 (by decide) ?_
        refine v_lv [1, 2, 3, 4, 0] rfl ?_
        exact ih (b + 1) σ I' F' B' E' U' (by omega) (by omega) hR hf hI hF hB hI22 hI23 hJ (hT.skip ((fun h => absurd h.2.1 (by rw [h_92]; decide))))
      · refine v_aload_n O dX3_goes_95 rfl 0 rfl ?_
        refine v_iload_n O dX3_goes_96 rfl 2 rfl ?_
        refine v_iload O dX3_goes_97 4 rfl ?_
        refine v_callV (as := [.int (nI v), .int (nI b)]) (rest := []) O (c_X3_weight hG hR hE (by first | omega | exact hn) (a := v) (b := b) (by omega) (by omega)) q1681 q1683 qs48 q77 q1684 hR.ob (show vcl[2]? = some (RX3, TX3, 27) from rfl) rfl mdX3_weight rfl (by decide) (by omega) (by omega) (by omega) (Nat.le_of_ble_eq_true rfl) rfl dX3_goes_99 (fun v9 σ9 hp9 => ?_) (fun _ _ _ h => False.elim h)
        obtain ⟨rfl, hs9⟩ := hp9
        obtain rfl := hs9.symm
        refine v_iconst (v := (-1)) O dX3_goes_102 (by decide) ?_
        refine v_icmp_eq (tgt := 140) O dX3_goes_103 (by decide) (fun h_103 => ?_) (fun h_103 => ?_)
        · refine v_iinc (v := nI (b + 1)) (lv' := [(4, .int (nI (b + 1))), (0, .ref m), (1, .int (nI s)), (2, .int (nI v)), (3, .int (bI (decide (pcn s % 2 = 1))))]) O hN dX3_goes_140 4 rfl (nI_add b 1) (by decide) rfl ?_
          refine v_goto (tgt := 77) O dX3_goes_143 (by decide) ?_
          refine v_lv [1, 2, 3, 4, 0] rfl ?_
          exact ih (b + 1) σ I' F' B' E' U' (by omega) (by omega) hR hf hI hF hB hI22 hI23 hJ (hT.skip ((fun h => absurd h.2.2.1 (by simp [ln, h_103]))))
        · refine v_aload_n O dX3_goes_106 rfl 0 rfl ?_
          refine v_iload_n O dX3_goes_107 rfl 2 rfl ?_
          refine v_callV (as := [.int (nI v)]) (rest := []) O (c_X3_mate hG hR hE (by first | omega | exact hn) (a := v) (by omega)) q1705 q1707 qs50 q77 q1708 hR.ob (show vcl[2]? = some (RX3, TX3, 27) from rfl) rfl mdX3_mate rfl (by decide) (by omega) (by omega) (by omega) (Nat.le_of_ble_eq_true rfl) rfl dX3_goes_108 (fun v9 σ9 hp9 => ?_) (fun _ _ _ h => False.elim h)
          obtain ⟨rfl, hs9⟩ := hp9
          obtain rfl := hs9.symm
          refine v_iload O dX3_goes_111 4 rfl ?_
          refine v_icmp_ne (tgt := 120) O dX3_goes_113 (by decide) (fun h_113 => ?_) (fun h_113 => ?_)
          · refine v_iconst (v := nI 0) O dX3_goes_120 (by decide) ?_
            rw [bIF' (b := decide (N.2.2 v = nI b)) (decide_eq_false h_113)]
            refine v_iload_n O dX3_goes_121 rfl 3 rfl ?_
            refine v_icmp_ne (tgt := 128) O dX3_goes_122 (by decide) (fun h_122 => ?_) (fun h_122 => ?_)
            · refine v_aload_n O dX3_goes_128 rfl 0 rfl ?_
              refine v_iload_n O dX3_goes_129 rfl 1 rfl ?_
              refine v_iconst (v := nI 1) O dX3_goes_130 (by decide) ?_
              refine v_iload O dX3_goes_131 4 rfl ?_
              refine v_ishl (z := nI (2 ^ b)) O dX3_goes_133 (bx_shl1 (by omega)) ?_
              refine v_ior (z := nI (s ||| (2 ^ b))) O dX3_goes_134 (bx_or s (2 ^ b)) ?_
              refine v_iload O dX3_goes_135 4 rfl ?_
              refine v_callV (as := [.int (nI (s ||| (2 ^ b))), .int (nI b)]) (rest := []) O (hrec hR hE hn hJ hB hI22 hI23 (hg.step hn (step_at (by omega) h_92 h_103 h_122)) (by rw [pcn_or h_92 (by omega)]; omega)) q1800 q1802 qs64 q77 q1803 hR.ob (show vcl[2]? = some (RX3, TX3, 27) from rfl) rfl mdX3_goes rfl (by decide) (by omega) (by omega) (by omega) (Nat.le_of_ble_eq_true rfl) rfl dX3_goes_137 (fun v9 σ2 hp9 => ?_) (fun _ _ _ h => False.elim h)
              obtain ⟨rfl, I1, F1, B1, E1, U1, hR1, hf1, hI1, hF1, hB1, h221, h231, hJ1, hS1⟩ := hp9
              refine v_iinc (v := nI (b + 1)) (lv' := [(4, .int (nI (b + 1))), (0, .ref m), (1, .int (nI s)), (2, .int (nI v)), (3, .int (bI (decide (pcn s % 2 = 1))))]) O hN dX3_goes_140 4 rfl (nI_add b 1) (by decide) rfl ?_
              refine v_goto (tgt := 77) O dX3_goes_143 (by decide) ?_
              refine v_lv [1, 2, 3, 4, 0] rfl ?_
              exact ih (b + 1) _ _ _ _ _ _ (by omega) (by omega) hR1 (hf.trans hf1) (fun j h1 h2 => (hI1 j h1 h2).trans (hI j h1 h2)) (fun j h1 => (hF1 j h1).trans (hF j h1)) hB1 h221 h231 hJ1 (hT.go hS1)
            · refine v_goto (tgt := 140) O dX3_goes_125 (by decide) ?_
              refine v_iinc (v := nI (b + 1)) (lv' := [(4, .int (nI (b + 1))), (0, .ref m), (1, .int (nI s)), (2, .int (nI v)), (3, .int (bI (decide (pcn s % 2 = 1))))]) O hN dX3_goes_140 4 rfl (nI_add b 1) (by decide) rfl ?_
              refine v_goto (tgt := 77) O dX3_goes_143 (by decide) ?_
              refine v_lv [1, 2, 3, 4, 0] rfl ?_
              exact ih (b + 1) σ I' F' B' E' U' (by omega) (by omega) hR hf hI hF hB hI22 hI23 hJ (hT.skip (step_no h_122))
          · refine v_iconst (v := nI 1) O dX3_goes_116 (by decide) ?_
            refine v_goto (tgt := 121) O dX3_goes_117 (by decide) ?_
            rw [bIT' (b := decide (N.2.2 v = nI b)) (decide_eq_true h_113)]
            refine v_iload_n O dX3_goes_121 rfl 3 rfl ?_
            refine v_icmp_ne (tgt := 128) O dX3_goes_122 (by decide) (fun h_122 => ?_) (fun h_122 => ?_)
            · refine v_aload_n O dX3_goes_128 rfl 0 rfl ?_
              refine v_iload_n O dX3_goes_129 rfl 1 rfl ?_
              refine v_iconst (v := nI 1) O dX3_goes_130 (by decide) ?_
              refine v_iload O dX3_goes_131 4 rfl ?_
              refine v_ishl (z := nI (2 ^ b)) O dX3_goes_133 (bx_shl1 (by omega)) ?_
              refine v_ior (z := nI (s ||| (2 ^ b))) O dX3_goes_134 (bx_or s (2 ^ b)) ?_
              refine v_iload O dX3_goes_135 4 rfl ?_
              refine v_callV (as := [.int (nI (s ||| (2 ^ b))), .int (nI b)]) (rest := []) O (hrec hR hE hn hJ hB hI22 hI23 (hg.step hn (step_at (by omega) h_92 h_103 h_122)) (by rw [pcn_or h_92 (by omega)]; omega)) q1800 q1802 qs64 q77 q1803 hR.ob (show vcl[2]? = some (RX3, TX3, 27) from rfl) rfl mdX3_goes rfl (by decide) (by omega) (by omega) (by omega) (Nat.le_of_ble_eq_true rfl) rfl dX3_goes_137 (fun v9 σ4 hp9 => ?_) (fun _ _ _ h => False.elim h)
              obtain ⟨rfl, I3, F3, B3, E3, U3, hR3, hf3, hI3, hF3, hB3, h223, h233, hJ3, hS3⟩ := hp9
              refine v_iinc (v := nI (b + 1)) (lv' := [(4, .int (nI (b + 1))), (0, .ref m), (1, .int (nI s)), (2, .int (nI v)), (3, .int (bI (decide (pcn s % 2 = 1))))]) O hN dX3_goes_140 4 rfl (nI_add b 1) (by decide) rfl ?_
              refine v_goto (tgt := 77) O dX3_goes_143 (by decide) ?_
              refine v_lv [1, 2, 3, 4, 0] rfl ?_
              exact ih (b + 1) _ _ _ _ _ _ (by omega) (by omega) hR3 (hf.trans hf3) (fun j h1 h2 => (hI3 j h1 h2).trans (hI j h1 h2)) (fun j h1 => (hF3 j h1).trans (hF j h1)) hB3 h223 h233 hJ3 (hT.go hS3)
            · refine v_goto (tgt := 140) O dX3_goes_125 (by decide) ?_
              refine v_iinc (v := nI (b + 1)) (lv' := [(4, .int (nI (b + 1))), (0, .ref m), (1, .int (nI s)), (2, .int (nI v)), (3, .int (bI (decide (pcn s % 2 = 1))))]) O hN dX3_goes_140 4 rfl (nI_add b 1) (by decide) rfl ?_
              refine v_goto (tgt := 77) O dX3_goes_143 (by decide) ?_
              refine v_lv [1, 2, 3, 4, 0] rfl ?_
              exact ih (b + 1) σ I' F' B' E' U' (by omega) (by omega) hR hf hI hF hB hI22 hI23 hJ (hT.skip (step_no h_122))
theorem s_X3_goes {G : vGC} (hG : vGok G) {k9 : Nat} (hrec : GoesC G k9) {σ : vSt} {m : Nat} {ad : Nat → Nat} {I : Nat → Int32} {F : Nat → Nat → Int32} {L : Nat → Nat → Int64} (hR : RecAt layM σ m ad I F L) {N : NetM} (hE : Enc (F 9) N) (hn : N.1 ≤ 12) {B : Nat → Nat → Prop} {E U s v : Nat} (hJ : LabJ N B E U) (hB : BeenIs (F 21) B) (hI22 : I 22 = nI E) (hI23 : I 23 = nI U) (hg : Good N s v) (hk9 : 12 < pcn s + (k9 + 1)) : Ct G yX3_goes (ws_ yX3_goes cX3_goes 5 none) (2 + (k9 + 1)) 0 0 σ [.ref m, .int (nI s), .int (nI v)] (fun r σ9 => r = none ∧ ∃ (I' : Nat → Int32) (F' : Nat → Nat → Int32) (B' : Nat → Nat → Prop) (E' U' : Nat), RecAt layM σ9 m ad I' F' L ∧ FrL [m] σ σ9 ∧ (∀ j, j ≠ 22 → j ≠ 23 → I' j = I j) ∧ (∀ j, j ≠ 21 → F' j = F j) ∧ BeenIs (F' 21) B' ∧ I' 22 = nI E' ∧ I' 23 = nI U' ∧ LabJ N B' E' U' ∧ LabS N B B' s v) vNo := by
  refine ct_of hG (by decide) (Nat.le_of_ble_eq_true rfl) fun X hN O hnm htb => ?_
  show V G X _ 0 0 σ 0 [(0, .ref m), (1, .int (nI s)), (2, .int (nI v))] []
  obtain ⟨hs, hv, hsv, hp1⟩ := hg.lt hn
  have hps := pcn_le s
  refine v_aload_n O dX3_goes_0 rfl 0 rfl ?_
  refine v_getf (C := RX3) (T := TX3) (N := 27) (v := .ref (ad 21)) O in_X3 hR.ob rfl 21 (by decide) rfl q1513 rfl dX3_goes_1 ?_
  refine v_bipush (v := nI 12) O dX3_goes_4 (by decide) ?_
  refine v_iload_n O dX3_goes_6 rfl 1 rfl ?_
  refine v_imul (z := nI (12 * s)) O dX3_goes_7 (pk_mul 12 s) ?_
  refine v_iload_n O dX3_goes_8 rfl 2 rfl ?_
  refine v_iadd (z := nI ((12 * s) + v)) O dX3_goes_9 (nI_add (12 * s) v) ?_
  refine v_zald (f := F 21) O (hR.ar 21 rfl) (by omega) (by omega) dX3_goes_10 ?_
  refine v_if_eq (tgt := 15) O dX3_goes_11 (by decide) (fun h_11 => ?_) (fun h_11 => ?_)
  · have hnb : ¬ B s v := (hB s v hs (by omega)).elim (fun h => absurd (h_11.symm.trans h.1) (by decide)) (fun h => h.2)
    refine v_aload_n O dX3_goes_15 rfl 0 rfl ?_
    refine v_getf (C := RX3) (T := TX3) (N := 27) (v := .ref (ad 21)) O in_X3 hR.ob rfl 21 (by decide) rfl q1513 rfl dX3_goes_16 ?_
    refine v_bipush (v := nI 12) O dX3_goes_19 (by decide) ?_
    refine v_iload_n O dX3_goes_21 rfl 1 rfl ?_
    refine v_imul (z := nI (12 * s)) O dX3_goes_22 (pk_mul 12 s) ?_
    refine v_iload_n O dX3_goes_23 rfl 2 rfl ?_
    refine v_iadd (z := nI ((12 * s) + v)) O dX3_goes_24 (nI_add (12 * s) v) ?_
    refine v_iconst (v := nI 1) O dX3_goes_25 (by decide) ?_
    refine r_zast (K := layM) O hR 21 rfl (by omega) (by omega) rfl dX3_goes_26 (fun σ1 hR1 hf1 => ?_)
    refine v_iload_n O dX3_goes_27 rfl 1 rfl ?_
    refine v_callS (as := [.int (nI s)]) (rest := []) O (c_X3_bits hG (s := s) (by omega)) q1804 q1805 q77 q1806 mdX3_bits rfl (by decide) (by omega) (by omega) (by omega) (Nat.le_of_ble_eq_true rfl) rfl dX3_goes_28 (fun v9 σ9 hp9 => ?_) (fun _ _ _ h => False.elim h)
    obtain ⟨rfl, hs9⟩ := hp9
    obtain rfl := hs9.symm
    refine v_iconst (v := nI 2) O dX3_goes_31 (by decide) ?_
    refine v_irem (z := nI ((pcn s) % 2)) O dX3_goes_32 (by decide) (pk_rem (by omega) (by omega) (by omega)) ?_
    refine v_iconst (v := nI 1) O dX3_goes_33 (by decide) ?_
    refine v_icmp_neN (tgt := 41) O dX3_goes_34 (by decide) (by omega) (by omega) (fun h_34 => ?_) (fun h_34 => ?_)
    · refine v_iconst (v := nI 0) O dX3_goes_41 (by decide) ?_
      rw [bIF' (b := decide (pcn s % 2 = 1)) (decide_eq_false h_34)]
      refine v_istore_n (lv' := [(3, .int (bI (decide (pcn s % 2 = 1)))), (0, .ref m), (1, .int (nI s)), (2, .int (nI v))]) O hN dX3_goes_42 rfl (by decide) rfl ?_
      refine v_iload_n O dX3_goes_43 rfl 0 rfl ?_
      refine v_if_eqB (tgt := 62) O dX3_goes_44 (by decide) (fun h_44 => ?_) (fun h_44 => ?_)
      · refine v_aload_n O dX3_goes_62 rfl 1 rfl ?_
        refine v_dup O dX3_goes_63 rfl ?_
        refine v_getf (C := RX3) (T := TX3) (N := 27) (v := .int (nI U)) O in_X3 hR1.ob rfl 23 (by decide) rfl q1515 (congrArg (fun z => some (Value.int z)) hI23) dX3_goes_64 ?_
        refine v_iconst (v := nI 1) O dX3_goes_67 (by decide) ?_
        refine v_iload_n O dX3_goes_68 rfl 3 rfl ?_
        refine v_ishl (z := nI (2 ^ v)) O dX3_goes_69 (bx_shl1 (by omega)) ?_
        refine v_ior (z := nI (U ||| (2 ^ v))) O dX3_goes_70 (bx_or U (2 ^ v)) ?_
        refine r_puti (K := layM) (I' := (va_up I 23 (nI (U ||| (2 ^ v))))) (ty0 := tyX3) O hR1 in_X3 tyX3_ok nmX3 (show vcl[2]? = some (RX3, TX3, 27) from rfl) 23 (by decide) rfl q1515 rfl (tyX3_ok 23 (by decide)) rfl rfl (Nat.le_of_ble_eq_true rfl) rfl dX3_goes_71 (fun σ2 hR2 hf2 => ?_)
        refine v_iconst (v := nI 0) O dX3_goes_74 (by decide) ?_
        refine v_istore (lv' := [(4, .int (nI 0)), (3, .int (bI (decide (pcn s % 2 = 1)))), (0, .ref m), (1, .int (nI s)), (2, .int (nI v))]) O hN dX3_goes_75 (by decide) rfl ?_
        refine v_lv [2, 3, 4, 1, 0] rfl ?_
        have hJ1 := hJ.add hn hg
        rw [if_neg h_34, if_neg h_34] at hJ1
        refine l_X3_goes hG O hN (by omega) (by omega) (I := I) (F := F) (N := N) hE hn (B := B) hrec hk9 hg (fun σ6 I6 F6 B6 E6 U6 hR6 hf6 hI6 hF6 hB6 h622 h623 hJ6 hS6 => ?_) (N.1 + 1) 0 σ2 _ _ (addB B s v) E (U ||| 2 ^ v) (by omega) (by omega) hR2 (hf1.trans hf2) (fun j h1 h2 => by simp [va_up, h1, h2]) (fun j h1 => by funext z; simp [va_up, h1]) (by have e9 : (va_up F 21 (va_up (F 21) ((12 * s) + v) (nI 1))) 21 = va_up (F 21) (12 * s + v) (nI 1) := (by funext z; simp [va_up]); rw [e9]; exact hB.add (by omega)) hI22 rfl hJ1 LabT.start
        exact v_vret O rfl dX3_goes_146 (by omega) (by omega) ⟨rfl, I6, F6, B6, E6, U6, hR6, hf6, hI6, hF6, hB6, h622, h623, hJ6, hS6⟩
      · exact absurd h_44 (by rw [decide_eq_false h_34]; decide)
    · refine v_iconst (v := nI 1) O dX3_goes_37 (by decide) ?_
      refine v_goto (tgt := 42) O dX3_goes_38 (by decide) ?_
      rw [bIT' (b := decide (pcn s % 2 = 1)) (decide_eq_true h_34)]
      refine v_istore_n (lv' := [(3, .int (bI (decide (pcn s % 2 = 1)))), (0, .ref m), (1, .int (nI s)), (2, .int (nI v))]) O hN dX3_goes_42 rfl (by decide) rfl ?_
      refine v_iload_n O dX3_goes_43 rfl 0 rfl ?_
      refine v_if_eqB (tgt := 62) O dX3_goes_44 (by decide) (fun h_44 => ?_) (fun h_44 => ?_)
      · exact absurd h_44 (by rw [decide_eq_true h_34]; decide)
      · refine v_aload_n O dX3_goes_47 rfl 1 rfl ?_
        refine v_dup O dX3_goes_48 rfl ?_
        refine v_getf (C := RX3) (T := TX3) (N := 27) (v := .int (nI E)) O in_X3 hR1.ob rfl 22 (by decide) rfl q1514 (congrArg (fun z => some (Value.int z)) hI22) dX3_goes_49 ?_
        refine v_iconst (v := nI 1) O dX3_goes_52 (by decide) ?_
        refine v_iload_n O dX3_goes_53 rfl 3 rfl ?_
        refine v_ishl (z := nI (2 ^ v)) O dX3_goes_54 (bx_shl1 (by omega)) ?_
        refine v_ior (z := nI (E ||| (2 ^ v))) O dX3_goes_55 (bx_or E (2 ^ v)) ?_
        refine r_puti (K := layM) (I' := (va_up I 22 (nI (E ||| (2 ^ v))))) (ty0 := tyX3) O hR1 in_X3 tyX3_ok nmX3 (show vcl[2]? = some (RX3, TX3, 27) from rfl) 22 (by decide) rfl q1514 rfl (tyX3_ok 22 (by decide)) rfl rfl (Nat.le_of_ble_eq_true rfl) rfl dX3_goes_56 (fun σ3 hR3 hf3 => ?_)
        refine v_goto (tgt := 74) O dX3_goes_59 (by decide) ?_
        refine v_iconst (v := nI 0) O dX3_goes_74 (by decide) ?_
        refine v_istore (lv' := [(4, .int (nI 0)), (3, .int (bI (decide (pcn s % 2 = 1)))), (0, .ref m), (1, .int (nI s)), (2, .int (nI v))]) O hN dX3_goes_75 (by decide) rfl ?_
        refine v_lv [2, 3, 4, 1, 0] rfl ?_
        have hJ1 := hJ.add hn hg
        rw [if_pos h_34, if_pos h_34] at hJ1
        refine l_X3_goes hG O hN (by omega) (by omega) (I := I) (F := F) (N := N) hE hn (B := B) hrec hk9 hg (fun σ6 I6 F6 B6 E6 U6 hR6 hf6 hI6 hF6 hB6 h622 h623 hJ6 hS6 => ?_) (N.1 + 1) 0 σ3 _ _ (addB B s v) (E ||| 2 ^ v) U (by omega) (by omega) hR3 (hf1.trans hf3) (fun j h1 h2 => by simp [va_up, h1, h2]) (fun j h1 => by funext z; simp [va_up, h1]) (by have e9 : (va_up F 21 (va_up (F 21) ((12 * s) + v) (nI 1))) 21 = va_up (F 21) (12 * s + v) (nI 1) := (by funext z; simp [va_up]); rw [e9]; exact hB.add (by omega)) rfl hI23 hJ1 LabT.start
        exact v_vret O rfl dX3_goes_146 (by omega) (by omega) ⟨rfl, I6, F6, B6, E6, U6, hR6, hf6, hI6, hF6, hB6, h622, h623, hJ6, hS6⟩
  · have hbs : B s v := (hB s v hs (by omega)).elim (fun h => h.2) (fun h => absurd h.1 h_11)
    exact v_vret O rfl dX3_goes_14 (by omega) (by omega) (⟨rfl, I, F, B, E, U, hR, FrL.rf, fun _ _ _ => rfl, fun _ _ => rfl, hB, hI22, hI23, hJ, fun _ _ h => h, hbs, fun _ _ h h' => absurd h h'⟩)
theorem c_X3_goes {G : vGC} (hG : vGok G) (k : Nat) : GoesC G k := by
  induction k with
  | zero =>
    intro σ m ad I F L hR N hE hn B E U s v hJ hB hI22 hI23 hg hk
    have := pcn_le s
    omega
  | succ k ih =>
    intro σ m ad I F L hR N hE hn B E U s v hJ hB hI22 hI23 hg hk
    exact s_X3_goes hG ih hR hE hn hJ hB hI22 hI23 hg hk
