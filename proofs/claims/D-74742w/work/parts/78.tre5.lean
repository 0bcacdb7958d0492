/-! what was gone over -/
def EdL (adj : Nat → Nat → Bool) (S : Nat → Bool) (M f base : Nat → Nat) (E : Nat → Bool) (l : List Nat) : Prop :=
  (∀ x, x ∈ l → E x = true) ∧ (∀ x k, x ∈ l → k < 12 → S k = true → adj x k = true → E k = true ∨ f k < 12) ∧ (∀ x y, x ∈ l → y ∈ l → adj x y = true → base x = base y ∨ M x = y)
def EdV (adj : Nat → Nat → Bool) (S : Nat → Bool) (M f base : Nat → Nat) (E : Nat → Bool) (l : List Nat) (v j : Nat) : Prop :=
  (∀ k, k < j → S k = true → adj v k = true → E k = true ∨ f k < 12) ∧ (∀ k, k < j → k ∈ l → adj v k = true → base v = base k ∨ M v = k)
theorem EdL.mono {adj : Nat → Nat → Bool} {S : Nat → Bool} {M f base f' base' : Nat → Nat} {E E' : Nat → Bool} {l : List Nat} (h : EdL adj S M f base E l) (m1 : ∀ k, f k < 12 → f' k < 12) (m2 : ∀ k, E k = true → E' k = true) (m3 : ∀ x y, base x = base y → base' x = base' y) : EdL adj S M f' base' E' l :=
  ⟨fun x hx => m2 x (h.1 x hx), fun x k hx hk hS ha => (h.2.1 x k hx hk hS ha).imp (m2 k) (m1 k), fun x y hx hy ha => (h.2.2 x y hx hy ha).imp (m3 x y) id⟩
theorem EdV.mono {adj : Nat → Nat → Bool} {S : Nat → Bool} {M f base f' base' : Nat → Nat} {E E' : Nat → Bool} {l : List Nat} {v j : Nat} (h : EdV adj S M f base E l v j) (m1 : ∀ k, f k < 12 → f' k < 12) (m2 : ∀ k, E k = true → E' k = true) (m3 : ∀ x y, base x = base y → base' x = base' y) : EdV adj S M f' base' E' l v j :=
  ⟨fun k hk hS ha => (h.1 k hk hS ha).imp (m2 k) (m1 k), fun k hk hl ha => (h.2 k hk hl ha).imp (m3 v k) id⟩
theorem EdV.step {adj : Nat → Nat → Bool} {S : Nat → Bool} {M f base : Nat → Nat} {E : Nat → Bool} {l : List Nat} {v j : Nat} (h : EdV adj S M f base E l v j) (h1 : S j = true → adj v j = true → E j = true ∨ f j < 12) (h2 : j ∈ l → adj v j = true → base v = base j ∨ M v = j) : EdV adj S M f base E l v (j + 1) :=
  ⟨fun k hk hS ha => by
    by_cases e : k = j
    · rw [e] at hS ha ⊢; exact h1 hS ha
    · exact h.1 k (by omega) hS ha, fun k hk hl ha => by
    by_cases e : k = j
    · rw [e] at hl ha ⊢; exact h2 hl ha
    · exact h.2 k (by omega) hl ha⟩
theorem EdV.done {adj : Nat → Nat → Bool} {S : Nat → Bool} {M f base : Nat → Nat} {E : Nat → Bool} {l : List Nat} {v n : Nat} (hM : MOk adj S M) (hirr : ∀ x, adj x x = false) (hsym : ∀ x y, adj x y = adj y x) (hSn : ∀ x, S x = true → x < n) (hE : ∀ x, E x = true → x < 12 ∧ S x = true) (h : EdL adj S M f base E l) (hv : EdV adj S M f base E l v n) (hve : E v = true) : EdL adj S M f base E (l ++ [v]) := by
  have sw : ∀ y, y ∈ l → adj v y = true → base y = base v ∨ M y = v := fun y hy ha => by
    have hE' := hE y (h.1 y hy)
    rcases hv.2 y (hSn y hE'.2) hy ha with e | e
    · exact .inl e.symm
    · have := (hM.inv (hE v hve).1 (by rw [e]; exact hE'.1)).1
      rw [e] at this
      exact .inr this
  refine ⟨fun x hx => ?_, fun x k hx hk hS ha => ?_, fun x y hx hy ha => ?_⟩
  · rcases List.mem_append.mp hx with hx | hx
    · exact h.1 x hx
    · rw [List.mem_singleton.mp hx]; exact hve
  · rcases List.mem_append.mp hx with hx | hx
    · exact h.2.1 x k hx hk hS ha
    · rw [List.mem_singleton.mp hx] at ha; exact hv.1 k (hSn k hS) hS ha
  · rcases List.mem_append.mp hx with hx | hx
    · rcases List.mem_append.mp hy with hy | hy
      · exact h.2.2 x y hx hy ha
      · rw [List.mem_singleton.mp hy] at ha ⊢
        exact sw x hx (by rw [hsym]; exact ha)
    · rw [List.mem_singleton.mp hx] at ha ⊢
      rcases List.mem_append.mp hy with hy | hy
      · exact hv.2 y (hSn y (hE y (h.1 y hy)).2) hy ha
      · rw [List.mem_singleton.mp hy, hirr] at ha; cases ha
theorem EdL.toC {adj : Nat → Nat → Bool} {S : Nat → Bool} {M f base : Nat → Nat} {E : Nat → Bool} {Q : List Nat} (h : EdL adj S M f base E Q) (hQ : QOk Q E) : EdC adj S M f base E E :=
  ⟨fun x hx => hx, fun x k hx => h.2.1 x k ((hQ.2 x).mpr hx), fun x y hx hy => h.2.2 x y ((hQ.2 x).mpr hx) ((hQ.2 y).mpr hy)⟩
theorem adjN_ln {N : NetM} {x y : Nat} (hx : x < N.1) (hy : y < N.1) : adjN N.1 N.2.1 x y = ln N x y := by
  unfold adjN
  rw [decide_eq_true hx, decide_eq_true hy]
  rfl
theorem pre_snoc {l Q : List Nat} {v : Nat} (h : l ++ [v] <+: Q) : l.length < Q.length ∧ Q.getD l.length 0 = v := by
  obtain ⟨t, rfl⟩ := h
  constructor
  · simp
  · simp [List.getD_eq_getElem?_getD]
theorem mdX8_shrinks : vMd yX8_shrinks 2 := ⟨by decide +kernel, by decide +kernel, by decide +kernel⟩
theorem l_X8_grows_in {G : vGC} (hG : vGok G) {X : vCX} {Q : State → Prop} {c0 n0 : Nat} (O : vOk G X yX8_grows.cls cX8_grows (some .int) 4 0 0) (hN : xn X = 4) (hcm0 : c0 ≤ 0) (hsm0 : n0 ≤ 0) {σ0 : vSt} {t : Nat} {ad : Nat → Nat} {I : Nat → Int32} {F : Nat → Nat → Int32} {L : Nat → Nat → Int64} {N : NetM} (hOk : okN N) (hne : ad 0 ≠ t) {s : Nat} (hs : s < 2 ^ N.1) {M : Nat → Nat} (hM : MOk (adjN N.1 N.2.1) s.testBit M) {rt : Nat} (hrt : M rt = 12) (hrtN : rt < N.1) (h10 : I 10 = nI s) {l0 : List Nat} {v : Nat} (kx : ∀ (σ : vSt) (F' : Nat → Nat → Int32) (I' : Nat → Int32) (f base : Nat → Nat) (E : Nat → Bool) (r : Nat → Nat) (Q1 : List Nat), RecAt layT σ t ad I' F' L → FrL [t] σ0 σ → F' 1 = F 1 → (∀ j, j ≠ 8 → j ≠ 9 → I' j = I j) → NetAt σ (ad 0) N → GrSt (adjN N.1 N.2.1) s.testBit M rt F' I' f base E r Q1 → I' 8 = nI (l0.length + 1) → (l0 ++ [v]) <+: Q1 → EdL (adjN N.1 N.2.1) s.testBit M f base E (l0 ++ [v]) → V G X Q c0 n0 σ 271 [(0, .ref t), (1, .int (nI rt)), (2, .int (nI v)), (3, .int (nI N.1))] []) (kf : ∀ (σ : vSt) (F' : Nat → Nat → Int32) (I' : Nat → Int32) (f base : Nat → Nat) (E : Nat → Bool) (r : Nat → Nat) (v j : Nat), RecAt layT σ t ad I' F' L → FrL [t] σ0 σ → F' 1 = F 1 → (∀ j, j ≠ 8 → j ≠ 9 → I' j = I j) → EdI (adjN N.1 N.2.1) s.testBit M rt f base E r → OEnc (F' 2) (va_up f j v) → E v = true → j < 12 → s.testBit j = true → j ≠ rt → M j = 12 → adjN N.1 N.2.1 v j = true → V G X Q c0 n0 σ 229 [(0, .ref t), (1, .int (nI rt)), (2, .int (nI v)), (3, .int (nI j))] []) : ∀ (k : Nat) (j : Nat) (σ : vSt) (F' : Nat → Nat → Int32) (I' : Nat → Int32) (f : Nat → Nat) (base : Nat → Nat) (E : Nat → Bool) (r : Nat → Nat) (Q1 : List Nat), (N.1 < j + k) → (j ≤ N.1) → (RecAt layT σ t ad I' F' L) → (FrL [t] σ0 σ) → (F' 1 = F 1) → (∀ j, j ≠ 8 → j ≠ 9 → I' j = I j) → (NetAt σ (ad 0) N) → (GrSt (adjN N.1 N.2.1) s.testBit M rt F' I' f base E r Q1) → (I' 8 = nI (l0.length + 1)) → ((l0 ++ [v]) <+: Q1) → (EdL (adjN N.1 N.2.1) s.testBit M f base E l0) → (EdV (adjN N.1 N.2.1) s.testBit M f base E l0 v j) → (E v = true) → V G X Q c0 n0 σ 101 [(0, .ref t), (1, .int (nI rt)), (2, .int (nI v)), (3, .int (nI j))] [] := by
  intro k
  induction k with
  | zero => intro j σ F' I' f base E r Q1 h0 hj hR hf hF1 hIo hNt hS h8 hpre hL hV hv; exact absurd h0 (by omega)
  | succ k ih =>
    intro j σ F' I' f base E r Q1 h0 hj hR hf hF1 hIo hNt hS h8 hpre hL hV hv
    obtain ⟨hI, e1, e2, e3, e4, e7, hQ, e9⟩ := id hS
    have hS0 := hS
    have hn := hOk.2.1
    obtain ⟨wa, ma, hob⟩ := hNt.ob
    have hSn : ∀ x, s.testBit x = true → x < N.1 := fun x hx => Classical.byContradiction fun hh => by
      rw [Nat.testBit_lt_two_pow (Nat.lt_of_lt_of_le hs (Nat.pow_le_pow_right (by omega) (Nat.not_lt.mp hh)))] at hx
      cases hx
    have hs31 : s < 2 ^ 31 := Nat.lt_of_lt_of_le hs (Nat.pow_le_pow_right (by omega) (by omega))
    have hqlen := hQ.lt (fun x hx => (hI.2.1 x hx).1)
    obtain ⟨hv12, hvS, -, -⟩ := hI.2.1 v hv
    have hvN := hSn v hvS
    have hbv := hI.base12 hv12
    refine v_iload_n O dX8_grows_101 rfl 3 rfl ?_
    refine v_aload_n O dX8_grows_102 rfl 0 rfl ?_
    refine v_getf (C := RX8) (T := TX8) (N := 11) (v := .ref (ad 0)) O in_X8 hR.ob rfl 0 (by decide) rfl q226 rfl dX8_grows_103 ?_
    refine v_getfN (C := RX2) (T := TX2) (N := 3) (v := .int (nI N.1)) O in_X2 hob rfl 0 (by decide) rfl q152 rfl dX8_grows_106 ?_
    refine v_icmp_geN (tgt := 271) O dX8_grows_109 (by decide) (by omega) (by omega) (fun h_109 => ?_) (fun h_109 => ?_)
    · obtain rfl : j = N.1 := by omega
      exact v_lv [0, 1, 2, 3] rfl (kx σ F' I' f base E r Q1 hR hf hF1 hIo hNt hS h8 hpre (EdV.done hM (adjN_irr hOk) (adjN_sym hOk) hSn (fun x hx => ⟨(hI.2.1 x hx).1, (hI.2.1 x hx).2.1⟩) hL hV hv))
    · have hj12 : j < 12 := by omega
      have hbj := hI.base12 hj12
      refine v_aload_n O dX8_grows_112 rfl 0 rfl ?_
      refine v_getf (C := RX8) (T := TX8) (N := 11) (v := .int (nI s)) O in_X8 hR.ob rfl 10 (by decide) rfl q236 (congrArg (fun z => some (Value.int z)) ((hIo 10 (by omega) (by omega)).trans h10)) dX8_grows_113 ?_
      refine v_iload_n O dX8_grows_116 rfl 3 rfl ?_
      refine v_callSN (as := [.int (nI s), .int (nI j)]) (rest := []) O (c_X1_has hG (s := s) (k := j) (by omega) (by omega)) q270 q271 q72 q272 mdX1_has rfl (by decide) (by omega) (by omega) (by omega) (Nat.le_of_ble_eq_true rfl) rfl dX8_grows_117 (fun v9 σ9 hp9 => ?_) (fun _ _ _ h => False.elim h)
      obtain ⟨rfl, hs9⟩ := hp9
      obtain rfl := hs9.symm
      refine v_if_eqB (tgt := 265) O dX8_grows_120 (by decide) (fun h_120 => ?_) (fun h_120 => ?_)
      · have hst := hV.step (fun hh _ => absurd hh (by rw [h_120]; simp)) (fun hh _ => absurd (hI.2.1 j (hL.1 j hh)).2.1 (by rw [h_120]; simp))
        refine v_iinc (v := nI (j + 1)) (lv' := [(3, .int (nI (j + 1))), (0, .ref t), (1, .int (nI rt)), (2, .int (nI v))]) O hN dX8_grows_265 3 rfl (nI_add j 1) (by decide) rfl ?_
        refine v_goto (tgt := 101) O dX8_grows_268 (by decide) ?_
        refine v_lv [1, 2, 3, 0] rfl ?_
        exact ih (j + 1) _ _ _ _ _ _ _ _ (by omega) (by omega) hR hf hF1 hIo hNt hS0 h8 hpre hL hst hv
      · refine v_aload_n O dX8_grows_123 rfl 0 rfl ?_
        refine v_getf (C := RX8) (T := TX8) (N := 11) (v := .ref (ad 0)) O in_X8 hR.ob rfl 0 (by decide) rfl q226 rfl dX8_grows_124 ?_
        refine v_iload_n O dX8_grows_127 rfl 2 rfl ?_
        refine v_iload_n O dX8_grows_128 rfl 3 rfl ?_
        refine v_callV (as := [.int (nI v), .int (nI j)]) (rest := []) O (c_X2_isLine hG hNt (by omega) (a := v) (b := j) (by omega) (by omega)) q280 q281 q282 q75 q283 hob (show vcl[1]? = some (RX2, TX2, 3) from rfl) rfl mdX2_isLine rfl (by decide) (by omega) (by omega) (by omega) (Nat.le_of_ble_eq_true rfl) rfl dX8_grows_129 (fun v9 σ9 hp9 => ?_) (fun _ _ _ h => False.elim h)
        obtain ⟨rfl, hs9⟩ := hp9
        obtain rfl := hs9.symm
        refine v_if_eqB (tgt := 265) O dX8_grows_132 (by decide) (fun h_132 => ?_) (fun h_132 => ?_)
        · have hna : adjN N.1 N.2.1 v j = false := by rw [adjN_ln hvN (by omega)]; exact h_132
          have hst := hV.step (fun _ hh => absurd hh (by rw [hna]; simp)) (fun _ hh => absurd hh (by rw [hna]; simp))
          refine v_iinc (v := nI (j + 1)) (lv' := [(3, .int (nI (j + 1))), (0, .ref t), (1, .int (nI rt)), (2, .int (nI v))]) O hN dX8_grows_265 3 rfl (nI_add j 1) (by decide) rfl ?_
          refine v_goto (tgt := 101) O dX8_grows_268 (by decide) ?_
          refine v_lv [1, 2, 3, 0] rfl ?_
          exact ih (j + 1) _ _ _ _ _ _ _ _ (by omega) (by omega) hR hf hF1 hIo hNt hS0 h8 hpre hL hst hv
        · have hadj : adjN N.1 N.2.1 v j = true := by rw [adjN_ln hvN (by omega)]; exact h_132
          refine v_aload_n O dX8_grows_135 rfl 0 rfl ?_
          refine v_getf (C := RX8) (T := TX8) (N := 11) (v := .ref (ad 3)) O in_X8 hR.ob rfl 3 (by decide) rfl q229 rfl dX8_grows_136 ?_
          refine v_iload_n O dX8_grows_139 rfl 2 rfl ?_
          refine v_iald (f := F' 3) O (hR.ar 3 rfl) (by omega) (by omega) dX8_grows_140 ?_
          refine v_top (y := nI (base v)) (by rw [e3 v hv12, oI_n hbv]) ?_
          refine v_aload_n O dX8_grows_141 rfl 0 rfl ?_
          refine v_getf (C := RX8) (T := TX8) (N := 11) (v := .ref (ad 3)) O in_X8 hR.ob rfl 3 (by decide) rfl q229 rfl dX8_grows_142 ?_
          refine v_iload_n O dX8_grows_145 rfl 3 rfl ?_
          refine v_iald (f := F' 3) O (hR.ar 3 rfl) (by omega) (by omega) dX8_grows_146 ?_
          refine v_top (y := nI (base j)) (by rw [e3 j hj12, oI_n hbj]) ?_
          refine v_icmp_eqN (tgt := 265) O dX8_grows_147 (by decide) (by omega) (by omega) (fun h_147 => ?_) (fun h_147 => ?_)
          · have hst := hV.step (fun _ _ => .inl (by
              cases e : E j
              · have := (hI.2.1 v hv).2.2.1
                rw [h_147, hI.2.2.2.1 j e, e] at this
                cases this
              · rfl)) (fun _ _ => .inl h_147)
            refine v_iinc (v := nI (j + 1)) (lv' := [(3, .int (nI (j + 1))), (0, .ref t), (1, .int (nI rt)), (2, .int (nI v))]) O hN dX8_grows_265 3 rfl (nI_add j 1) (by decide) rfl ?_
            refine v_goto (tgt := 101) O dX8_grows_268 (by decide) ?_
            refine v_lv [1, 2, 3, 0] rfl ?_
            exact ih (j + 1) _ _ _ _ _ _ _ _ (by omega) (by omega) hR hf hF1 hIo hNt hS0 h8 hpre hL hst hv
          · refine v_aload_n O dX8_grows_150 rfl 0 rfl ?_
            refine v_getf (C := RX8) (T := TX8) (N := 11) (v := .ref (ad 1)) O in_X8 hR.ob rfl 1 (by decide) rfl q227 rfl dX8_grows_151 ?_
            refine v_iload_n O dX8_grows_154 rfl 2 rfl ?_
            refine v_iald (f := F' 1) O (hR.ar 1 rfl) (by omega) (by omega) dX8_grows_155 ?_
            refine v_top (y := (oI (M v))) (e1 v hv12) ?_
            refine v_iload_n O dX8_grows_156 rfl 3 rfl ?_
            refine v_icmp_ne (tgt := 163) O dX8_grows_157 (by decide) (fun h_157 => ?_) (fun h_157 => ?_)
            · refine v_iload_n O dX8_grows_163 rfl 3 rfl ?_
              refine v_iload_n O dX8_grows_164 rfl 1 rfl ?_
              refine v_icmp_eqN (tgt := 193) O dX8_grows_165 (by decide) (by omega) (by omega) (fun h_165 => ?_) (fun h_165 => ?_)
              · have hEj : E j = true := by rw [h_165]; exact hI.1.1
                refine v_aload_n O dX8_grows_193 rfl 0 rfl ?_
                refine v_iload_n O dX8_grows_194 rfl 2 rfl ?_
                refine v_iload_n O dX8_grows_195 rfl 3 rfl ?_
                refine v_callV (as := [.int (nI v), .int (nI j)]) (rest := []) O (c_X8_shrinks hG hR hNt hne hn hM hrt (adjN_irr hOk) (adjN_sym hOk) hSn hS0 hv hEj hadj) q284 q286 qs2 q102 q287 hR.ob (show vcl[7]? = some (RX8, TX8, 11) from rfl) rfl mdX8_shrinks rfl (by decide) (by omega) (by omega) (by omega) (Nat.le_of_ble_eq_true rfl) rfl dX8_grows_196 (fun v9 σ1 hp9 => ?_) (fun _ _ _ h => False.elim h)
                obtain ⟨rfl, Fs, Is, fs, bs, Es, Qs, hRs, hfs, hFs, hIs, hSs, hpr, m1, m2, m3, m4⟩ := hp9
                have hN_2 := hNt.fr hfs (by simpa using hne)
                obtain ⟨wa2, ma2, hob2⟩ := hN_2.ob
                have hst := (hV.mono m1 m2 m3).step (fun _ _ => .inl (m2 j hEj)) (fun _ _ => .inl m4)
                refine v_goto (tgt := 265) O dX8_grows_199 (by decide) ?_
                refine v_iinc (v := nI (j + 1)) (lv' := [(3, .int (nI (j + 1))), (0, .ref t), (1, .int (nI rt)), (2, .int (nI v))]) O hN dX8_grows_265 3 rfl (nI_add j 1) (by decide) rfl ?_
                refine v_goto (tgt := 101) O dX8_grows_268 (by decide) ?_
                refine v_lv [1, 2, 3, 0] rfl ?_
                exact ih (j + 1) _ _ _ _ _ _ _ _ (by omega) (by omega) hRs (hf.trans hfs) (hFs.trans hF1) (fun q q1 q2 => (hIs q q2).trans (hIo q q1 q2)) hN_2 hSs ((hIs 8 (by omega)).trans h8) (hpre.trans hpr) (hL.mono m1 m2 m3) hst (m2 v hv)
              · refine v_aload_n O dX8_grows_168 rfl 0 rfl ?_
                refine v_getf (C := RX8) (T := TX8) (N := 11) (v := .ref (ad 1)) O in_X8 hR.ob rfl 1 (by decide) rfl q227 rfl dX8_grows_169 ?_
                refine v_iload_n O dX8_grows_172 rfl 3 rfl ?_
                refine v_iald (f := F' 1) O (hR.ar 1 rfl) (by omega) (by omega) dX8_grows_173 ?_
                refine v_top (y := (oI (M j))) (e1 j hj12) ?_
                refine v_iconst (v := (-1)) O dX8_grows_174 (by decide) ?_
                refine v_icmp_eq (tgt := 202) O dX8_grows_175 (by decide) (fun h_175 => ?_) (fun h_175 => ?_)
                · have hmj0 := oI_m.mp h_175
                  have hEj : E j = false := by
                    cases e : E j
                    · rfl
                    · have := (hI.even_iff hM hj12 h_165).mp e
                      exact absurd this.1 hmj0
                  refine v_aload_n O dX8_grows_202 rfl 0 rfl ?_
                  refine v_getf (C := RX8) (T := TX8) (N := 11) (v := .ref (ad 2)) O in_X8 hR.ob rfl 2 (by decide) rfl q228 rfl dX8_grows_203 ?_
                  refine v_iload_n O dX8_grows_206 rfl 3 rfl ?_
                  refine v_iald (f := F' 2) O (hR.ar 2 rfl) (by omega) (by omega) dX8_grows_207 ?_
                  refine v_top (y := (oI (f j))) (e2 j hj12) ?_
                  refine v_iconst (v := (-1)) O dX8_grows_208 (by decide) ?_
                  refine v_icmp_ne (tgt := 265) O dX8_grows_209 (by decide) (fun h_209 => ?_) (fun h_209 => ?_)
                  · have hfj : f j < 12 := Classical.byContradiction fun hh => h_209 (oI_m.mpr hh)
                    have hst := hV.step (fun _ _ => .inr hfj) (fun hh _ => absurd (hL.1 j hh) (by rw [hEj]; simp))
                    refine v_iinc (v := nI (j + 1)) (lv' := [(3, .int (nI (j + 1))), (0, .ref t), (1, .int (nI rt)), (2, .int (nI v))]) O hN dX8_grows_265 3 rfl (nI_add j 1) (by decide) rfl ?_
                    refine v_goto (tgt := 101) O dX8_grows_268 (by decide) ?_
                    refine v_lv [1, 2, 3, 0] rfl ?_
                    exact ih (j + 1) _ _ _ _ _ _ _ _ (by omega) (by omega) hR hf hF1 hIo hNt hS0 h8 hpre hL hst hv
                  · have hfj := oI_m.mp h_209
                    have hjr : j ≠ rt := fun e => by rw [e, hI.1.1] at hEj; cases hEj
                    refine v_aload_n O dX8_grows_212 rfl 0 rfl ?_
                    refine v_getf (C := RX8) (T := TX8) (N := 11) (v := .ref (ad 2)) O in_X8 hR.ob rfl 2 (by decide) rfl q228 rfl dX8_grows_213 ?_
                    refine v_iload_n O dX8_grows_216 rfl 3 rfl ?_
                    refine v_iload_n O dX8_grows_217 rfl 2 rfl ?_
                    refine r_iast (K := layT) O hR 2 rfl (by omega) (by omega) dX8_grows_218 (fun σ3 hR3 hf3 => ?_)
                    have hN_4 := hNt.fr hf3 (by simpa using hne)
                    obtain ⟨wa4, ma4, hob4⟩ := hN_4.ob
                    refine v_aload_n O dX8_grows_219 rfl 0 rfl ?_
                    refine v_getf (C := RX8) (T := TX8) (N := 11) (v := .ref (ad 1)) O in_X8 hR3.ob rfl 1 (by decide) rfl q227 rfl dX8_grows_220 ?_
                    refine v_iload_n O dX8_grows_223 rfl 3 rfl ?_
                    refine v_iald (f := F' 1) O (hR3.ar 1 rfl) (by omega) (by omega) dX8_grows_224 ?_
                    refine v_top (y := (oI (M j))) (e1 j hj12) ?_
                    refine v_iconst (v := (-1)) O dX8_grows_225 (by decide) ?_
                    refine v_icmp_ne (tgt := 231) O dX8_grows_226 (by decide) (fun h_226 => ?_) (fun h_226 => ?_)
                    · have hmj2 : M j < 12 := Classical.byContradiction fun hh => h_226 (oI_m.mpr hh)
                      obtain ⟨hIx, hux, hujx⟩ := hI.extend hM (adjN_irr hOk) (adjN_sym hOk) hrt hv hadj hj12 hEj hfj hmj2
                      have hq12 := hQ.lt' (fun x hx => (hI.2.1 x hx).1) hmj2 hux
                      have mx : ∀ k, E k = true → va_up E (M j) true k = true := fun k hk => by
                        by_cases e : k = M j
                        · rw [e, up_t]
                        · rw [up_f _ _ e]; exact hk
                      have mfx : ∀ k, f k < 12 → va_up f j v k < 12 := fun k hk => by
                        by_cases e : k = j
                        · rw [e, up_t]; exact hv12
                        · rw [up_f _ _ e]; exact hk
                      have hLx := hL.mono (base' := base) mfx mx (fun _ _ e => e)
                      have hst := (hV.mono (base' := base) mfx mx (fun _ _ e => e)).step (fun _ _ => .inr (by rw [up_t]; exact hv12)) (fun hh _ => absurd (hL.1 j hh) (by rw [hEj]; simp))
                      refine v_aload_n O dX8_grows_231 rfl 0 rfl ?_
                      refine v_getf (C := RX8) (T := TX8) (N := 11) (v := .ref (ad 4)) O in_X8 hR3.ob rfl 4 (by decide) rfl q230 rfl dX8_grows_232 ?_
                      refine v_aload_n O dX8_grows_235 rfl 0 rfl ?_
                      refine v_getf (C := RX8) (T := TX8) (N := 11) (v := .ref (ad 1)) O in_X8 hR3.ob rfl 1 (by decide) rfl q227 rfl dX8_grows_236 ?_
                      refine v_iload_n O dX8_grows_239 rfl 3 rfl ?_
                      refine v_iald (f := F' 1) O (hR3.ar 1 rfl) (by omega) (by omega) dX8_grows_240 ?_
                      refine v_top (y := nI (M j)) (by rw [e1 j hj12, oI_n hmj2]) ?_
                      refine v_iconst (v := nI 1) O dX8_grows_241 (by decide) ?_
                      refine r_zast (K := layT) O hR3 4 rfl (by omega) (by omega) rfl dX8_grows_242 (fun σ5 hR5 hf5 => ?_)
                      have hN_6 := hN_4.fr hf5 (by simpa using hne)
                      obtain ⟨wa6, ma6, hob6⟩ := hN_6.ob
                      refine v_aload_n O dX8_grows_243 rfl 0 rfl ?_
                      refine v_getf (C := RX8) (T := TX8) (N := 11) (v := .ref (ad 7)) O in_X8 hR5.ob rfl 7 (by decide) rfl q233 rfl dX8_grows_244 ?_
                      refine v_aload_n O dX8_grows_247 rfl 0 rfl ?_
                      refine v_dup O dX8_grows_248 rfl ?_
                      refine v_getf (C := RX8) (T := TX8) (N := 11) (v := .int (nI Q1.length)) O in_X8 hR5.ob rfl 9 (by decide) rfl q235 (congrArg (fun z => some (Value.int z)) e9) dX8_grows_249 ?_
                      refine v_dup_x1 O dX8_grows_252 rfl rfl ?_
                      refine v_iconst (v := nI 1) O dX8_grows_253 (by decide) ?_
                      refine v_iadd (z := nI (Q1.length + 1)) O dX8_grows_254 (nI_add Q1.length 1) ?_
                      refine r_puti (K := layT) (I' := (va_up I' 9 (nI (Q1.length + 1)))) (ty0 := tyX8) O hR5 in_X8 tyX8_ok nmX8 (show vcl[7]? = some (RX8, TX8, 11) from rfl) 9 (by decide) rfl q235 rfl (tyX8_ok 9 (by decide)) rfl rfl (Nat.le_of_ble_eq_true rfl) rfl dX8_grows_255 (fun σ7 hR7 hf7 => ?_)
                      have hN_8 := hN_6.fr hf7 (by simpa using hne)
                      obtain ⟨wa8, ma8, hob8⟩ := hN_8.ob
                      refine v_aload_n O dX8_grows_258 rfl 0 rfl ?_
                      refine v_getf (C := RX8) (T := TX8) (N := 11) (v := .ref (ad 1)) O in_X8 hR7.ob rfl 1 (by decide) rfl q227 rfl dX8_grows_259 ?_
                      refine v_iload_n O dX8_grows_262 rfl 3 rfl ?_
                      refine v_iald (f := F' 1) O (hR7.ar 1 rfl) (by omega) (by omega) dX8_grows_263 ?_
                      refine v_top (y := nI (M j)) (by rw [e1 j hj12, oI_n hmj2]) ?_
                      refine r_iast (K := layT) O hR7 7 rfl (by omega) (by omega) dX8_grows_264 (fun σ9 hR9 hf9 => ?_)
                      have hN_10 := hN_8.fr hf9 (by simpa using hne)
                      obtain ⟨wa10, ma10, hob10⟩ := hN_10.ob
                      have hSx : GrSt (adjN N.1 N.2.1) s.testBit M rt (va_up (va_up (va_up F' 2 (va_up (F' 2) j (nI v))) 4 (va_up (F' 4) (M j) (nI 1))) 7 (va_up (F' 7) Q1.length (nI (M j)))) (va_up I' 9 (nI (Q1.length + 1))) (va_up f j v) base (va_up E (M j) true) (va_up r (M j) (r (base v) + 1)) (Q1 ++ [M j]) := ⟨hIx, by simpa [va_up] using e1, by simpa [va_up] using e2.up j hv12, by simpa [va_up] using e3, by simpa [va_up] using e4.up (M j), by simpa [va_up] using e7.push (M j), hQ.push hux (fun k => by
                        by_cases e : k = M j
                        · rw [e, up_t]; simp
                        · rw [up_f _ _ e]; simp [e]), by simp [va_up, List.length_append, nI_add]⟩
                      refine v_iinc (v := nI (j + 1)) (lv' := [(3, .int (nI (j + 1))), (0, .ref t), (1, .int (nI rt)), (2, .int (nI v))]) O hN dX8_grows_265 3 rfl (nI_add j 1) (by decide) rfl ?_
                      refine v_goto (tgt := 101) O dX8_grows_268 (by decide) ?_
                      refine v_lv [1, 2, 3, 0] rfl ?_
                      exact ih (j + 1) _ _ _ _ _ _ _ _ (by omega) (by omega) hR9 (hf.trans (((hf3.trans hf5).trans hf7).trans hf9)) (by simp [va_up]; exact hF1) (fun q q1 q2 => by rw [← hIo q q1 q2]; simp [va_up, q2]) hN_10 hSx (by simp [va_up]; exact h8) (hpre.trans (List.prefix_append ..)) hLx hst (mx v hv)
                    · have hmj2 := oI_m.mp h_226
                      exact v_lv [0, 1, 2, 3] rfl (kf _ _ _ f base E r v j hR3 (hf.trans hf3) (by simp [va_up]; exact hF1) hIo hI (by simpa [va_up] using e2.up j hv12) hv hj12 h_120 hjr ((hM j hj12).resolve_right (fun hh => hmj2 hh.1)) hadj)
                · have hmj : M j < 12 := Classical.byContradiction fun hh => h_175 (oI_m.mpr hh)
                  refine v_aload_n O dX8_grows_178 rfl 0 rfl ?_
                  refine v_getf (C := RX8) (T := TX8) (N := 11) (v := .ref (ad 2)) O in_X8 hR.ob rfl 2 (by decide) rfl q228 rfl dX8_grows_179 ?_
                  refine v_aload_n O dX8_grows_182 rfl 0 rfl ?_
                  refine v_getf (C := RX8) (T := TX8) (N := 11) (v := .ref (ad 1)) O in_X8 hR.ob rfl 1 (by decide) rfl q227 rfl dX8_grows_183 ?_
                  refine v_iload_n O dX8_grows_186 rfl 3 rfl ?_
                  refine v_iald (f := F' 1) O (hR.ar 1 rfl) (by omega) (by omega) dX8_grows_187 ?_
                  refine v_top (y := nI (M j)) (by rw [e1 j hj12, oI_n hmj]) ?_
                  refine v_iald (f := F' 2) O (hR.ar 2 rfl) (by omega) (by omega) dX8_grows_188 ?_
                  refine v_top (y := (oI (f (M j)))) (e2 _ hmj) ?_
                  refine v_iconst (v := (-1)) O dX8_grows_189 (by decide) ?_
                  refine v_icmp_eq (tgt := 202) O dX8_grows_190 (by decide) (fun h_190 => ?_) (fun h_190 => ?_)
                  · have hfm := oI_m.mp h_190
                    have hEj : E j = false := by
                      cases e : E j
                      · rfl
                      · have := (hI.even_iff hM hj12 h_165).mp e
                        exact absurd this.2 hfm
                    refine v_aload_n O dX8_grows_202 rfl 0 rfl ?_
                    refine v_getf (C := RX8) (T := TX8) (N := 11) (v := .ref (ad 2)) O in_X8 hR.ob rfl 2 (by decide) rfl q228 rfl dX8_grows_203 ?_
                    refine v_iload_n O dX8_grows_206 rfl 3 rfl ?_
                    refine v_iald (f := F' 2) O (hR.ar 2 rfl) (by omega) (by omega) dX8_grows_207 ?_
                    refine v_top (y := (oI (f j))) (e2 j hj12) ?_
                    refine v_iconst (v := (-1)) O dX8_grows_208 (by decide) ?_
                    refine v_icmp_ne (tgt := 265) O dX8_grows_209 (by decide) (fun h_209 => ?_) (fun h_209 => ?_)
                    · have hfj : f j < 12 := Classical.byContradiction fun hh => h_209 (oI_m.mpr hh)
                      have hst := hV.step (fun _ _ => .inr hfj) (fun hh _ => absurd (hL.1 j hh) (by rw [hEj]; simp))
                      refine v_iinc (v := nI (j + 1)) (lv' := [(3, .int (nI (j + 1))), (0, .ref t), (1, .int (nI rt)), (2, .int (nI v))]) O hN dX8_grows_265 3 rfl (nI_add j 1) (by decide) rfl ?_
                      refine v_goto (tgt := 101) O dX8_grows_268 (by decide) ?_
                      refine v_lv [1, 2, 3, 0] rfl ?_
                      exact ih (j + 1) _ _ _ _ _ _ _ _ (by omega) (by omega) hR hf hF1 hIo hNt hS0 h8 hpre hL hst hv
                    · have hfj := oI_m.mp h_209
                      have hjr : j ≠ rt := fun e => by rw [e, hI.1.1] at hEj; cases hEj
                      refine v_aload_n O dX8_grows_212 rfl 0 rfl ?_
                      refine v_getf (C := RX8) (T := TX8) (N := 11) (v := .ref (ad 2)) O in_X8 hR.ob rfl 2 (by decide) rfl q228 rfl dX8_grows_213 ?_
                      refine v_iload_n O dX8_grows_216 rfl 3 rfl ?_
                      refine v_iload_n O dX8_grows_217 rfl 2 rfl ?_
                      refine r_iast (K := layT) O hR 2 rfl (by omega) (by omega) dX8_grows_218 (fun σ11 hR11 hf11 => ?_)
                      have hN_12 := hNt.fr hf11 (by simpa using hne)
                      obtain ⟨wa12, ma12, hob12⟩ := hN_12.ob
                      refine v_aload_n O dX8_grows_219 rfl 0 rfl ?_
                      refine v_getf (C := RX8) (T := TX8) (N := 11) (v := .ref (ad 1)) O in_X8 hR11.ob rfl 1 (by decide) rfl q227 rfl dX8_grows_220 ?_
                      refine v_iload_n O dX8_grows_223 rfl 3 rfl ?_
                      refine v_iald (f := F' 1) O (hR11.ar 1 rfl) (by omega) (by omega) dX8_grows_224 ?_
                      refine v_top (y := (oI (M j))) (e1 j hj12) ?_
                      refine v_iconst (v := (-1)) O dX8_grows_225 (by decide) ?_
                      refine v_icmp_ne (tgt := 231) O dX8_grows_226 (by decide) (fun h_226 => ?_) (fun h_226 => ?_)
                      · have hmj2 : M j < 12 := Classical.byContradiction fun hh => h_226 (oI_m.mpr hh)
                        obtain ⟨hIx, hux, hujx⟩ := hI.extend hM (adjN_irr hOk) (adjN_sym hOk) hrt hv hadj hj12 hEj hfj hmj2
                        have hq12 := hQ.lt' (fun x hx => (hI.2.1 x hx).1) hmj2 hux
                        have mx : ∀ k, E k = true → va_up E (M j) true k = true := fun k hk => by
                          by_cases e : k = M j
                          · rw [e, up_t]
                          · rw [up_f _ _ e]; exact hk
                        have mfx : ∀ k, f k < 12 → va_up f j v k < 12 := fun k hk => by
                          by_cases e : k = j
                          · rw [e, up_t]; exact hv12
                          · rw [up_f _ _ e]; exact hk
                        have hLx := hL.mono (base' := base) mfx mx (fun _ _ e => e)
                        have hst := (hV.mono (base' := base) mfx mx (fun _ _ e => e)).step (fun _ _ => .inr (by rw [up_t]; exact hv12)) (fun hh _ => absurd (hL.1 j hh) (by rw [hEj]; simp))
                        refine v_aload_n O dX8_grows_231 rfl 0 rfl ?_
                        refine v_getf (C := RX8) (T := TX8) (N := 11) (v := .ref (ad 4)) O in_X8 hR11.ob rfl 4 (by decide) rfl q230 rfl dX8_grows_232 ?_
                        refine v_aload_n O dX8_grows_235 rfl 0 rfl ?_
                        refine v_getf (C := RX8) (T := TX8) (N := 11) (v := .ref (ad 1)) O in_X8 hR11.ob rfl 1 (by decide) rfl q227 rfl dX8_grows_236 ?_
                        refine v_iload_n O dX8_grows_239 rfl 3 rfl ?_
                        refine v_iald (f := F' 1) O (hR11.ar 1 rfl) (by omega) (by omega) dX8_grows_240 ?_
                        refine v_top (y := nI (M j)) (by rw [e1 j hj12, oI_n hmj2]) ?_
                        refine v_iconst (v := nI 1) O dX8_grows_241 (by decide) ?_
                        refine r_zast (K := layT) O hR11 4 rfl (by omega) (by omega) rfl dX8_grows_242 (fun σ13 hR13 hf13 => ?_)
                        have hN_14 := hN_12.fr hf13 (by simpa using hne)
                        obtain ⟨wa14, ma14, hob14⟩ := hN_14.ob
                        refine v_aload_n O dX8_grows_243 rfl 0 rfl ?_
                        refine v_getf (C := RX8) (T := TX8) (N := 11) (v := .ref (ad 7)) O in_X8 hR13.ob rfl 7 (by decide) rfl q233 rfl dX8_grows_244 ?_
                        refine v_aload_n O dX8_grows_247 rfl 0 rfl ?_
                        refine v_dup O dX8_grows_248 rfl ?_
                        refine v_getf (C := RX8) (T := TX8) (N := 11) (v := .int (nI Q1.length)) O in_X8 hR13.ob rfl 9 (by decide) rfl q235 (congrArg (fun z => some (Value.int z)) e9) dX8_grows_249 ?_
                        refine v_dup_x1 O dX8_grows_252 rfl rfl ?_
                        refine v_iconst (v := nI 1) O dX8_grows_253 (by decide) ?_
                        refine v_iadd (z := nI (Q1.length + 1)) O dX8_grows_254 (nI_add Q1.length 1) ?_
                        refine r_puti (K := layT) (I' := (va_up I' 9 (nI (Q1.length + 1)))) (ty0 := tyX8) O hR13 in_X8 tyX8_ok nmX8 (show vcl[7]? = some (RX8, TX8, 11) from rfl) 9 (by decide) rfl q235 rfl (tyX8_ok 9 (by decide)) rfl rfl (Nat.le_of_ble_eq_true rfl) rfl dX8_grows_255 (fun σ15 hR15 hf15 => ?_)
                        have hN_16 := hN_14.fr hf15 (by simpa using hne)
                        obtain ⟨wa16, ma16, hob16⟩ := hN_16.ob
                        refine v_aload_n O dX8_grows_258 rfl 0 rfl ?_
                        refine v_getf (C := RX8) (T := TX8) (N := 11) (v := .ref (ad 1)) O in_X8 hR15.ob rfl 1 (by decide) rfl q227 rfl dX8_grows_259 ?_
                        refine v_iload_n O dX8_grows_262 rfl 3 rfl ?_
                        refine v_iald (f := F' 1) O (hR15.ar 1 rfl) (by omega) (by omega) dX8_grows_263 ?_
                        refine v_top (y := nI (M j)) (by rw [e1 j hj12, oI_n hmj2]) ?_
                        refine r_iast (K := layT) O hR15 7 rfl (by omega) (by omega) dX8_grows_264 (fun σ17 hR17 hf17 => ?_)
                        have hN_18 := hN_16.fr hf17 (by simpa using hne)
                        obtain ⟨wa18, ma18, hob18⟩ := hN_18.ob
                        have hSx : GrSt (adjN N.1 N.2.1) s.testBit M rt (va_up (va_up (va_up F' 2 (va_up (F' 2) j (nI v))) 4 (va_up (F' 4) (M j) (nI 1))) 7 (va_up (F' 7) Q1.length (nI (M j)))) (va_up I' 9 (nI (Q1.length + 1))) (va_up f j v) base (va_up E (M j) true) (va_up r (M j) (r (base v) + 1)) (Q1 ++ [M j]) := ⟨hIx, by simpa [va_up] using e1, by simpa [va_up] using e2.up j hv12, by simpa [va_up] using e3, by simpa [va_up] using e4.up (M j), by simpa [va_up] using e7.push (M j), hQ.push hux (fun k => by
                          by_cases e : k = M j
                          · rw [e, up_t]; simp
                          · rw [up_f _ _ e]; simp [e]), by simp [va_up, List.length_append, nI_add]⟩
                        refine v_iinc (v := nI (j + 1)) (lv' := [(3, .int (nI (j + 1))), (0, .ref t), (1, .int (nI rt)), (2, .int (nI v))]) O hN dX8_grows_265 3 rfl (nI_add j 1) (by decide) rfl ?_
                        refine v_goto (tgt := 101) O dX8_grows_268 (by decide) ?_
                        refine v_lv [1, 2, 3, 0] rfl ?_
                        exact ih (j + 1) _ _ _ _ _ _ _ _ (by omega) (by omega) hR17 (hf.trans (((hf11.trans hf13).trans hf15).trans hf17)) (by simp [va_up]; exact hF1) (fun q q1 q2 => by rw [← hIo q q1 q2]; simp [va_up, q2]) hN_18 hSx (by simp [va_up]; exact h8) (hpre.trans (List.prefix_append ..)) hLx hst (mx v hv)
                      · have hmj2 := oI_m.mp h_226
                        exact v_lv [0, 1, 2, 3] rfl (kf _ _ _ f base E r v j hR11 (hf.trans hf11) (by simp [va_up]; exact hF1) hIo hI (by simpa [va_up] using e2.up j hv12) hv hj12 h_120 hjr ((hM j hj12).resolve_right (fun hh => hmj2 hh.1)) hadj)
                  · have hEj : E j = true := (hI.even_iff hM hj12 h_165).mpr ⟨hmj, Classical.byContradiction fun hh => h_190 (oI_m.mpr hh)⟩
                    refine v_aload_n O dX8_grows_193 rfl 0 rfl ?_
                    refine v_iload_n O dX8_grows_194 rfl 2 rfl ?_
                    refine v_iload_n O dX8_grows_195 rfl 3 rfl ?_
                    refine v_callV (as := [.int (nI v), .int (nI j)]) (rest := []) O (c_X8_shrinks hG hR hNt hne hn hM hrt (adjN_irr hOk) (adjN_sym hOk) hSn hS0 hv hEj hadj) q284 q286 qs2 q102 q287 hR.ob (show vcl[7]? = some (RX8, TX8, 11) from rfl) rfl mdX8_shrinks rfl (by decide) (by omega) (by omega) (by omega) (Nat.le_of_ble_eq_true rfl) rfl dX8_grows_196 (fun v9 σ19 hp9 => ?_) (fun _ _ _ h => False.elim h)
                    obtain ⟨rfl, Fs, Is, fs, bs, Es, Qs, hRs, hfs, hFs, hIs, hSs, hpr, m1, m2, m3, m4⟩ := hp9
                    have hN_20 := hNt.fr hfs (by simpa using hne)
                    obtain ⟨wa20, ma20, hob20⟩ := hN_20.ob
                    have hst := (hV.mono m1 m2 m3).step (fun _ _ => .inl (m2 j hEj)) (fun _ _ => .inl m4)
                    refine v_goto (tgt := 265) O dX8_grows_199 (by decide) ?_
                    refine v_iinc (v := nI (j + 1)) (lv' := [(3, .int (nI (j + 1))), (0, .ref t), (1, .int (nI rt)), (2, .int (nI v))]) O hN dX8_grows_265 3 rfl (nI_add j 1) (by decide) rfl ?_
                    refine v_goto (tgt := 101) O dX8_grows_268 (by decide) ?_
                    refine v_lv [1, 2, 3, 0] rfl ?_
                    exact ih (j + 1) _ _ _ _ _ _ _ _ (by omega) (by omega) hRs (hf.trans hfs) (hFs.trans hF1) (fun q q1 q2 => (hIs q q2).trans (hIo q q1 q2)) hN_20 hSs ((hIs 8 (by omega)).trans h8) (hpre.trans hpr) (hL.mono m1 m2 m3) hst (m2 v hv)
            · have hmv : M v = j := (oI_eq hj12).mp h_157
              have hst := hV.step (fun _ _ => .inr (by
                have hvr : v ≠ rt := fun e => by rw [e, hrt] at hmv; omega
                have := (hI.2.2.1 v hv hvr).2.1
                rwa [hmv] at this)) (fun _ _ => .inr hmv)
              refine v_goto (tgt := 265) O dX8_grows_160 (by decide) ?_
              refine v_iinc (v := nI (j + 1)) (lv' := [(3, .int (nI (j + 1))), (0, .ref t), (1, .int (nI rt)), (2, .int (nI v))]) O hN dX8_grows_265 3 rfl (nI_add j 1) (by decide) rfl ?_
              refine v_goto (tgt := 101) O dX8_grows_268 (by decide) ?_
              refine v_lv [1, 2, 3, 0] rfl ?_
              exact ih (j + 1) _ _ _ _ _ _ _ _ (by omega) (by omega) hR hf hF1 hIo hNt hS0 h8 hpre hL hst hv
