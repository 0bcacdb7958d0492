theorem s_X6_goesP {G : vGC} (hG : vGok G) {k9 : Nat} (hrec : GoPC G k9) {σ : vSt} {w : Nat} {ad : Nat → Nat} {I : Nat → Int32} {F : Nat → Nat → Int32} {L : Nat → Nat → Int64} (hR : RecAt layW σ w ad I F L) {N : NetM} (hOk : okN N) (hNt : NetAt σ (ad 0) N) (hne : ad 0 ≠ w) {a len size : Nat} {l : List Nat} (hg : RgL N (a :: l)) (hlen : (a :: l).length = len) (hrow : RowIs (F 1) (a :: l)) (ho : len % 2 = 1) (hsz : size % 2 = 0) (hls : len < size) (hsn : size ≤ N.1) (hk9 : 12 < len + 2 * (k9 + 1)) : Ct G yX6_goes (ws_ yX6_goes cX6_goes 8 (some .boolean)) (2 + (k9 + 1)) 0 0 σ [.ref w, .int (nI a), .int (nI (msk (a :: l))), .int (nI len), .int (nI size), .int (nI 0)] (fun v σ9 => v = some (.int (bI (betF N size (13 - len) (a :: l)).isSome)) ∧ ∃ F' : Nat → Nat → Int32, RecAt layW σ9 w ad I F' L ∧ FrL [w] σ σ9 ∧ (∀ j, j < len → F' 1 j = F 1 j) ∧ ∀ r, betF N size (13 - len) (a :: l) = some r → RowIs (F' 1) r) vNo := by
  refine ct_of hG (by decide) (Nat.le_of_ble_eq_true rfl) fun X hN O hnm htb => ?_
  show V G X _ 0 0 σ 0 [(0, .ref w), (1, .int (nI a)), (2, .int (nI (msk (a :: l)))), (3, .int (nI len)), (4, .int (nI size)), (5, .int (nI 0))] []
  obtain ⟨wa, ma, hob⟩ := hNt.ob
  have hn := hOk.2.1
  refine v_iconst (v := nI 0) O dX6_goes_0 (by decide) ?_
  refine v_istore (lv' := [(6, .int (nI 0)), (0, .ref w), (1, .int (nI a)), (2, .int (nI (msk (a :: l)))), (3, .int (nI len)), (4, .int (nI size)), (5, .int (nI 0))]) O hN dX6_goes_1 (by decide) rfl ?_
  refine v_lv [1, 2, 3, 4, 5, 6, 0] rfl ?_
  refine l_X6_goesP hG O hN (by omega) (by omega) (σ0 := σ) (F := F) hOk hne hg hlen hrow ho hsz hls hsn hrec hk9 (r0 := betF N size (13 - len) (a :: l)) (fun hr σZ FZ hRZ hfZ hFZ => ?_) (fun r pc hr hpc σZ FZ hRZ hfZ hFZ hZ => ?_) (N.1 + 1) 0 _ _ (by omega) (by omega) hR FrL.rf (fun _ _ => rfl) hNt (by rw [show 13 - len = (11 - len) + 2 by omega, betF_2 hOk (by omega) (by omega)]; rfl)
  · refine v_iconst (v := nI 0) O dX6_goes_191 (by decide) ?_
    exact v_zret (ty := .boolean) O rfl rfl dX6_goes_192 (by omega) (by omega) (⟨by rw [hr]; rfl, FZ, hRZ, hfZ, hFZ, fun r hr2 => by rw [hr] at hr2; cases hr2⟩)
  · rcases hpc with rfl | rfl
    · refine v_iconst (v := nI 1) O dX6_goes_93 (by decide) ?_
      exact v_zret (ty := .boolean) O rfl rfl dX6_goes_94 (by omega) (by omega) (⟨by rw [hr]; rfl, FZ, hRZ, hfZ, hFZ, fun r2 hr2 => by rw [hr] at hr2; cases hr2; exact hZ⟩)
    · refine v_iconst (v := nI 1) O dX6_goes_183 (by decide) ?_
      exact v_zret (ty := .boolean) O rfl rfl dX6_goes_184 (by omega) (by omega) (⟨by rw [hr]; rfl, FZ, hRZ, hfZ, hFZ, fun r2 hr2 => by rw [hr] at hr2; cases hr2; exact hZ⟩)
theorem c_X6_goesP {G : vGC} (hG : vGok G) (k : Nat) : GoPC G k := by
  induction k with
  | zero =>
    intro σ w ad I F L hR N hOk hNt hne a len size l hg hlen hrow ho hsz hls hsn hk
    have := (hg.lt hOk.2.1).2
    omega
  | succ k ih => intro σ w ad I F L hR N hOk hNt hne a len size l hg hlen hrow ho hsz hls hsn hk; exact s_X6_goesP hG ih hR hOk hNt hne hg hlen hrow ho hsz hls hsn hk
def GoRC (G : vGC) (k : Nat) : Prop := ∀ {σ : vSt} {w : Nat} {ad : Nat → Nat} {I : Nat → Int32} {F : Nat → Nat → Int32} {L : Nat → Nat → Int64} (hR : RecAt layW σ w ad I F L) {N : NetM} (hOk : okN N) (hNt : NetAt σ (ad 0) N) (hne : ad 0 ≠ w) {a len size base out f : Nat} {l : List Nat} (hg : RgL N (a :: l)) (hlen : (a :: l).length = len) (hrow : RowIs (F 1) (a :: l)) (ho : len % 2 = 1) (hsz : size % 2 = 1) (hls : len < size) (hsn : size ≤ N.1) (hf : 13 ≤ 2 * f + len) (hb0 : F 1 0 = nI base) (hbl : (msk (a :: l)).testBit base = true ∧ base < N.1) (hout : (N.2.2 base = -1 ∧ out = 0) ∨ (N.2.2 base ≠ -1 ∧ out = 2 ^ cl (N.2.2 base))), 12 < len + 2 * k → Ct G yX6_goes (ws_ yX6_goes cX6_goes 8 (some .boolean)) (2 + k) 0 0 σ [.ref w, .int (nI a), .int (nI (msk (a :: l) ||| out)), .int (nI len), .int (nI size), .int (nI 1)] (fun v σ9 => v = some (.int (bI (ringF N size base f (a :: l)).isSome)) ∧ ∃ F' : Nat → Nat → Int32, RecAt layW σ9 w ad I F' L ∧ FrL [w] σ σ9 ∧ (∀ j, j < len → F' 1 j = F 1 j) ∧ ∀ r, ringF N size base f (a :: l) = some r → RowIs (F' 1) r) vNo
def ring2 (N : NetM) (size base f : Nat) (l : List Nat) (b : Nat) : Option (List Nat) := if ringB N l b then ringF N size base (f - 1) (cl (N.2.2 b) :: b :: l) else none
theorem ringF_2 {N : NetM} {size base f len a : Nat} {l : List Nat} (hlen : (a :: l).length = len) (hls : len < size) : ringF N size base f (a :: l) = if f = 0 then none else fsm (ring2 N size base f (a :: l)) N.1 0 := by
  cases f with
  | zero => rfl
  | succ f => rw [ringF, if_neg (by omega), if_neg (by omega)]; rfl
theorem or4 (m o b c : Nat) : m ||| o ||| b ||| c = m ||| b ||| c ||| o := by
  rw [Nat.or_assoc m o b, Nat.or_comm o b, ← Nat.or_assoc m b o, Nat.or_assoc (m ||| b) o c, Nat.or_comm o c, ← Nat.or_assoc]
/-- the base's mate is no part of a ring -/
theorem out_no {N : NetM} (hN : okN N) {l : List Nat} {base out b : Nat} (hbl : l.contains base = true ∧ base < N.1) (hout : (N.2.2 base = -1 ∧ out = 0) ∨ (N.2.2 base ≠ -1 ∧ out = 2 ^ cl (N.2.2 base))) (hb : b < N.1) (h : out.testBit b = true) : N.2.2 b = nI base ∧ N.2.2 base = nI b := by
  have hn := hN.2.1
  rcases hout with ⟨-, e⟩ | ⟨h1, e⟩
  · rw [e, Nat.zero_testBit] at h; cases h
  · obtain ⟨d, hd, h3, h4, -⟩ := hN.mate hbl.2 h1
    have e2 : cl (N.2.2 base) = d := by rw [h3]; exact nI_clamp (by omega)
    rw [e, e2, Nat.testBit_two_pow] at h
    obtain rfl := of_decide_eq_true h
    exact ⟨h4, h3⟩
theorem l_X6_goesR {G : vGC} (hG : vGok G) {X : vCX} {Q : State → Prop} {c0 n0 k9 : Nat} (O : vOk G X yX6_goes.cls cX6_goes (some .boolean) (2 + (k9 + 1)) 0 0) (hN : xn X = 8) (hcm0 : c0 ≤ 0) (hsm0 : n0 ≤ 0) {σ0 : vSt} {w : Nat} {ad : Nat → Nat} {I : Nat → Int32} {F : Nat → Nat → Int32} {L : Nat → Nat → Int64} {N : NetM} (hOk : okN N) (hne : ad 0 ≠ w) {a len size base out f : Nat} {l : List Nat} (hg : RgL N (a :: l)) (hlen : (a :: l).length = len) (hrow : RowIs (F 1) (a :: l)) (ho : len % 2 = 1) (hsz : size % 2 = 1) (hls : len < size) (hsn : size ≤ N.1) (hf : 13 ≤ 2 * f + len) (hb0 : F 1 0 = nI base) (hbl : (msk (a :: l)).testBit base = true ∧ base < N.1) (hout : (N.2.2 base = -1 ∧ out = 0) ∨ (N.2.2 base ≠ -1 ∧ out = 2 ^ cl (N.2.2 base))) (hrec : GoRC G k9) (hk9 : 12 < len + 2 * (k9 + 1)) {r0 : Option (List Nat)} (kx : r0 = none → ∀ (σ : vSt) (F' : Nat → Nat → Int32), RecAt layW σ w ad I F' L → FrL [w] σ0 σ → (∀ j, j < len → F' 1 j = F 1 j) → V G X Q c0 n0 σ 191 [(0, .ref w)] []) (kt : ∀ (r : List Nat) (pc : Nat), r0 = some r → pc = 154 ∨ pc = 183 → ∀ (σ : vSt) (F' : Nat → Nat → Int32), RecAt layW σ w ad I F' L → FrL [w] σ0 σ → (∀ j, j < len → F' 1 j = F 1 j) → RowIs (F' 1) r → V G X Q c0 n0 σ pc [(0, .ref w)] []) : ∀ (k : Nat) (b : Nat) (σ : vSt) (F' : Nat → Nat → Int32), (N.1 < b + k) → (b ≤ N.1) → (RecAt layW σ w ad I F' L) → (FrL [w] σ0 σ) → (∀ j, j < len → F' 1 j = F 1 j) → (NetAt σ (ad 0) N) → (fsm (ring2 N size base f (a :: l)) (N.1 - b) b = r0) → V G X Q c0 n0 σ 3 [(0, .ref w), (1, .int (nI a)), (2, .int (nI (msk (a :: l) ||| out))), (3, .int (nI len)), (4, .int (nI size)), (5, .int (nI 1)), (6, .int (nI b))] [] := by
  intro k
  induction k with
  | zero => intro b σ F' h0 h1 hR hfr hF hNt h2; exact absurd h0 (by omega)
  | succ k ih =>
    intro b σ F' h0 h1 hR hfr hF hNt h2
    obtain ⟨wa, ma, hob⟩ := hNt.ob
    have hn := hOk.2.1
    obtain ⟨hm12, hl12⟩ := hg.lt hn
    have haN := hg.1 a (List.mem_cons_self ..)
    have hblc : (a :: l).contains base = true ∧ base < N.1 := ⟨by rw [← msk_bit]; exact hbl.1, hbl.2⟩
    have hlen1 : 1 ≤ len := by rw [← hlen]; exact Nat.succ_le_succ (Nat.zero_le _)
    have hbm : (msk (a :: l)).testBit a = true := by rw [msk, Nat.testBit_or, Nat.testBit_two_pow_self, Bool.or_true]
    have hou : out < 4096 := by
      rcases hout with ⟨-, e⟩ | ⟨e1, e⟩
      · omega
      · obtain ⟨d, hd, -, e2⟩ := mate_or hOk hbl.2 e1
        rw [e, e2]; exact Nat.pow_lt_pow_right (by omega) (show d < 12 by omega)
    have hmo : msk (a :: l) ||| out < 4096 := Nat.or_lt_two_pow (n := 12) hm12 hou
    refine v_iload O dX6_goes_3 6 rfl ?_
    refine v_aload_n O dX6_goes_5 rfl 0 rfl ?_
    refine v_getf (C := RX6) (T := TX6) (N := 5) (v := .ref (ad 0)) O in_X6 hR.ob rfl 0 (by decide) rfl q1213 rfl dX6_goes_6 ?_
    refine v_getfN (C := RX2) (T := TX2) (N := 3) (v := .int (nI N.1)) O in_X2 hob rfl 0 (by decide) rfl q151 rfl dX6_goes_9 ?_
    refine v_icmp_geN (tgt := 191) O dX6_goes_12 (by decide) (by omega) (by omega) (fun h_12 => ?_) (fun h_12 => ?_)
    · obtain rfl : b = N.1 := by omega
      rw [Nat.sub_self] at h2
      exact v_lv [0] rfl (kx h2.symm σ F' hR hfr hF)
    · refine v_iload_n O dX6_goes_15 rfl 2 rfl ?_
      refine v_iload O dX6_goes_16 6 rfl ?_
      refine v_callSN (as := [.int (nI (msk (a :: l) ||| out)), .int (nI b)]) (rest := []) O (c_X1_has hG (s := msk (a :: l) ||| out) (k := b) (by omega) (by omega)) q1241 q271 q72 q272 mdX1_has rfl (by decide) (by omega) (by omega) (by omega) (Nat.le_of_ble_eq_true rfl) rfl dX6_goes_18 (fun v9 σ9 hp9 => ?_) (fun _ _ _ h => False.elim h)
      obtain ⟨rfl, hs9⟩ := hp9
      obtain rfl := hs9.symm
      refine v_if_neB (tgt := 185) O dX6_goes_21 (by decide) (fun h_21 => ?_) (fun h_21 => ?_)
      · have hno : ring2 N size base f (a :: l) b = none := if_neg fun hh => by
          obtain ⟨r1, r2, r3, r4⟩ := ringB_m.mp hh
          rw [Nat.testBit_or, r1, Bool.false_or] at h_21
          obtain ⟨e1, -⟩ := out_no hOk hblc hout (by omega) h_21
          rw [e1, show cl (nI base) = base from nI_clamp (by omega), hbl.1] at r4
          cases r4
        refine v_iinc (v := nI (b + 1)) (lv' := [(6, .int (nI (b + 1))), (0, .ref w), (1, .int (nI a)), (2, .int (nI (msk (a :: l) ||| out))), (3, .int (nI len)), (4, .int (nI size)), (5, .int (nI 1))]) O hN dX6_goes_185 6 rfl (nI_add b 1) (by decide) rfl ?_
        refine v_goto (tgt := 3) O dX6_goes_188 (by decide) ?_
        refine v_lv [1, 2, 3, 4, 5, 6, 0] rfl ?_
        exact ih (b + 1) _ _ (by omega) (by omega) hR hfr hF hNt (by rw [show N.1 - b = N.1 - (b + 1) + 1 by omega, fsm_none hno] at h2; exact h2)
      · rw [Nat.testBit_or, Bool.or_eq_false_iff] at h_21
        obtain ⟨h21a, h21b⟩ := h_21
        refine v_aload_n O dX6_goes_24 rfl 0 rfl ?_
        refine v_getf (C := RX6) (T := TX6) (N := 5) (v := .ref (ad 0)) O in_X6 hR.ob rfl 0 (by decide) rfl q1213 rfl dX6_goes_25 ?_
        refine v_iload_n O dX6_goes_28 rfl 1 rfl ?_
        refine v_iload O dX6_goes_29 6 rfl ?_
        refine v_callV (as := [.int (nI a), .int (nI b)]) (rest := []) O (c_X2_isLine hG hNt (by omega) (a := a) (b := b) (by omega) (by omega)) q1242 q281 q282 q75 q283 hob (show vcl[1]? = some (RX2, TX2, 3) from rfl) rfl mdX2_isLine rfl (by decide) (by omega) (by omega) (by omega) (Nat.le_of_ble_eq_true rfl) rfl dX6_goes_31 (fun v9 σ9 hp9 => ?_) (fun _ _ _ h => False.elim h)
        obtain ⟨rfl, hs9⟩ := hp9
        obtain rfl := hs9.symm
        refine v_if_eqB (tgt := 185) O dX6_goes_34 (by decide) (fun h_34 => ?_) (fun h_34 => ?_)
        · have hno : ring2 N size base f (a :: l) b = none := if_neg fun hh => by
            obtain ⟨r1, r2, r3, r4⟩ := ringB_m.mp hh
            rw [r2] at h_34; cases h_34
          refine v_iinc (v := nI (b + 1)) (lv' := [(6, .int (nI (b + 1))), (0, .ref w), (1, .int (nI a)), (2, .int (nI (msk (a :: l) ||| out))), (3, .int (nI len)), (4, .int (nI size)), (5, .int (nI 1))]) O hN dX6_goes_185 6 rfl (nI_add b 1) (by decide) rfl ?_
          refine v_goto (tgt := 3) O dX6_goes_188 (by decide) ?_
          refine v_lv [1, 2, 3, 4, 5, 6, 0] rfl ?_
          exact ih (b + 1) _ _ (by omega) (by omega) hR hfr hF hNt (by rw [show N.1 - b = N.1 - (b + 1) + 1 by omega, fsm_none hno] at h2; exact h2)
        · refine v_aload_n O dX6_goes_37 rfl 0 rfl ?_
          obtain ⟨adN1, IN1, FN1, LN1, hRN1, hn0N1, hwN1, hmN1⟩ := id hNt
          refine v_getf (C := RX6) (T := TX6) (N := 5) (v := .ref (ad 0)) O in_X6 hR.ob rfl 0 (by decide) rfl q1213 rfl dX6_goes_38 ?_
          refine v_getfN (C := RX2) (T := TX2) (N := 3) (v := .ref (adN1 2)) O in_X2 hRN1.ob rfl 2 (by decide) rfl q160 rfl dX6_goes_41 ?_
          refine v_iload_n O dX6_goes_44 rfl 1 rfl ?_
          refine v_iald (f := FN1 2) O (hRN1.ar 2 rfl) (by omega) (by omega) dX6_goes_45 ?_
          refine v_top (y := (N.2.2 a)) (hmN1 a (by omega)) ?_
          refine v_iload O dX6_goes_46 6 rfl ?_
          refine v_icmp_ne (tgt := 54) O dX6_goes_48 (by decide) (fun h_48 => ?_) (fun h_48 => ?_)
          · refine v_aload_n O dX6_goes_54 rfl 0 rfl ?_
            refine v_getf (C := RX6) (T := TX6) (N := 5) (v := .ref (ad 1)) O in_X6 hR.ob rfl 1 (by decide) rfl q1214 rfl dX6_goes_55 ?_
            refine v_iload_n O dX6_goes_58 rfl 3 rfl ?_
            refine v_iload O dX6_goes_59 6 rfl ?_
            refine r_iast (K := layW) O hR 1 rfl (by omega) (by omega) dX6_goes_61 (fun σ2 hR2 hf2 => ?_)
            have hN_3 := hNt.fr hf2 (by simp [hne])
            obtain ⟨wa3, ma3, hob3⟩ := hN_3.ob
            have hrow0 : RowIs (F' 1) (a :: l) := hrow.congr fun j hj => hF j (by omega)
            have hrow2 : RowIs (va_up (F' 1) len (nI b)) (b :: a :: l) := by have h9 := hrow0.put (b := b); rwa [hlen] at h9
            refine v_aload_n O dX6_goes_62 rfl 0 rfl ?_
            obtain ⟨adN4, IN4, FN4, LN4, hRN4, hn0N4, hwN4, hmN4⟩ := id hN_3
            refine v_getf (C := RX6) (T := TX6) (N := 5) (v := .ref (ad 0)) O in_X6 hR2.ob rfl 0 (by decide) rfl q1213 rfl dX6_goes_63 ?_
            refine v_getfN (C := RX2) (T := TX2) (N := 3) (v := .ref (adN4 2)) O in_X2 hRN4.ob rfl 2 (by decide) rfl q160 rfl dX6_goes_66 ?_
            refine v_iload O dX6_goes_69 6 rfl ?_
            refine v_iald (f := FN4 2) O (hRN4.ar 2 rfl) (by omega) (by omega) dX6_goes_71 ?_
            refine v_top (y := (N.2.2 b)) (hmN4 b (by omega)) ?_
            refine v_istore (lv' := [(7, .int (N.2.2 b)), (0, .ref w), (1, .int (nI a)), (2, .int (nI (msk (a :: l) ||| out))), (3, .int (nI len)), (4, .int (nI size)), (5, .int (nI 1)), (6, .int (nI b))]) O hN dX6_goes_72 (by decide) rfl ?_
            refine v_iload O dX6_goes_74 6 rfl ?_
            refine v_if_neN (tgt := 95) O dX6_goes_76 (by decide) (by omega) (fun h_76 => ?_) (fun h_76 => ?_)
            · refine v_iload O dX6_goes_95 0 rfl ?_
              refine v_iconst (v := (-1)) O dX6_goes_97 (by decide) ?_
              refine v_icmp_eq (tgt := 185) O dX6_goes_98 (by decide) (fun h_98 => ?_) (fun h_98 => ?_)
              · have hno : ring2 N size base f (a :: l) b = none := if_neg fun hh => by
                  obtain ⟨r1, r2, r3, r4⟩ := ringB_m.mp hh
                  exact r3 h_98
                refine v_iinc (v := nI (b + 1)) (lv' := [(6, .int (nI (b + 1))), (7, .int (N.2.2 b)), (0, .ref w), (1, .int (nI a)), (2, .int (nI (msk (a :: l) ||| out))), (3, .int (nI len)), (4, .int (nI size)), (5, .int (nI 1))]) O hN dX6_goes_185 7 rfl (nI_add b 1) (by decide) rfl ?_
                refine v_goto (tgt := 3) O dX6_goes_188 (by decide) ?_
                refine v_lv [2, 3, 4, 5, 6, 7, 0] rfl ?_
                exact ih (b + 1) _ _ (by omega) (by omega) hR2 (hfr.trans hf2) (fun j hj => by rw [← hF j hj]; simp [va_up]; intros; omega) hN_3 (by rw [show N.1 - b = N.1 - (b + 1) + 1 by omega, fsm_none hno] at h2; exact h2)
              · obtain ⟨c, hcN, hcI, hcc⟩ := mate_or hOk (b := b) (by omega) h_98
                rw [hcI]
                refine v_iload_n O dX6_goes_101 rfl 3 rfl ?_
                refine v_iload O dX6_goes_102 0 rfl ?_
                refine v_callSN (as := [.int (nI (msk (a :: l) ||| out)), .int (nI c)]) (rest := []) O (c_X1_has hG (s := msk (a :: l) ||| out) (k := c) (by omega) (by omega)) q1241 q271 q72 q272 mdX1_has rfl (by decide) (by omega) (by omega) (by omega) (Nat.le_of_ble_eq_true rfl) rfl dX6_goes_104 (fun v9 σ9 hp9 => ?_) (fun _ _ _ h => False.elim h)
                obtain ⟨rfl, hs9⟩ := hp9
                obtain rfl := hs9.symm
                refine v_if_eqB (tgt := 113) O dX6_goes_107 (by decide) (fun h_107 => ?_) (fun h_107 => ?_)
                · rw [Nat.testBit_or, Bool.or_eq_false_iff] at h_107
                  obtain ⟨h107a, h107b⟩ := h_107
                  have hya : ringB N (a :: l) b = true := ringB_m.mpr ⟨h21a, h_34, h_98, by rw [hcc]; exact h107a⟩
                  have hgo : goM N (a :: l) b = true := by unfold goM; rw [hcc, h107a, hcI, decide_eq_true (nI_ne (by omega))]; rfl
                  have hbc := (goM_lt hOk (b := b) (by omega) hgo).2.2.1
                  rw [hcc] at hbc
                  have hg2 : RgL N (c :: b :: a :: l) := (hg.add hn (by omega) h21a).add hn hcN (by rw [msk, Nat.testBit_or, h107a, Nat.testBit_two_pow, decide_eq_false (Ne.symm hbc)]; rfl)
                  have hrow3 : RowIs (va_up (va_up (F' 1) len (nI b)) (len + 1) (nI c)) (c :: b :: a :: l) := by
                    have h9 := hrow2.put (b := c)
                    rwa [show (b :: a :: l).length = len + 1 by simp only [List.length_cons] at hlen ⊢; omega] at h9
                  refine v_aload_n O dX6_goes_113 rfl 1 rfl ?_
                  refine v_getf (C := RX6) (T := TX6) (N := 5) (v := .ref (ad 1)) O in_X6 hR2.ob rfl 1 (by decide) rfl q1214 rfl dX6_goes_114 ?_
                  refine v_iload_n O dX6_goes_117 rfl 4 rfl ?_
                  refine v_iconst (v := nI 1) O dX6_goes_118 (by decide) ?_
                  refine v_iadd (z := nI (len + 1)) O dX6_goes_119 (nI_add len 1) ?_
                  refine v_iload O dX6_goes_120 0 rfl ?_
                  refine r_iast (K := layW) O hR2 1 rfl (by omega) (by omega) dX6_goes_122 (fun σ5 hR5 hf5 => ?_)
                  have hN_6 := hN_3.fr hf5 (by simp [hne])
                  obtain ⟨wa6, ma6, hob6⟩ := hN_6.ob
                  refine v_iload O dX6_goes_123 6 rfl ?_
                  refine v_if_eqN (tgt := 156) O dX6_goes_125 (by decide) (by omega) (fun h_125 => ?_) (fun h_125 => ?_)
                  · exact absurd h_125 (by omega)
                  · refine v_iload_n O dX6_goes_128 rfl 4 rfl ?_
                    refine v_iconst (v := nI 2) O dX6_goes_129 (by decide) ?_
                    refine v_iadd (z := nI (len + 2)) O dX6_goes_130 (nI_add len 2) ?_
                    refine v_iload O dX6_goes_131 5 rfl ?_
                    refine v_icmp_neN (tgt := 156) O dX6_goes_133 (by decide) (by omega) (by omega) (fun h_133 => ?_) (fun h_133 => ?_)
                    · have h133 : ¬ (c :: b :: a :: l).length = size := by simp only [List.length_cons] at hlen ⊢; omega
                      refine v_aload_n O dX6_goes_156 rfl 1 rfl ?_
                      refine v_iload O dX6_goes_157 0 rfl ?_
                      refine v_iload_n O dX6_goes_159 rfl 3 rfl ?_
                      refine v_iconst (v := nI 1) O dX6_goes_160 (by decide) ?_
                      refine v_iload O dX6_goes_161 7 rfl ?_
                      refine v_ishl (z := nI (2 ^ b)) O dX6_goes_163 (bx_shl1 (by omega)) ?_
                      refine v_ior (z := nI ((msk (a :: l) ||| out) ||| (2 ^ b))) O dX6_goes_164 (bx_or (msk (a :: l) ||| out) (2 ^ b)) ?_
                      refine v_iconst (v := nI 1) O dX6_goes_165 (by decide) ?_
                      refine v_iload O dX6_goes_166 0 rfl ?_
                      refine v_ishl (z := nI (2 ^ c)) O dX6_goes_168 (bx_shl1 (by omega)) ?_
                      refine v_ior (z := nI (((msk (a :: l) ||| out) ||| (2 ^ b)) ||| (2 ^ c))) O dX6_goes_169 (bx_or ((msk (a :: l) ||| out) ||| (2 ^ b)) (2 ^ c)) ?_
                      refine v_iload_n O dX6_goes_170 rfl 4 rfl ?_
                      refine v_iconst (v := nI 2) O dX6_goes_171 (by decide) ?_
                      refine v_iadd (z := nI (len + 2)) O dX6_goes_172 (nI_add len 2) ?_
                      refine v_iload O dX6_goes_173 5 rfl ?_
                      refine v_iload O dX6_goes_175 6 rfl ?_
                      rw [or4, show msk (a :: l) ||| 2 ^ b ||| 2 ^ c ||| out = msk (c :: b :: a :: l) ||| out from rfl]
                      refine v_callV (as := [.int (nI c), .int (nI (msk (c :: b :: a :: l) ||| out)), .int (nI (len + 2)), .int (nI size), .int (nI 1)]) (rest := []) O (hrec hR5 hOk hN_6 hne (a := c) (l := b :: a :: l) (len := len + 2) (size := size) (base := base) (out := out) (f := f - 1) hg2 (by simp only [List.length_cons] at hlen ⊢; omega) (by simpa [va_up] using hrow3) (by omega) hsz (by omega) hsn (by omega) ((up2_lo (y := nI c) (show 0 < len by omega)).trans ((hF 0 (by omega)).trans hb0)) ⟨by rw [msk, msk, Nat.testBit_or, Nat.testBit_or, hbl.1]; rfl, hbl.2⟩ hout (by omega)) q1237 q1239 qs28 q100 q1240 hR5.ob (show vcl[5]? = some (RX6, TX6, 5) from rfl) rfl mdX6_goes rfl (by decide) (by omega) (by omega) (by omega) (Nat.le_of_ble_eq_true rfl) rfl dX6_goes_177 (fun v9 σ8 hp9 => ?_) (fun _ _ _ h => False.elim h)
                      obtain ⟨rfl, F7, hR7, hf7, hF7, hr7⟩ := hp9
                      have hN_9 := hN_6.fr hf7 (by simp [hne])
                      obtain ⟨wa9, ma9, hob9⟩ := hN_9.ob
                      refine v_if_eqB (tgt := 185) O dX6_goes_180 (by decide) (fun h_180 => ?_) (fun h_180 => ?_)
                      · have hno : ring2 N size base f (a :: l) b = none := by unfold ring2; rw [if_pos hya, hcc]; exact isN h_180
                        refine v_iinc (v := nI (b + 1)) (lv' := [(6, .int (nI (b + 1))), (7, .int (nI c)), (0, .ref w), (1, .int (nI a)), (2, .int (nI (msk (a :: l) ||| out))), (3, .int (nI len)), (4, .int (nI size)), (5, .int (nI 1))]) O hN dX6_goes_185 7 rfl (nI_add b 1) (by decide) rfl ?_
                        refine v_goto (tgt := 3) O dX6_goes_188 (by decide) ?_
                        refine v_lv [2, 3, 4, 5, 6, 7, 0] rfl ?_
                        exact ih (b + 1) _ _ (by omega) (by omega) hR7 (hfr.trans ((hf2.trans hf5).trans hf7)) (fun j hj => (hF7 j (by omega)).trans ((up2_lo hj).trans (hF j hj))) hN_9 (by rw [show N.1 - b = N.1 - (b + 1) + 1 by omega, fsm_none hno] at h2; exact h2)
                      · obtain ⟨r, hyr⟩ := isS h_180
                        have hyes : (ring2 N size base f (a :: l)) b = some r := by unfold ring2; rw [if_pos hya, hcc]; exact hyr
                        rw [show N.1 - b = N.1 - (b + 1) + 1 by omega, fsm_some hyes] at h2
                        exact v_lv [1] rfl (kt r 183 h2.symm (.inr rfl) _ _ hR7 (hfr.trans ((hf2.trans hf5).trans hf7)) (fun j hj => (hF7 j (by omega)).trans ((up2_lo hj).trans (hF j hj))) (hr7 r hyr))
                    · have h133 : (c :: b :: a :: l).length = size := by simp only [List.length_cons] at hlen ⊢; omega
                      refine v_aload_n O dX6_goes_136 rfl 1 rfl ?_
                      refine v_getf (C := RX6) (T := TX6) (N := 5) (v := .ref (ad 0)) O in_X6 hR5.ob rfl 0 (by decide) rfl q1213 rfl dX6_goes_137 ?_
                      refine v_iload O dX6_goes_140 0 rfl ?_
                      refine v_aload_n O dX6_goes_142 rfl 1 rfl ?_
                      refine v_getf (C := RX6) (T := TX6) (N := 5) (v := .ref (ad 1)) O in_X6 hR5.ob rfl 1 (by decide) rfl q1214 rfl dX6_goes_143 ?_
                      refine v_iconst (v := nI 0) O dX6_goes_146 (by decide) ?_
                      refine v_iald (f := (va_up ((va_up (F' 1) len (nI b))) (len + 1) (nI c))) O (hR5.ar 1 rfl) (by omega) (by omega) dX6_goes_147 ?_
                      refine v_top (y := nI base) ((up2_lo (show 0 < len by omega)).trans ((hF 0 (by omega)).trans hb0)) ?_
                      refine v_callV (as := [.int (nI c), .int (nI base)]) (rest := []) O (c_X2_isLine hG hN_6 (by omega) (a := c) (b := base) (by omega) (by omega)) q1242 q281 q282 q75 q283 hob6 (show vcl[1]? = some (RX2, TX2, 3) from rfl) rfl mdX2_isLine rfl (by decide) (by omega) (by omega) (by omega) (Nat.le_of_ble_eq_true rfl) rfl dX6_goes_148 (fun v9 σ9 hp9 => ?_) (fun _ _ _ h => False.elim h)
                      obtain ⟨rfl, hs9⟩ := hp9
                      obtain rfl := hs9.symm
                      refine v_if_eqB (tgt := 185) O dX6_goes_151 (by decide) (fun h_151 => ?_) (fun h_151 => ?_)
                      · have hno : ring2 N size base f (a :: l) b = none := by
                          unfold ring2
                          obtain ⟨f2, hf2⟩ : ∃ f2, f - 1 = f2 + 1 := ⟨f - 2, by omega⟩
                          rw [if_pos hya, hcc, hf2, ringF, if_pos h133, if_neg (show ¬ ln N (hd0 (c :: b :: a :: l)) base = true from fun hh => by rw [show ln N c base = true from hh] at h_151; cases h_151)]
                        refine v_iinc (v := nI (b + 1)) (lv' := [(6, .int (nI (b + 1))), (7, .int (nI c)), (0, .ref w), (1, .int (nI a)), (2, .int (nI (msk (a :: l) ||| out))), (3, .int (nI len)), (4, .int (nI size)), (5, .int (nI 1))]) O hN dX6_goes_185 7 rfl (nI_add b 1) (by decide) rfl ?_
                        refine v_goto (tgt := 3) O dX6_goes_188 (by decide) ?_
                        refine v_lv [2, 3, 4, 5, 6, 7, 0] rfl ?_
                        exact ih (b + 1) _ _ (by omega) (by omega) hR5 (hfr.trans (hf2.trans hf5)) (fun j hj => (up2_lo hj).trans (hF j hj)) hN_6 (by rw [show N.1 - b = N.1 - (b + 1) + 1 by omega, fsm_none hno] at h2; exact h2)
                      · have hyes : (ring2 N size base f (a :: l)) b = some (c :: b :: a :: l) := by
                          unfold ring2
                          obtain ⟨f2, hf2⟩ : ∃ f2, f - 1 = f2 + 1 := ⟨f - 2, by omega⟩
                          rw [if_pos hya, hcc, hf2, ringF, if_pos h133, if_pos (show ln N (hd0 (c :: b :: a :: l)) base = true from h_151)]
                        rw [show N.1 - b = N.1 - (b + 1) + 1 by omega, fsm_some hyes] at h2
                        exact v_lv [1] rfl (kt _ 154 h2.symm (.inl rfl) _ _ hR5 (hfr.trans (hf2.trans hf5)) (fun j hj => (up2_lo hj).trans (hF j hj)) (by simpa [va_up] using hrow3))
                · have hno : ring2 N size base f (a :: l) b = none := if_neg fun hh => by
                    obtain ⟨r1, r2, r3, r4⟩ := ringB_m.mp hh
                    rw [hcc] at r4
                    rw [Nat.testBit_or, r4, Bool.false_or] at h_107
                    obtain ⟨e1, e2⟩ := out_no hOk hblc hout hcN h_107
                    obtain ⟨d, hd, e3, e4, -⟩ := hOk.mate (a := b) (by omega) h_98
                    have e5 : d = c := nI_inj (by omega) (by omega) (e3.symm.trans hcI)
                    rw [e5, e1] at e4
                    have e6 : base = b := nI_inj (by omega) (by omega) e4
                    rw [← e6, hbl.1] at h21a
                    cases h21a
                  refine v_goto (tgt := 185) O dX6_goes_110 (by decide) ?_
                  refine v_iinc (v := nI (b + 1)) (lv' := [(6, .int (nI (b + 1))), (7, .int (nI c)), (0, .ref w), (1, .int (nI a)), (2, .int (nI (msk (a :: l) ||| out))), (3, .int (nI len)), (4, .int (nI size)), (5, .int (nI 1))]) O hN dX6_goes_185 7 rfl (nI_add b 1) (by decide) rfl ?_
                  refine v_goto (tgt := 3) O dX6_goes_188 (by decide) ?_
                  refine v_lv [2, 3, 4, 5, 6, 7, 0] rfl ?_
                  exact ih (b + 1) _ _ (by omega) (by omega) hR2 (hfr.trans hf2) (fun j hj => by rw [← hF j hj]; simp [va_up]; intros; omega) hN_3 (by rw [show N.1 - b = N.1 - (b + 1) + 1 by omega, fsm_none hno] at h2; exact h2)
            · exact absurd h_76 (by omega)
          · have hno : ring2 N size base f (a :: l) b = none := if_neg fun hh => by
              obtain ⟨r1, r2, r3, r4⟩ := ringB_m.mp hh
              obtain ⟨d, hd, e1, e2, -⟩ := hOk.mate haN (by rw [h_48]; exact nI_ne (by omega))
              have e3 : d = b := nI_inj (by omega) (by omega) (e1.symm.trans h_48)
              rw [e3] at e2
              rw [e2, show cl (nI a) = a from nI_clamp (by omega), hbm] at r4
              cases r4
            refine v_goto (tgt := 185) O dX6_goes_51 (by decide) ?_
            refine v_iinc (v := nI (b + 1)) (lv' := [(6, .int (nI (b + 1))), (0, .ref w), (1, .int (nI a)), (2, .int (nI (msk (a :: l) ||| out))), (3, .int (nI len)), (4, .int (nI size)), (5, .int (nI 1))]) O hN dX6_goes_185 6 rfl (nI_add b 1) (by decide) rfl ?_
            refine v_goto (tgt := 3) O dX6_goes_188 (by decide) ?_
            refine v_lv [1, 2, 3, 4, 5, 6, 0] rfl ?_
            exact ih (b + 1) _ _ (by omega) (by omega) hR hfr hF hNt (by rw [show N.1 - b = N.1 - (b + 1) + 1 by omega, fsm_none hno] at h2; exact h2)
theorem s_X6_goesR {G : vGC} (hG : vGok G) {k9 : Nat} (hrec : GoRC G k9) {σ : vSt} {w : Nat} {ad : Nat → Nat} {I : Nat → Int32} {F : Nat → Nat → Int32} {L : Nat → Nat → Int64} (hR : RecAt layW σ w ad I F L) {N : NetM} (hOk : okN N) (hNt : NetAt σ (ad 0) N) (hne : ad 0 ≠ w) {a len size base out f : Nat} {l : List Nat} (hg : RgL N (a :: l)) (hlen : (a :: l).length = len) (hrow : RowIs (F 1) (a :: l)) (ho : len % 2 = 1) (hsz : size % 2 = 1) (hls : len < size) (hsn : size ≤ N.1) (hf : 13 ≤ 2 * f + len) (hb0 : F 1 0 = nI base) (hbl : (msk (a :: l)).testBit base = true ∧ base < N.1) (hout : (N.2.2 base = -1 ∧ out = 0) ∨ (N.2.2 base ≠ -1 ∧ out = 2 ^ cl (N.2.2 base))) (hk9 : 12 < len + 2 * (k9 + 1)) : Ct G yX6_goes (ws_ yX6_goes cX6_goes 8 (some .boolean)) (2 + (k9 + 1)) 0 0 σ [.ref w, .int (nI a), .int (nI (msk (a :: l) ||| out)), .int (nI len), .int (nI size), .int (nI 1)] (fun v σ9 => v = some (.int (bI (ringF N size base f (a :: l)).isSome)) ∧ ∃ F' : Nat → Nat → Int32, RecAt layW σ9 w ad I F' L ∧ FrL [w] σ σ9 ∧ (∀ j, j < len → F' 1 j = F 1 j) ∧ ∀ r, ringF N size base f (a :: l) = some r → RowIs (F' 1) r) vNo := by
  refine ct_of hG (by decide) (Nat.le_of_ble_eq_true rfl) fun X hN O hnm htb => ?_
  show V G X _ 0 0 σ 0 [(0, .ref w), (1, .int (nI a)), (2, .int (nI (msk (a :: l) ||| out))), (3, .int (nI len)), (4, .int (nI size)), (5, .int (nI 1))] []
  obtain ⟨wa, ma, hob⟩ := hNt.ob
  have hn := hOk.2.1
  refine v_iconst (v := nI 0) O dX6_goes_0 (by decide) ?_
  refine v_istore (lv' := [(6, .int (nI 0)), (0, .ref w), (1, .int (nI a)), (2, .int (nI (msk (a :: l) ||| out))), (3, .int (nI len)), (4, .int (nI size)), (5, .int (nI 1))]) O hN dX6_goes_1 (by decide) rfl ?_
  refine v_lv [1, 2, 3, 4, 5, 6, 0] rfl ?_
  refine l_X6_goesR hG O hN (by omega) (by omega) (σ0 := σ) (F := F) hOk hne hg hlen hrow ho hsz hls hsn hf hb0 hbl hout hrec hk9 (r0 := ringF N size base f (a :: l)) (fun hr σZ FZ hRZ hfZ hFZ => ?_) (fun r pc hr hpc σZ FZ hRZ hfZ hFZ hZ => ?_) (N.1 + 1) 0 _ _ (by omega) (by omega) hR FrL.rf (fun _ _ => rfl) hNt (by rw [ringF_2 hlen hls, if_neg (by omega)]; rfl)
  · refine v_iconst (v := nI 0) O dX6_goes_191 (by decide) ?_
    exact v_zret (ty := .boolean) O rfl rfl dX6_goes_192 (by omega) (by omega) (⟨by rw [hr]; rfl, FZ, hRZ, hfZ, hFZ, fun r hr2 => by rw [hr] at hr2; cases hr2⟩)
  · rcases hpc with rfl | rfl
    · refine v_iconst (v := nI 1) O dX6_goes_154 (by decide) ?_
      exact v_zret (ty := .boolean) O rfl rfl dX6_goes_155 (by omega) (by omega) (⟨by rw [hr]; rfl, FZ, hRZ, hfZ, hFZ, fun r2 hr2 => by rw [hr] at hr2; cases hr2; exact hZ⟩)
    · refine v_iconst (v := nI 1) O dX6_goes_183 (by decide) ?_
      exact v_zret (ty := .boolean) O rfl rfl dX6_goes_184 (by omega) (by omega) (⟨by rw [hr]; rfl, FZ, hRZ, hfZ, hFZ, fun r2 hr2 => by rw [hr] at hr2; cases hr2; exact hZ⟩)
theorem c_X6_goesR {G : vGC} (hG : vGok G) (k : Nat) : GoRC G k := by
  induction k with
  | zero =>
    intro σ w ad I F L hR N hOk hNt hne a len size base out f l hg hlen hrow ho hsz hls hsn hf hb0 hbl hout hk
    have := (hg.lt hOk.2.1).2
    omega
  | succ k ih => intro σ w ad I F L hR N hOk hNt hne a len size base out f l hg hlen hrow ho hsz hls hsn hf hb0 hbl hout hk; exact s_X6_goesR hG ih hR hOk hNt hne hg hlen hrow ho hsz hls hsn hf hb0 hbl hout hk
