def K22 (m0 m : MS) : Prop := (∀ k, k < 28 → m.2.1 13 k = m0.2.1 10 (10 + k)) ∧ (∀ i, i < 10 ∨ 38 ≤ i → m.2.1 10 i = m0.2.1 10 i) ∧ (∀ j, j = 1 ∨ j = 2 ∨ j = 4 ∨ j = 5 ∨ j = 12 ∨ j = 18 ∨ j = 19 ∨ j = 20 ∨ j = 21 → m.2.1 j = m0.2.1 j) ∧ ∀ k, k ≠ 19 → k ≠ 22 → k ≠ 26 → k ≠ 28 → k ≠ 29 → k ≠ 34 → m.1 k = m0.1 k
theorem K22_set {m0 m : MS} (h : K22 m0 m) (v : Int32) : KM (mF m0 22 v) (mF m 22 v) := ⟨h.1, h.2.1, h.2.2.1, fun k a b c e f => by
  by_cases z : k = 22
  · subst z; rw [mF_s, mF_s]
  · rw [mF_n _ _ _ _ z, mF_n _ _ _ _ z]; exact h.2.2.2 k a z b c e f⟩
theorem KM_22 {m0 m : MS} {v : Int32} (h : KM (mF m0 22 v) m) : K22 m0 m := ⟨h.1, h.2.1, h.2.2.1, fun k a z b c e f => by rw [h.2.2.2 k a b c e f, mF_n _ _ _ _ z]⟩
theorem K22_end {m0 m : MS} (h : K22 m0 m) : KM m0 (mF m 22 (m0.1 22)) := ⟨h.1, h.2.1, h.2.2.1, fun k a b c e f => by
  by_cases z : k = 22
  · subst z; rw [mF_s]
  · rw [mF_n _ _ _ _ z]; exact h.2.2.2 k a z b c e f⟩
theorem K22_j {m0 m : MS} (h : K22 m0 m) (j i : Nat) (v : Int32) (hj : j = 16 ∨ j = 17) : K22 m0 (mA m j i v) := ⟨fun k hk => by rw [show (mA m j i v).2.1 13 = m.2.1 13 from mA_o _ _ _ _ _ (by omega)]; exact h.1 k hk, fun k hk => by rw [show (mA m j i v).2.1 10 = m.2.1 10 from mA_o _ _ _ _ _ (by omega)]; exact h.2.1 k hk, fun k hk => by rw [show (mA m j i v).2.1 k = m.2.1 k from mA_o _ _ _ _ _ (by omega)]; exact h.2.2.1 k hk, h.2.2.2⟩
theorem KM_17 {m0 m : MS} (h : KM m0 m) (i : Nat) (v : Int32) : KM m0 (mA m 17 i v) := ⟨fun k hk => by rw [show (mA m 17 i v).2.1 13 = m.2.1 13 from mA_o _ _ _ _ _ (by omega)]; exact h.1 k hk, fun k hk => by rw [show (mA m 17 i v).2.1 10 = m.2.1 10 from mA_o _ _ _ _ _ (by omega)]; exact h.2.1 k hk, fun k hk => by rw [show (mA m 17 i v).2.1 k = m.2.1 k from mA_o _ _ _ _ _ (by omega)]; exact h.2.2.1 k hk, h.2.2.2⟩
theorem M_spot (k : Nat) (h : AH) (a b : Nat) : callR (k + 1) n_X4_spot [.int (nI a), .int (nI b)] h = some (.inl (some (.int (nI (61 * a + b)))), h) := by
  simp (disch := omega) only [e_X4_spot_0, c_X4_spot, cond_true, cond_false, Option.bind_some, rI_s, rL_s, rR_s, rV_s, cnd_d, cnd_ne, cnd_eq, bI_d0, bI_t0, ite_not, decide_eq_false_iff_not, decide_eq_true_eq, lg_cmp_ge, lg_cmp_le, lg_cmp_gt, lg_cmp_lt, lg_cmp_eq, okb_1, okb_0, okb_b, eq_self, if_true, if_false, Bool.true_eq_false, Bool.false_eq_true, li_61, pk_mul, nI_add]
/-- rows of places: those of rules below r, that of r up to i -/
def Rw (c : Nat → Nat → Nat) (r i : Nat) (m : MS) : Prop := (∀ r', r' < r → ∀ n, n < 61 → m.2.1 17 (61 * r' + n) = nI (c r' n)) ∧ ∀ n, n < i → m.2.1 17 (61 * r + n) = nI (c r n)
theorem M_crsL (k : Nat) (d : AH) (x : XS) (C : AC) (r0 : Nat) (h0 : r0 ≤ 6) (F : Nat → (Nat → Int64) → Int64) (sd : Nat → Int32) (c : Nat → Nat → Nat) (hc : ∀ n, c r0 n = crs (CW C (pr r0) F none) sd n) (was : Int32) (m0 : MS) (hW : WA (CW C (pr r0) F none) (begA sd)) : ∀ (r i : Nat) (m : MS), i + r = 61 → VC (CW C (pr r0) F none) m → KM m0 m → VA (CW C (pr r0) F none) (itA (CW C (pr r0) F none) i (begA sd)) m → Rw c r0 i m → ∃ m', evR T_X4_fillsFits (callR (k + 7)) 32 ([(0, .ref 153), (1, .int was), (2, .int (nI r0)), (3, .int (nI i))], [], P d x m) = evR T_X4_fillsFits (callR (k + 7)) 66 ([(0, .ref 153), (1, .int was), (2, .int (nI r0))], [], P d x m') ∧ KM m0 m' ∧ Rw c r0 61 m' ∧ m'.2.1 16 = m.2.1 16
  | 0, i, m, hi, hC, hk, hA, hR => by
    have e : i = 61 := by omega
    subst e
    refine ⟨m, ?_, hk, hR, rfl⟩
    rw [e_X4_fillsFits_32]
    simp (disch := omega) only [cond_true, cond_false, Option.bind_some, rI_s, rL_s, rR_s, rV_s, cnd_d, cnd_ne, cnd_eq, bI_d0, bI_t0, ite_not, decide_eq_false_iff_not, decide_eq_true_eq, lg_cmp_ge, lg_cmp_le, lg_cmp_gt, lg_cmp_lt, lg_cmp_eq, okb_1, okb_0, okb_b, eq_self, if_true, if_false, Bool.true_eq_false, Bool.false_eq_true, show ((60 : Int32) < nI 61) = True from eq_true (by decide)]
  | r + 1, i, m, hi, hC, hk, hA, hR => by
    have hW1 := WA_it i hW
    have l1 : ldI (P d x m) 163 0 (11 : Int32) = some (nI (c r0 i)) := by rw [hc, show nI (crs (CW C (pr r0) F none) sd i) = m.2.1 10 11 from hA.2.2.1.symm]; exact lm_10 d x m 11 (by omega)
    have e17 : (mA m 17 (61 * r0 + i) (nI (c r0 i))).2.1 10 = m.2.1 10 := mA_o _ _ _ _ _ (by omega)
    have hVC17 : VC (CW C (pr r0) F none) (mA m 17 (61 * r0 + i) (nI (c r0 i))) := VC_e hC rfl fun j hj => mA_o _ _ _ _ _ (by omega)
    obtain ⟨m1, e1, f1, -, v1⟩ := M_passes k d x (mA m 17 (61 * r0 + i) (nI (c r0 i))) (CW C (pr r0) F none) _ hW1 hVC17 (VA_e hA rfl e17)
    rw [← it_succ] at v1
    have h17 : ∀ z, m1.2.1 17 z = (mA m 17 (61 * r0 + i) (nI (c r0 i))).2.1 17 z := fun z => by rw [f1.1 17 (by omega)]
    have hu : ∀ z v j, (mA m 17 z v).2.1 17 j = if j = z then v else m.2.1 17 j := fun z v j => by simp [mA, va_up]
    obtain ⟨m3, e3, k3, r3, g3⟩ := M_crsL k d x C r0 h0 F sd c hc was m0 hW r (i + 1) m1 (by omega) (VC_fr hVC17 f1) (KM_fr (KM_17 hk _ _) f1) v1 ⟨fun r' hr' n hn => by
      rw [h17, hu, if_neg (by omega)]; exact hR.1 r' hr' n hn, fun n hn => by
      rw [h17, hu]
      by_cases z : n = i
      · rw [z, if_pos rfl]
      · rw [if_neg (by omega)]; exact hR.2 n (by omega)⟩
    refine ⟨m3, ?_, k3, r3, by rw [g3, f1.1 16 (by omega)]; exact mA_o _ _ _ _ _ (by omega)⟩
    have hlt : ((60 : Int32) < nI i) = False := eq_false (by rw [show (60 : Int32) = nI 60 from rfl, nI_ltP (by omega) (by omega)]; omega)
    rw [← e3, e_X4_fillsFits_32]
    simp (disch := omega) only [e_X4_fillsFits_38, cond_true, cond_false, Option.bind_some, rI_s, rL_s, rR_s, rV_s, cnd_d, cnd_ne, cnd_eq, bI_d0, bI_t0, ite_not, decide_eq_false_iff_not, decide_eq_true_eq, lg_cmp_ge, lg_cmp_le, lg_cmp_gt, lg_cmp_lt, lg_cmp_eq, okb_1, okb_0, okb_b, eq_self, if_true, if_false, Bool.true_eq_false, Bool.false_eq_true, hlt, M_spot, rm_37, rm_21, l1, sm_17, e1, nI_1]
theorem M_areNotesSo (k : Nat) (d : AH) (x : XS) (m : MS) (c : Nat → Nat) (r0 : Nat) (h0 : r0 ≤ 6) (w : Nat → Nat) (q : Nat → Int32) (n : Nat) (hn : n ≤ 10) (h131 : m.2.1 10 131 = nI n) (hc : ∀ j, j < 61 → m.2.1 17 (61 * r0 + j) = nI (c j)) (hw : ∀ i, i < n → w i ≤ 60 ∧ m.2.1 10 (111 + 2 * i) = nI (w i)) (hq : ∀ i, i < n → m.2.1 10 (112 + 2 * i) = q i) : callR (k + 2) n_X4_areNotesSo [.ref 153, .int (nI r0)] (P d x m) = some (.inl (some (.int (bI (ntB c w q n 0)))), P d x m) := by
  have loop : ∀ r i : Nat, i + r = n → evR T_X4_areNotesSo (callR (k + 1)) 2 ([(0, .ref 153), (1, .int (nI r0)), (2, .int (nI (2 * i)))], [], P d x m) = some (.inl (some (.int (bI (ntB c w q r i)))), P d x m) := by
    intro r
    induction r with
    | zero =>
      intro i hi
      have e : i = n := by omega
      subst e
      rw [e_X4_areNotesSo_2]
      simp (disch := omega) only [e_X4_areNotesSo_56, cond_true, cond_false, Option.bind_some, rI_s, rL_s, rR_s, rV_s, cnd_d, cnd_ne, cnd_eq, bI_d0, bI_t0, ite_not, decide_eq_false_iff_not, decide_eq_true_eq, lg_cmp_ge, lg_cmp_le, lg_cmp_gt, lg_cmp_lt, lg_cmp_eq, okb_1, okb_0, okb_b, eq_self, if_true, if_false, Bool.true_eq_false, Bool.false_eq_true, li_131, li_2, rm_21, lm_10, h131, pk_mul, le_rT]
      rfl
    | succ r ih =>
      intro i hi
      have hr := ih (i + 1) (by omega)
      obtain ⟨w1, w2⟩ := hw i (by omega)
      have hu : ntB c w q (r + 1) i = if nI (c (w i)) = q i then ntB c w q r (i + 1) else false := rfl
      have e1 : nI (2 * i) + 2 = nI (2 * (i + 1)) := by rw [show (2 : Int32) = nI 2 from rfl, nI_add]; rfl
      have e2 : (111 : Int32) + nI (2 * i) = nI (111 + 2 * i) := nI_add 111 (2 * i)
      have e3 : nI (111 + 2 * i) + 1 = nI (112 + 2 * i) := by rw [nI_1, show 111 + 2 * i + 1 = 112 + 2 * i by omega]
      have e4 : (2 : Int32) * nI n = nI (2 * n) := pk_mul 2 n
      have l1 : ldI (P d x m) 163 0 (nI (111 + 2 * i)) = some (nI (w i)) := by rw [← w2]; exact lm_10 d x m _ (by omega)
      have l2 : ldI (P d x m) 163 0 (nI (112 + 2 * i)) = some (q i) := by rw [← hq i (by omega)]; exact lm_10 d x m _ (by omega)
      have l3 : ldI (P d x m) 170 0 (nI (61 * r0 + w i)) = some (nI (c (w i))) := by rw [← hc _ (by omega)]; exact lm_17 d x m _ (by omega)
      rw [hu, e_X4_areNotesSo_2]
      by_cases z : nI (c (w i)) = q i
      · rw [if_pos z, ← hr]
        simp (disch := omega) only [e_X4_areNotesSo_16, e_X4_areNotesSo_50, cond_true, cond_false, Option.bind_some, rI_s, rL_s, rR_s, rV_s, cnd_d, cnd_ne, cnd_eq, bI_d0, bI_t0, ite_not, decide_eq_false_iff_not, decide_eq_true_eq, lg_cmp_ge, lg_cmp_le, lg_cmp_gt, lg_cmp_lt, lg_cmp_eq, okb_1, okb_0, okb_b, eq_self, if_true, if_false, Bool.true_eq_false, Bool.false_eq_true, li_131, rm_21, rm_37, lm_10 d x m 131, h131, e4, nI_leP, if_neg (show ¬ 2 * n ≤ 2 * i by omega), e2, e3, l1, l2, M_spot, l3, z, e1]
      · rw [if_neg z]
        simp (disch := omega) only [e_X4_areNotesSo_16, e_X4_areNotesSo_48, cond_true, cond_false, Option.bind_some, rI_s, rL_s, rR_s, rV_s, cnd_d, cnd_ne, cnd_eq, bI_d0, bI_t0, ite_not, decide_eq_false_iff_not, decide_eq_true_eq, lg_cmp_ge, lg_cmp_le, lg_cmp_gt, lg_cmp_lt, lg_cmp_eq, okb_1, okb_0, okb_b, eq_self, if_true, if_false, Bool.true_eq_false, Bool.false_eq_true, li_131, rm_21, rm_37, lm_10 d x m 131, h131, e4, nI_leP, if_neg (show ¬ 2 * n ≤ 2 * i by omega), e2, e3, l1, l2, M_spot, l3, z]
        rfl
  have := loop n 0 (by omega)
  rw [Nat.mul_zero, nI_0] at this
  simp (disch := omega) only [c_X4_areNotesSo, e_X4_areNotesSo_0, cond_true, cond_false, Option.bind_some, rI_s, rL_s, rR_s, rV_s, cnd_d, cnd_ne, cnd_eq, bI_d0, bI_t0, ite_not, decide_eq_false_iff_not, decide_eq_true_eq, lg_cmp_ge, lg_cmp_le, lg_cmp_gt, lg_cmp_lt, lg_cmp_eq, okb_1, okb_0, okb_b, eq_self, if_true, if_false, Bool.true_eq_false, Bool.false_eq_true, isO_M, this]
theorem M_fitsL (k : Nat) (d : AH) (x : XS) (C : AC) (h6 : C.1 ≤ 6) (F : Nat → (Nat → Int64) → Int64) (nr : Nat) (hnr : nr ≤ 6) (m0 : MS) (h2 : m0.1 2 = nI nr) (hC : ∀ r, r ≤ nr → VC (CW C (pr r) F none) (mF m0 22 (oI (pr r)))) (h27 : m0.1 27 = 0) (hW : ∀ r, WA (CW C (pr r) F none) (begA (m0.2.1 10))) (w : Nat → Nat) (q : Nat → Int32) (n : Nat) (hn : n ≤ 10) (h131 : m0.2.1 10 131 = nI n) (hw : ∀ i, i < n → w i ≤ 60 ∧ m0.2.1 10 (111 + 2 * i) = nI (w i)) (hq : ∀ i, i < n → m0.2.1 10 (112 + 2 * i) = q i) (was : Int32) : ∀ (r i : Nat) (m : MS), i + r = nr + 1 → K22 m0 m → Rw (fun r n => crs (CW C (pr r) F none) (m0.2.1 10) n) i 0 m → (∀ j, j < i → m.2.1 16 j = bI (ntB (crs (CW C (pr j) F none) (m0.2.1 10)) w q n 0)) → ∃ m', evR T_X4_fillsFits (callR (k + 7)) 11 ([(0, .ref 153), (1, .int was), (2, .int (nI i))], [], P d x m) = evR T_X4_fillsFits (callR (k + 7)) 83 ([(0, .ref 153), (1, .int was)], [], P d x m') ∧ K22 m0 m' ∧ Rw (fun r n => crs (CW C (pr r) F none) (m0.2.1 10) n) (nr + 1) 0 m' ∧ (∀ j, j < nr + 1 → m'.2.1 16 j = bI (ntB (crs (CW C (pr j) F none) (m0.2.1 10)) w q n 0))
  | 0, i, m, hi, hk, hR, hB => by
    have e : i = nr + 1 := by omega
    subst e
    have h2m : m.1 2 = nI nr := by rw [hk.2.2.2 2 (by omega) (by omega) (by omega) (by omega) (by omega) (by omega)]; exact h2
    refine ⟨m, ?_, hk, hR, hB⟩
    rw [e_X4_fillsFits_11]
    simp (disch := omega) only [cond_true, cond_false, Option.bind_some, rI_s, rL_s, rR_s, rV_s, cnd_d, cnd_ne, cnd_eq, bI_d0, bI_t0, ite_not, decide_eq_false_iff_not, decide_eq_true_eq, lg_cmp_ge, lg_cmp_le, lg_cmp_gt, lg_cmp_lt, lg_cmp_eq, okb_1, okb_0, okb_b, eq_self, if_true, if_false, Bool.true_eq_false, Bool.false_eq_true, rm_2, h2m, nI_ltP, show nr < nr + 1 by omega]
  | r + 1, i, m, hi, hk, hR, hB => by
    have hi7 : i ≤ nr := by omega
    have h2m : m.1 2 = nI nr := by rw [hk.2.2.2 2 (by omega) (by omega) (by omega) (by omega) (by omega) (by omega)]; exact h2
    have hk1 := K22_set hk (oI (pr i))
    have hC1 := KM_VC hk1 (hC i hi7)
    obtain ⟨m1, e1, f1, z1, v1⟩ := M_begins (k + 6) d x (mF m 22 (oI (pr i))) C h6
    have hk2 := KM_fr hk1 f1
    have hA1 : VAs C (begA (m0.2.1 10)) (m1.2.1 10) := by
      have e : begA ((mF m 22 (oI (pr i))).2.1 10) = begA (m0.2.1 10) := by
        unfold begA
        have e1 : ∀ j, 38 ≤ j → (mF m 22 (oI (pr i))).2.1 10 j = m0.2.1 10 j := fun j hj => hk.2.1 j (by omega)
        refine Prod.ext ?_ (Prod.ext ?_ rfl)
        · funext j h
          show (if j = 0 then _ else if j = 1 then _ else if j = 2 then _ else _) = (if j = 0 then _ else if j = 1 then _ else if j = 2 then _ else _)
          rw [e1 _ (by omega), e1 _ (by omega), e1 _ (by omega)]
        · funext j
          show (if j = 2 then _ else _) = (if j = 2 then _ else _)
          rw [show (mF m 22 (oI (pr i))).2.1 10 1 = m0.2.1 10 1 from hk.2.1 1 (by omega)]
      rw [← e]
      exact v1
    have hA2 : VA (CW C (pr i) F none) (begA (m0.2.1 10)) m1 := Rel_VA hA1 (by rw [z1, mF_n _ _ _ _ (by omega), hk.2.2.2 27 (by omega) (by omega) (by omega) (by omega) (by omega) (by omega)]; exact h27)
    have h17 : m1.2.1 17 = m.2.1 17 := by rw [f1.1 17 (by omega)]; rfl
    have h16 : m1.2.1 16 = m.2.1 16 := by rw [f1.1 16 (by omega)]; rfl
    obtain ⟨m2, e2, k2, r2, g2⟩ := M_crsL k d x C i (by omega) F (m0.2.1 10) (fun r n => crs (CW C (pr r) F none) (m0.2.1 10) n) (fun n => rfl) was (mF m0 22 (oI (pr i))) (hW i) 61 0 m1 (by omega) (VC_fr hC1 f1) hk2 hA2 ⟨fun r' hr' n hn => by rw [h17]; exact hR.1 r' hr' n hn, fun n hn => absurd hn (by omega)⟩
    have k2' := KM_22 k2
    have e3 := M_areNotesSo (k + 5) d x m2 (crs (CW C (pr i) F none) (m0.2.1 10)) i (by omega) w q n hn (by rw [k2.2.1 131 (by omega)]; exact h131) (fun j hj => r2.2 j hj) (fun j hj => by rw [k2.2.1 _ (by omega)]; exact hw j hj) (fun j hj => by rw [k2.2.1 _ (by omega)]; exact hq j hj)
    obtain ⟨m4, e4, k4, r4, b4⟩ := M_fitsL k d x C h6 F nr hnr m0 h2 hC h27 hW w q n hn h131 hw hq was r (i + 1) (mA m2 16 i (bI (ntB (crs (CW C (pr i) F none) (m0.2.1 10)) w q n 0))) (by omega) (K22_j k2' _ _ _ (by omega)) ⟨fun r' hr' n hn => by
      rw [mA_o m2 16 i _ 17 (by omega)]
      by_cases z : r' = i
      · subst z; exact r2.2 n hn
      · exact r2.1 r' (by omega) n hn, fun n hn => absurd hn (by omega)⟩ (fun j hj => by
      have hu : ∀ z v j, (mA m2 16 z v).2.1 16 j = if j = z then v else m2.2.1 16 j := fun z v j => by simp [mA, va_up]
      rw [hu]
      by_cases z : j = i
      · rw [if_pos z, z]
      · rw [if_neg z, g2, h16]; exact hB j (by omega))
    refine ⟨m4, ?_, k4, r4, b4⟩
    have hnb : ∀ b : Bool, vp_nar .boolean (bI b) = bI b := fun b => by cases b <;> rfl
    rw [nI_0] at e2
    rw [← e4, e_X4_fillsFits_11]
    simp (disch := omega) only [e_X4_fillsFits_19, cond_true, cond_false, Option.bind_some, rI_s, rL_s, rR_s, rV_s, cnd_d, cnd_ne, cnd_eq, bI_d0, bI_t0, ite_not, decide_eq_false_iff_not, decide_eq_true_eq, lg_cmp_ge, lg_cmp_le, lg_cmp_gt, lg_cmp_lt, lg_cmp_eq, okb_1, okb_0, okb_b, eq_self, if_true, if_false, Bool.true_eq_false, Bool.false_eq_true, rm_2, h2m, nI_ltP, if_neg (show ¬ nr < i by omega), pr_p, wm_22, e1, e2]
    rw [e_X4_fillsFits_66]
    simp (disch := omega) only [cond_true, cond_false, Option.bind_some, rI_s, rL_s, rR_s, rV_s, cnd_d, cnd_ne, cnd_eq, bI_d0, bI_t0, ite_not, decide_eq_false_iff_not, decide_eq_true_eq, lg_cmp_ge, lg_cmp_le, lg_cmp_gt, lg_cmp_lt, lg_cmp_eq, okb_1, okb_0, okb_b, eq_self, if_true, if_false, Bool.true_eq_false, Bool.false_eq_true, rm_36, e3, hnb, sm_16, nI_1]
theorem M_fillsFits (k : Nat) (d : AH) (x : XS) (C : AC) (h6 : C.1 ≤ 6) (F : Nat → (Nat → Int64) → Int64) (nr : Nat) (hnr : nr ≤ 6) (m0 : MS) (h2 : m0.1 2 = nI nr) (hC : ∀ r, r ≤ nr → VC (CW C (pr r) F none) (mF m0 22 (oI (pr r)))) (h27 : m0.1 27 = 0) (hW : ∀ r, WA (CW C (pr r) F none) (begA (m0.2.1 10))) (w : Nat → Nat) (q : Nat → Int32) (n : Nat) (hn : n ≤ 10) (h131 : m0.2.1 10 131 = nI n) (hw : ∀ i, i < n → w i ≤ 60 ∧ m0.2.1 10 (111 + 2 * i) = nI (w i)) (hq : ∀ i, i < n → m0.2.1 10 (112 + 2 * i) = q i) : ∃ m', callR (k + 8) n_X4_fillsFits [.ref 153] (P d x m0) = some (.inl none, P d x m') ∧ KM m0 m' ∧ m'.2.1 10 = m0.2.1 10 ∧ (∀ r, r < nr + 1 → ∀ n, n < 61 → m'.2.1 17 (61 * r + n) = nI (crs (CW C (pr r) F none) (m0.2.1 10) n)) ∧ (∀ j, j < nr + 1 → m'.2.1 16 j = bI (ntB (crs (CW C (pr j) F none) (m0.2.1 10)) w q n 0)) := by
  obtain ⟨m1, g1, q1⟩ := M_keeps (k + 6) d x m0
  obtain ⟨km, ke⟩ := KM_keep q1
  have k1 : K22 m0 m1 := ⟨km.1, km.2.1, km.2.2.1, fun k a z b c e f => km.2.2.2 k a b c e f⟩
  obtain ⟨m2, e2, k2, r2, b2⟩ := M_fitsL k d x C h6 F nr hnr m0 h2 hC h27 hW w q n hn h131 hw hq (m0.1 22) (nr + 1) 0 m1 (by omega) k1 ⟨fun r' hr' => absurd hr' (by omega), fun n hn => absurd hn (by omega)⟩ (fun j hj => absurd hj (by omega))
  have k3 := K22_end k2
  obtain ⟨m3, g3, q3⟩ := M_laysBack (k + 6) d x (mF m2 22 (m0.1 22))
  obtain ⟨k4, he4⟩ := KM_back k3 q3
  refine ⟨m3, ?_, k4, he4, fun r hr n hn => by rw [q3.2.2.1 17 (by omega)]; exact r2.1 r hr n hn, fun j hj => by rw [q3.2.2.1 16 (by omega)]; exact b2 j hj⟩
  rw [nI_0] at e2
  simp (disch := omega) only [c_X4_fillsFits, e_X4_fillsFits_0, cond_true, cond_false, Option.bind_some, rI_s, rL_s, rR_s, rV_s, cnd_d, cnd_ne, cnd_eq, bI_d0, bI_t0, ite_not, decide_eq_false_iff_not, decide_eq_true_eq, lg_cmp_ge, lg_cmp_le, lg_cmp_gt, lg_cmp_lt, lg_cmp_eq, okb_1, okb_0, okb_b, eq_self, if_true, if_false, Bool.true_eq_false, Bool.false_eq_true, isO_M, rm_22, g1, e2]
  rw [e_X4_fillsFits_83]
  simp (disch := omega) only [cond_true, cond_false, Option.bind_some, rI_s, rL_s, rR_s, rV_s, cnd_d, cnd_ne, cnd_eq, bI_d0, bI_t0, ite_not, decide_eq_false_iff_not, decide_eq_true_eq, lg_cmp_ge, lg_cmp_le, lg_cmp_gt, lg_cmp_lt, lg_cmp_eq, okb_1, okb_0, okb_b, eq_self, if_true, if_false, Bool.true_eq_false, Bool.false_eq_true, wm_22, g3]
