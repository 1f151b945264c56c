theorem mA_15 (m : MS) (i : Nat) (v : Int32) (j : Nat) (h : j ≠ 15) : (mA m 15 i v).2.1 j = m.2.1 j := va_up_ne _ _ h
theorem mA_15s (m : MS) (i : Nat) (v : Int32) : (mA m 15 i v).2.1 15 i = v := by simp [mA, va_up_self]
theorem mA_15n (m : MS) (i : Nat) (v : Int32) (j : Nat) (h : j ≠ i) : (mA m 15 i v).2.1 15 j = m.2.1 15 j := by simp [mA, va_up_self, va_up_ne _ _ h]
theorem KM_15 {m0 m : MS} (h : KM m0 m) (i : Nat) (v : Int32) : KM m0 (mA m 15 i v) := ⟨fun k hk => by rw [mA_15 _ _ _ _ (by omega)]; exact h.1 k hk, fun j hj => by rw [mA_15 _ _ _ _ (by omega)]; exact h.2.1 j hj, fun j hj => by rw [mA_15 _ _ _ _ (by omega)]; exact h.2.2.1 j hj, fun k a b c e f => by rw [show (mA m 15 i v).1 = m.1 from rfl]; exact h.2.2.2 k a b c e f⟩
theorem M_laysL (k : Nat) (d : AH) (x : XS) (C : AC) (fo : Option Nat) (F : Nat → (Nat → Int64) → Int64) (n : Nat) (hn : n ≤ 60) (h6 : C.1 ≤ 6) (A : AA) (hW : WA (CW C fo F none) A) (m0 : MS) (hC : VC (CW C fo F none) m0) (hA : VA (CW C fo F none) A m0) (p q : Nat) (hp : p < C.1) (hq : q < C.1) (w : Int32) : ∀ (r i : Nat) (m : MS), i + r = 25 → KM m0 m → m.2.1 10 = m0.2.1 10 → (∀ j, j < i → m.2.1 15 (2 * j) = rs1 (CW C fo F none) A p q n j ∧ m.2.1 15 (2 * j + 1) = rs2 (CW C fo F none) A p q n j) → ∃ m', evR T_X4_rests (callR (k + 8)) 55 ([(0, .ref 153), (1, .int (nI p)), (2, .int (nI q)), (3, .int (nI n)), (4, .int w), (5, .int (nI i))], [], P d x m) = evR T_X4_rests (callR (k + 8)) 155 ([(0, .ref 153), (4, .int w)], [], P d x m') ∧ KM m0 m' ∧ m'.2.1 10 = m0.2.1 10 ∧ ∀ j, j < 25 → m'.2.1 15 (2 * j) = rs1 (CW C fo F none) A p q n j ∧ m'.2.1 15 (2 * j + 1) = rs2 (CW C fo F none) A p q n j
  | 0, i, m, hi, hk, he, hr => by
    have e : i = 25 := by omega
    subst e
    refine ⟨m, ?_, hk, he, hr⟩
    rw [e_X4_rests_55]
    simp (disch := omega) only [cond_true, cond_false, Option.bind_some, rI_s, rL_s, rR_s, rV_s, cnd_d, cnd_ne, cnd_eq, bI_d0, bI_t0, ite_not, decide_eq_false_iff_not, decide_eq_true_eq, lg_cmp_ge, lg_cmp_le, lg_cmp_gt, lg_cmp_lt, lg_cmp_eq, okb_1, okb_0, okb_b, eq_self, if_true, if_false, Bool.true_eq_false, Bool.false_eq_true, li_25, le_rT]
  | r + 1, i, m, hi, hk, he, hr => by
    have hA1 := VA_says (VA_says (KM_VA hk he hA) p hp h6 (5 * nI (i / 5))) q hq h6 (5 * nI (i % 5))
    have hf := Fr_trans (mA_Fr m (14 + 4 * p + 2) (5 * nI (i / 5)) (by omega)) (mA_Fr (mA m 10 (14 + 4 * p + 2) (5 * nI (i / 5))) (14 + 4 * q + 2) (5 * nI (i % 5)) (by omega))
    have hk1 := KM_fr hk hf
    have hC1 := VC_fr (KM_VC hk hC) hf
    have wc : WA (CW C fo F none) (rsA A p q i) := WA_says (WA_says hW p _) q _
    obtain ⟨m1, e1, f1, v1⟩ := M_passesAll k d x (CW C fo F none) n (by omega) (rsA A p q i) _ wc hC1 hA1
    have k1 := KM_fr hk1 f1
    have w1 : callR (k + 8) n_X4_worthOf [.ref 153, .int (nI p)] (P d x m1) = some (.inl (some (.int ((itA (CW C fo F none) n (rsA A p q i)).1 0 p))), P d x m1) := by rw [M_worthOf (k + 7) d x m1 p (by omega), (v1.1 p hp).1]
    have w2 : callR (k + 8) n_X4_worthOf [.ref 153, .int (nI q)] (P d x (mA m1 15 (2 * i) (rs1 (CW C fo F none) A p q n i))) = some (.inl (some (.int ((itA (CW C fo F none) n (rsA A p q i)).1 0 q))), P d x (mA m1 15 (2 * i) (rs1 (CW C fo F none) A p q n i))) := by rw [M_worthOf (k + 7) d x _ q (by omega), mA_15 _ _ _ _ (by omega), (v1.1 q hq).1]
    have s1 : stI (P d x m1) 168 0 (nI (2 * i)) ((itA (CW C fo F none) n (rsA A p q i)).1 0 p - nI (i / 5)) = some (P d x (mA m1 15 (2 * i) (rs1 (CW C fo F none) A p q n i))) := sm_15 d x m1 _ _ (by omega)
    have s2 : stI (P d x (mA m1 15 (2 * i) (rs1 (CW C fo F none) A p q n i))) 168 0 (nI (2 * i + 1)) ((itA (CW C fo F none) n (rsA A p q i)).1 0 q - nI (i % 5)) = some (P d x (mA (mA m1 15 (2 * i) (rs1 (CW C fo F none) A p q n i)) 15 (2 * i + 1) (rs2 (CW C fo F none) A p q n i))) := sm_15 d x _ _ _ (by omega)
    obtain ⟨m2, e2, q2⟩ := M_laysBack (k + 7) d x (mA (mA m1 15 (2 * i) (rs1 (CW C fo F none) A p q n i)) 15 (2 * i + 1) (rs2 (CW C fo F none) A p q n i))
    obtain ⟨k2, he2⟩ := KM_back (KM_15 (KM_15 k1 _ _) _ _) q2
    have h15 : ∀ c, m2.2.1 15 c = (mA (mA m1 15 (2 * i) (rs1 (CW C fo F none) A p q n i)) 15 (2 * i + 1) (rs2 (CW C fo F none) A p q n i)).2.1 15 c := fun c => by rw [q2.2.2.1 15 (by omega)]
    have h15m : m1.2.1 15 = m.2.1 15 := by rw [f1.1 15 (by omega), hf.1 15 (by omega)]
    obtain ⟨m4, e4, k4, he4, hr4⟩ := M_laysL k d x C fo F n hn h6 A hW m0 hC hA p q hp hq w r (i + 1) m2 (by omega) k2 he2 (fun j hj => by
      rw [h15, h15]
      by_cases c : j = i
      · subst c
        refine ⟨?_, mA_15s _ _ _⟩
        rw [mA_15n _ _ _ _ (by omega), mA_15s]
      · rw [mA_15n _ _ _ _ (by omega), mA_15n _ _ _ _ (by omega), mA_15n _ _ _ _ (by omega), mA_15n _ _ _ _ (by omega), h15m]
        exact hr j (by omega))
    refine ⟨m4, ?_, k4, he4, hr4⟩
    rw [← e4, e_X4_rests_55]
    have hn25 : ¬ (25 : Int32) ≤ nI i := by rw [show (25 : Int32) = nI 25 from rfl, nI_leP (by omega) (by omega)]; omega
    simp (disch := omega) only [e_X4_rests_62, cond_true, cond_false, Option.bind_some, rI_s, rL_s, rR_s, rV_s, cnd_d, cnd_ne, cnd_eq, bI_d0, bI_t0, ite_not, decide_eq_false_iff_not, decide_eq_true_eq, lg_cmp_ge, lg_cmp_le, lg_cmp_gt, lg_cmp_lt, lg_cmp_eq, okb_1, okb_0, okb_b, eq_self, if_true, if_false, Bool.true_eq_false, Bool.false_eq_true, hn25, d5 i (by omega), m5 i (by omega), t2 i (by omega), li_2, li_4, li_14, pk_mul, nI_add, nI_1, rm_21, rm_35, sm_10, e1, w1, s1, w2, s2, e2]
theorem M_isRest (k : Nat) (d : AH) (x : XS) (m : MS) (f g : Nat → Int32) (a b : Nat) (ha : a < 5) (hb : b < 5) (hf : ∀ j, j < 25 → m.2.1 15 (2 * j) = f j ∧ m.2.1 15 (2 * j + 1) = g j) : callR (k + 1) n_X4_isRest [.ref 153, .int (nI a), .int (nI b)] (P d x m) = some (.inl (some (.int (bI (rsG f g a b 5 0)))), P d x m) := by
  have loop : ∀ r i : Nat, i + r = 5 → evR T_X4_isRest (callR k) 2 ([(0, .ref 153), (1, .int (nI a)), (2, .int (nI b)), (3, .int (nI i))], [], P d x m) = some (.inl (some (.int (bI (rsG f g a b r i)))), P d x m) := by
    intro r
    induction r with
    | zero =>
      intro i hi
      have e : i = 5 := by omega
      subst e
      rw [e_X4_isRest_2]
      simp (disch := omega) only [e_X4_isRest_73, cond_true, cond_false, Option.bind_some, rI_s, rL_s, rR_s, rV_s, cnd_d, cnd_ne, cnd_eq, bI_d0, bI_t0, ite_not, decide_eq_false_iff_not, decide_eq_true_eq, lg_cmp_ge, lg_cmp_le, lg_cmp_gt, lg_cmp_lt, lg_cmp_eq, okb_1, okb_0, okb_b, eq_self, if_true, if_false, Bool.true_eq_false, Bool.false_eq_true, li_5, le_rT]
      rfl
    | succ r ih =>
      intro i hi
      have hr := ih (i + 1) (by omega)
      have hn5 : ¬ (5 : Int32) ≤ nI i := by rw [show (5 : Int32) = nI 5 from rfl, nI_leP (by omega) (by omega)]; omega
      have l1 : ldI (P d x m) 168 0 (nI (2 * (5 * i + b))) = some (f (5 * i + b)) := by rw [← (hf (5 * i + b) (by omega)).1]; exact lm_15 d x m _ (by omega)
      have l2 : ldI (P d x m) 168 0 (nI (2 * (5 * a + b))) = some (f (5 * a + b)) := by rw [← (hf (5 * a + b) (by omega)).1]; exact lm_15 d x m _ (by omega)
      have l3 : ldI (P d x m) 168 0 (nI (2 * (5 * a + i) + 1)) = some (g (5 * a + i)) := by rw [← (hf (5 * a + i) (by omega)).2]; exact lm_15 d x m _ (by omega)
      have l4 : ldI (P d x m) 168 0 (nI (2 * (5 * a + b) + 1)) = some (g (5 * a + b)) := by rw [← (hf (5 * a + b) (by omega)).2]; exact lm_15 d x m _ (by omega)
      have hu : rsG f g a b (r + 1) i = if f (5 * a + b) < f (5 * i + b) then false else if g (5 * a + i) ≤ g (5 * a + b) then rsG f g a b r (i + 1) else false := rfl
      rw [hu, e_X4_isRest_2]
      by_cases c1 : f (5 * a + b) < f (5 * i + b)
      · rw [if_pos c1]
        simp (disch := omega) only [e_X4_isRest_7, e_X4_isRest_65, cond_true, cond_false, Option.bind_some, rI_s, rL_s, rR_s, rV_s, cnd_d, cnd_ne, cnd_eq, bI_d0, bI_t0, ite_not, decide_eq_false_iff_not, decide_eq_true_eq, lg_cmp_ge, lg_cmp_le, lg_cmp_gt, lg_cmp_lt, lg_cmp_eq, okb_1, okb_0, okb_b, eq_self, if_true, if_false, Bool.true_eq_false, Bool.false_eq_true, hn5, t5, t2, nI_add, rm_35, l1, l2, c1]
        rfl
      · rw [if_neg c1]
        by_cases c2 : g (5 * a + i) ≤ g (5 * a + b)
        · rw [if_pos c2, ← hr]
          simp (disch := omega) only [e_X4_isRest_7, e_X4_isRest_34, e_X4_isRest_67, cond_true, cond_false, Option.bind_some, rI_s, rL_s, rR_s, rV_s, cnd_d, cnd_ne, cnd_eq, bI_d0, bI_t0, ite_not, decide_eq_false_iff_not, decide_eq_true_eq, lg_cmp_ge, lg_cmp_le, lg_cmp_gt, lg_cmp_lt, lg_cmp_eq, okb_1, okb_0, okb_b, eq_self, if_true, if_false, Bool.true_eq_false, Bool.false_eq_true, hn5, t5, t2, nI_add, nI_1, rm_35, l1, l2, l3, l4, c1, c2]
        · rw [if_neg c2]
          simp (disch := omega) only [e_X4_isRest_7, e_X4_isRest_34, e_X4_isRest_65, cond_true, cond_false, Option.bind_some, rI_s, rL_s, rR_s, rV_s, cnd_d, cnd_ne, cnd_eq, bI_d0, bI_t0, ite_not, decide_eq_false_iff_not, decide_eq_true_eq, lg_cmp_ge, lg_cmp_le, lg_cmp_gt, lg_cmp_lt, lg_cmp_eq, okb_1, okb_0, okb_b, eq_self, if_true, if_false, Bool.true_eq_false, Bool.false_eq_true, hn5, t5, t2, nI_add, nI_1, rm_35, l1, l2, l3, l4, c1, c2]
          rfl
  have := loop 5 0 (by omega)
  rw [nI_0] at this
  simp (disch := omega) only [c_X4_isRest, e_X4_isRest_0, cond_true, cond_false, Option.bind_some, rI_s, rL_s, rR_s, rV_s, cnd_d, cnd_ne, cnd_eq, bI_d0, bI_t0, ite_not, decide_eq_false_iff_not, decide_eq_true_eq, lg_cmp_ge, lg_cmp_le, lg_cmp_gt, lg_cmp_lt, lg_cmp_eq, okb_1, okb_0, okb_b, eq_self, if_true, if_false, Bool.true_eq_false, Bool.false_eq_true, isO_M, this]
theorem M_restsL (k : Nat) (d : AH) (x : XS) (m : MS) (f g : Nat → Int32) (hf : ∀ j, j < 25 → m.2.1 15 (2 * j) = f j ∧ m.2.1 15 (2 * j + 1) = g j) (w : Int32) : ∀ (i r : Nat), i + r = 25 → evR T_X4_rests (callR (k + 1)) 165 ([(0, .ref 153), (4, .int w), (5, .int (nI (dn (fun i => rsG f g (i / 5) (i % 5) 5 0) i r))), (6, .int (oI (fd (fun i => rsG f g (i / 5) (i % 5) 5 0) i r))), (7, .int (nI i - 1))], [], P d x m) = some (.inl (some (.int (rsR w (dn (fun i => rsG f g (i / 5) (i % 5) 5 0) 0 25) (fd (fun i => rsG f g (i / 5) (i % 5) 5 0) 0 25)))), P d x m)
  | 0, r, hi => by
    have e : r = 25 := by omega
    subst e
    have hlt := fd_lt (fun i => rsG f g (i / 5) (i % 5) 5 0) 25 0
    generalize dn (fun i => rsG f g (i / 5) (i % 5) 5 0) 0 25 = c
    generalize fd (fun i => rsG f g (i / 5) (i % 5) 5 0) 0 25 = o at hlt ⊢
    rw [nI_0, e_X4_rests_165]
    unfold rsR
    by_cases cw : w = 0
    · simp (disch := omega) only [e_X4_rests_201, e_X4_rests_206, cond_true, cond_false, Option.bind_some, rI_s, rL_s, rR_s, rV_s, cnd_d, cnd_ne, cnd_eq, bI_d0, bI_t0, ite_not, decide_eq_false_iff_not, decide_eq_true_eq, lg_cmp_ge, lg_cmp_le, lg_cmp_gt, lg_cmp_lt, lg_cmp_eq, okb_1, okb_0, okb_b, eq_self, if_true, if_false, Bool.true_eq_false, Bool.false_eq_true, show (0 : Int32) - 1 < 0 by decide, cw]
    · cases o with
      | none =>
        simp (disch := omega) only [e_X4_rests_201, e_X4_rests_209, e_X4_rests_214, e_X4_rests_240, cond_true, cond_false, Option.bind_some, rI_s, rL_s, rR_s, rV_s, cnd_d, cnd_ne, cnd_eq, bI_d0, bI_t0, ite_not, decide_eq_false_iff_not, decide_eq_true_eq, lg_cmp_ge, lg_cmp_le, lg_cmp_gt, lg_cmp_lt, lg_cmp_eq, okb_1, okb_0, okb_b, eq_self, if_true, if_false, Bool.true_eq_false, Bool.false_eq_true, show (0 : Int32) - 1 < 0 by decide, cw, show oI none = -1 from rfl, neg_le0]
      | some j =>
        have hj := hlt j rfl
        have hge : (0 : Int32) ≤ nI j := nI_pos' (by omega)
        by_cases c1 : w = 1
        · simp (disch := omega) only [e_X4_rests_201, e_X4_rests_209, e_X4_rests_219, e_X4_rests_225, e_X4_rests_240, cond_true, cond_false, Option.bind_some, rI_s, rL_s, rR_s, rV_s, cnd_d, cnd_ne, cnd_eq, bI_d0, bI_t0, ite_not, decide_eq_false_iff_not, decide_eq_true_eq, lg_cmp_ge, lg_cmp_le, lg_cmp_gt, lg_cmp_lt, lg_cmp_eq, okb_1, okb_0, okb_b, eq_self, if_true, if_false, Bool.true_eq_false, Bool.false_eq_true, show (0 : Int32) - 1 < 0 by decide, cw, show oI (some j) = nI j from rfl, hge, c1, show ¬ (1 : Int32) = 0 by decide]
        · simp (disch := omega) only [e_X4_rests_201, e_X4_rests_209, e_X4_rests_219, e_X4_rests_234, e_X4_rests_240, cond_true, cond_false, Option.bind_some, rI_s, rL_s, rR_s, rV_s, cnd_d, cnd_ne, cnd_eq, bI_d0, bI_t0, ite_not, decide_eq_false_iff_not, decide_eq_true_eq, lg_cmp_ge, lg_cmp_le, lg_cmp_gt, lg_cmp_lt, lg_cmp_eq, okb_1, okb_0, okb_b, eq_self, if_true, if_false, Bool.true_eq_false, Bool.false_eq_true, show (0 : Int32) - 1 < 0 by decide, cw, show oI (some j) = nI j from rfl, hge, c1]
  | i + 1, r, hi => by
    have hr := M_restsL k d x m f g hf w i (r + 1) (by omega)
    have hR := M_isRest k d x m f g (i / 5) (i % 5) (by omega) (by omega) hf
    have hd : dn (fun i => rsG f g (i / 5) (i % 5) 5 0) i (r + 1) = dn (fun i => rsG f g (i / 5) (i % 5) 5 0) (i + 1) r + (if rsG f g (i / 5) (i % 5) 5 0 = true then 1 else 0) := rfl
    have hfd : fd (fun i => rsG f g (i / 5) (i % 5) 5 0) i (r + 1) = if rsG f g (i / 5) (i % 5) 5 0 = true then some i else fd (fun i => rsG f g (i / 5) (i % 5) 5 0) (i + 1) r := rfl
    have hp : nI (i + 1) - 1 = nI i := by rw [← nI_1]; grind
    have hm : nI i + (-1) = nI i - 1 := by grind
    rw [hd, hfd] at hr
    rw [← hr, hp, e_X4_rests_165]
    cases cb : rsG f g (i / 5) (i % 5) 5 0 with
    | false =>
      rw [cb] at hR
      rw [if_neg (by decide), if_neg (by decide), Nat.add_zero (dn (fun i => rsG f g (i / 5) (i % 5) 5 0) (i + 1) r)]
      simp (disch := omega) only [e_X4_rests_170, e_X4_rests_185, e_X4_rests_195, cond_true, cond_false, Option.bind_some, rI_s, rL_s, rR_s, rV_s, cnd_d, cnd_ne, cnd_eq, bI_d0, bI_t0, ite_not, decide_eq_false_iff_not, decide_eq_true_eq, lg_cmp_ge, lg_cmp_le, lg_cmp_gt, lg_cmp_lt, lg_cmp_eq, okb_1, okb_0, okb_b, eq_self, if_true, if_false, Bool.true_eq_false, Bool.false_eq_true, nI_nlt0, d5 i (by omega), m5 i (by omega), hR, hm]
    | true =>
      rw [cb] at hR
      rw [if_pos rfl, if_pos rfl]
      simp (disch := omega) only [e_X4_rests_170, e_X4_rests_188, e_X4_rests_195, cond_true, cond_false, Option.bind_some, rI_s, rL_s, rR_s, rV_s, cnd_d, cnd_ne, cnd_eq, bI_d0, bI_t0, ite_not, decide_eq_false_iff_not, decide_eq_true_eq, lg_cmp_ge, lg_cmp_le, lg_cmp_gt, lg_cmp_lt, lg_cmp_eq, okb_1, okb_0, okb_b, eq_self, if_true, if_false, Bool.true_eq_false, Bool.false_eq_true, nI_nlt0, d5 i (by omega), m5 i (by omega), hR, hm, nI_1, show oI (some i) = nI i from rfl]
theorem op_rests (g1 g2 v w : Int32) : AskOK n_X0_rests n_X4_rests [.int g1, .int g2, .int v, .int w] := by
  intro Z d x m hR k
  obtain ⟨C, A, n, u, a, t, nr, F, fo, hP, hS⟩ := Rel_to hR
  obtain ⟨hZ, hV, hN, hPR, hT, hRR, hF, hD, hBr, hI⟩ := id hP
  have hvp := (hV.2.1 d (Ext_refl Z d)).1
  have h6 := hV.1.1.2
  have xh := fun g => X_isHouse (k + 996) d x m C (hvp.1 x m) h6 g
  have mh : ∀ x g, _ := fun x g => M_isHouse (k + 998) d x m C.1 h6 hV.1.1.1 g
  cases c1 : hB C.1 g1 with
  | false =>
    refine ask_n (-1) ?_ ?_
    · simp (disch := omega) only [c_X0_rests, e_X0_rests_0, e_X0_rests_46, cond_true, cond_false, Option.bind_some, rI_s, rL_s, rR_s, rV_s, cnd_d, cnd_ne, cnd_eq, bI_d0, bI_t0, ite_not, decide_eq_false_iff_not, decide_eq_true_eq, lg_cmp_ge, lg_cmp_le, lg_cmp_gt, lg_cmp_lt, lg_cmp_eq, okb_1, okb_0, okb_b, eq_self, if_true, if_false, Bool.true_eq_false, Bool.false_eq_true, isO_X, xh, c1]
    · simp (disch := omega) only [c_X4_rests, e_X4_rests_0, e_X4_rests_46, cond_true, cond_false, Option.bind_some, rI_s, rL_s, rR_s, rV_s, cnd_d, cnd_ne, cnd_eq, bI_d0, bI_t0, ite_not, decide_eq_false_iff_not, decide_eq_true_eq, lg_cmp_ge, lg_cmp_le, lg_cmp_gt, lg_cmp_lt, lg_cmp_eq, okb_1, okb_0, okb_b, eq_self, if_true, if_false, Bool.true_eq_false, Bool.false_eq_true, isO_M, mh, c1]
  | true =>
    cases c2 : hB C.1 g2 with
    | false =>
      refine ask_n (-1) ?_ ?_
      · simp (disch := omega) only [c_X0_rests, e_X0_rests_0, e_X0_rests_8, e_X0_rests_46, cond_true, cond_false, Option.bind_some, rI_s, rL_s, rR_s, rV_s, cnd_d, cnd_ne, cnd_eq, bI_d0, bI_t0, ite_not, decide_eq_false_iff_not, decide_eq_true_eq, lg_cmp_ge, lg_cmp_le, lg_cmp_gt, lg_cmp_lt, lg_cmp_eq, okb_1, okb_0, okb_b, eq_self, if_true, if_false, Bool.true_eq_false, Bool.false_eq_true, isO_X, xh, c1, c2]
      · simp (disch := omega) only [c_X4_rests, e_X4_rests_0, e_X4_rests_8, e_X4_rests_46, cond_true, cond_false, Option.bind_some, rI_s, rL_s, rR_s, rV_s, cnd_d, cnd_ne, cnd_eq, bI_d0, bI_t0, ite_not, decide_eq_false_iff_not, decide_eq_true_eq, lg_cmp_ge, lg_cmp_le, lg_cmp_gt, lg_cmp_lt, lg_cmp_eq, okb_1, okb_0, okb_b, eq_self, if_true, if_false, Bool.true_eq_false, Bool.false_eq_true, isO_M, mh, c1, c2]
    | true =>
      by_cases c3 : g1 = g2
      · refine ask_n (-1) ?_ ?_
        · simp (disch := omega) only [c_X0_rests, e_X0_rests_0, e_X0_rests_8, e_X0_rests_16, e_X0_rests_46, cond_true, cond_false, Option.bind_some, rI_s, rL_s, rR_s, rV_s, cnd_d, cnd_ne, cnd_eq, bI_d0, bI_t0, ite_not, decide_eq_false_iff_not, decide_eq_true_eq, lg_cmp_ge, lg_cmp_le, lg_cmp_gt, lg_cmp_lt, lg_cmp_eq, okb_1, okb_0, okb_b, eq_self, if_true, if_false, Bool.true_eq_false, Bool.false_eq_true, isO_X, xh, c1, c2, c3]
        · simp (disch := omega) only [c_X4_rests, e_X4_rests_0, e_X4_rests_8, e_X4_rests_16, e_X4_rests_46, cond_true, cond_false, Option.bind_some, rI_s, rL_s, rR_s, rV_s, cnd_d, cnd_ne, cnd_eq, bI_d0, bI_t0, ite_not, decide_eq_false_iff_not, decide_eq_true_eq, lg_cmp_ge, lg_cmp_le, lg_cmp_gt, lg_cmp_lt, lg_cmp_eq, okb_1, okb_0, okb_b, eq_self, if_true, if_false, Bool.true_eq_false, Bool.false_eq_true, isO_M, mh, c1, c2, c3]
      · cases c4 : inI 1 20 v with
        | false =>
          refine ask_n (-1) ?_ ?_
          · simp (disch := omega) only [c_X0_rests, e_X0_rests_0, e_X0_rests_8, e_X0_rests_16, e_X0_rests_21, e_X0_rests_46, cond_true, cond_false, Option.bind_some, rI_s, rL_s, rR_s, rV_s, cnd_d, cnd_ne, cnd_eq, bI_d0, bI_t0, ite_not, decide_eq_false_iff_not, decide_eq_true_eq, lg_cmp_ge, lg_cmp_le, lg_cmp_gt, lg_cmp_lt, lg_cmp_eq, okb_1, okb_0, okb_b, eq_self, if_true, if_false, Bool.true_eq_false, Bool.false_eq_true, isO_X, xh, c1, c2, c3, X_in, in_1_20, c4]
          · simp (disch := omega) only [c_X4_rests, e_X4_rests_0, e_X4_rests_8, e_X4_rests_16, e_X4_rests_21, e_X4_rests_46, cond_true, cond_false, Option.bind_some, rI_s, rL_s, rR_s, rV_s, cnd_d, cnd_ne, cnd_eq, bI_d0, bI_t0, ite_not, decide_eq_false_iff_not, decide_eq_true_eq, lg_cmp_ge, lg_cmp_le, lg_cmp_gt, lg_cmp_lt, lg_cmp_eq, okb_1, okb_0, okb_b, eq_self, if_true, if_false, Bool.true_eq_false, Bool.false_eq_true, isO_M, mh, c1, c2, c3, M_in, in_1_20, c4]
        | true =>
          cases c5 : inI 0 2 w with
          | false =>
            refine ask_n (-1) ?_ ?_
            · simp (disch := omega) only [c_X0_rests, e_X0_rests_0, e_X0_rests_8, e_X0_rests_16, e_X0_rests_21, e_X0_rests_33, e_X0_rests_46, cond_true, cond_false, Option.bind_some, rI_s, rL_s, rR_s, rV_s, cnd_d, cnd_ne, cnd_eq, bI_d0, bI_t0, ite_not, decide_eq_false_iff_not, decide_eq_true_eq, lg_cmp_ge, lg_cmp_le, lg_cmp_gt, lg_cmp_lt, lg_cmp_eq, okb_1, okb_0, okb_b, eq_self, if_true, if_false, Bool.true_eq_false, Bool.false_eq_true, isO_X, xh, c1, c2, c3, X_in, in_1_20, c4, in_0_2, c5]
            · simp (disch := omega) only [c_X4_rests, e_X4_rests_0, e_X4_rests_8, e_X4_rests_16, e_X4_rests_21, e_X4_rests_33, e_X4_rests_46, cond_true, cond_false, Option.bind_some, rI_s, rL_s, rR_s, rV_s, cnd_d, cnd_ne, cnd_eq, bI_d0, bI_t0, ite_not, decide_eq_false_iff_not, decide_eq_true_eq, lg_cmp_ge, lg_cmp_le, lg_cmp_gt, lg_cmp_lt, lg_cmp_eq, okb_1, okb_0, okb_b, eq_self, if_true, if_false, Bool.true_eq_false, Bool.false_eq_true, isO_M, mh, c1, c2, c3, M_in, in_1_20, c4, in_0_2, c5]
          | true =>
            obtain ⟨j, hj1, hj, rfl⟩ := inI_1 (n := 20) (by omega) c4
            have c1' := c1
            have c2' := c2
            obtain ⟨p, hp, ep⟩ := hB_of (by omega) c1'
            obtain ⟨q, hq, eq⟩ := hB_of (by omega) c2'
            have hC := Rel_XC hV hRR hF hBr.1
            have hCm := Rel_VC hV.1 hRR hF hBr.2.1
            have hAm := Rel_VA (fo := fo) (F := F) hS.1 hBr.2.2
            have hWw := Rel_WA (fo := fo) (F := F) hS.2.2
            obtain ⟨x1, e1, s1, r1⟩ := X_laysL (k + 793) d m C fo F j (by omega) h6 A hWw x hC hS.2.1 p q hp hq 25 0 x (by omega) (SimX_refl x) (fun j hj => absurd hj (by omega))
            have e1' : callR (k + 999) n_X0_laysWords [.ref 0, .int g1, .int g2, .int (nI j)] (P d x m) = some (.inl none, P d x1 m) := by
              rw [ep, eq, ← e1, nI_0]
              simp (disch := omega) only [c_X0_laysWords, e_X0_laysWords_0, cond_true, cond_false, Option.bind_some, rI_s, rL_s, rR_s, rV_s, cnd_d, cnd_ne, cnd_eq, bI_d0, bI_t0, ite_not, decide_eq_false_iff_not, decide_eq_true_eq, lg_cmp_ge, lg_cmp_le, lg_cmp_gt, lg_cmp_lt, lg_cmp_eq, okb_1, okb_0, okb_b, eq_self, if_true, if_false, Bool.true_eq_false, Bool.false_eq_true, isO_X]
            have e2 := X_restsL (k + 998) d x1 m _ _ r1 w 25 0 0 none (by omega) (by omega) (by simp) (fun j e => nomatch e)
            rw [nI_0, Nat.zero_add, show oE none (fd (fun i => rsG (rs1 (CW C fo F none) A p q j) (rs2 (CW C fo F none) A p q j) (i / 5) (i % 5) 5 0) 0 25) = fd (fun i => rsG (rs1 (CW C fo F none) A p q j) (rs2 (CW C fo F none) A p q j) (i / 5) (i % 5) 5 0) 0 25 from rfl] at e2
            obtain ⟨m1, g1', q1⟩ := M_keeps (k + 998) d x1 m
            obtain ⟨km, ke⟩ := KM_keep q1
            obtain ⟨m2, g2', k2, he2, r2⟩ := M_laysL (k + 991) d x1 C fo F j (by omega) h6 A hWw m hCm hAm p q hp hq w 25 0 m1 (by omega) km ke (fun j hj => absurd hj (by omega))
            have g3 := M_restsL (k + 998) d x1 m2 _ _ r2 w 25 0 (by omega)
            have g2'' : evR T_X4_rests (callR (k + 999)) 55 ([(0, .ref 153), (1, .int g1), (2, .int g2), (3, .int (nI j)), (4, .int w), (5, .int 0)], [], P d x1 m1) = evR T_X4_rests (callR (k + 999)) 155 ([(0, .ref 153), (4, .int w)], [], P d x1 m2) := by rw [ep, eq]; exact g2'
            have g3' : evR T_X4_rests (callR (k + 999)) 165 ([(0, .ref 153), (4, .int w), (5, .int 0), (6, .int (-1)), (7, .int 24)], [], P d x1 m2) = _ := g3
            refine ⟨rsR w (dn (fun i => rsG (rs1 (CW C fo F none) A p q j) (rs2 (CW C fo F none) A p q j) (i / 5) (i % 5) 5 0) 0 25) (fd (fun i => rsG (rs1 (CW C fo F none) A p q j) (rs2 (CW C fo F none) A p q j) (i / 5) (i % 5) 5 0) 0 25), x1, ?_, s1, m2, ?_, KM_sim k2 he2⟩
            · have e2' : evR T_X0_rests (callR (k + 999)) 64 ([(0, .ref 0), (4, .int w), (5, .int 0), (6, .int (-1)), (7, .int 0)], [], P d x1 m) = _ := e2
              simp (disch := omega) only [c_X0_rests, e_X0_rests_0, e_X0_rests_8, e_X0_rests_16, e_X0_rests_21, e_X0_rests_33, e_X0_rests_48, cond_true, cond_false, Option.bind_some, rI_s, rL_s, rR_s, rV_s, cnd_d, cnd_ne, cnd_eq, bI_d0, bI_t0, ite_not, decide_eq_false_iff_not, decide_eq_true_eq, lg_cmp_ge, lg_cmp_le, lg_cmp_gt, lg_cmp_lt, lg_cmp_eq, okb_1, okb_0, okb_b, eq_self, if_true, if_false, Bool.true_eq_false, Bool.false_eq_true, isO_X, xh, c1, c2, c3, X_in, in_1_20, c4, in_0_2, c5, e1', e2']
            · simp (disch := omega) only [c_X4_rests, e_X4_rests_0, e_X4_rests_8, e_X4_rests_16, e_X4_rests_21, e_X4_rests_33, e_X4_rests_48, cond_true, cond_false, Option.bind_some, rI_s, rL_s, rR_s, rV_s, cnd_d, cnd_ne, cnd_eq, bI_d0, bI_t0, ite_not, decide_eq_false_iff_not, decide_eq_true_eq, lg_cmp_ge, lg_cmp_le, lg_cmp_gt, lg_cmp_lt, lg_cmp_eq, okb_1, okb_0, okb_b, eq_self, if_true, if_false, Bool.true_eq_false, Bool.false_eq_true, isO_M, mh, c1, c2, c3, M_in, in_1_20, c4, in_0_2, c5, g1', g2'']
              rw [e_X4_rests_155, g3']
