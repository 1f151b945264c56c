/-! sparks -/
theorem drN_ex : ∃ f : Nat → Nat, ∀ n, f n = (n * 1103515245 + 12345) % 2147483648 := ⟨_, fun _ => rfl⟩
noncomputable def drN : Nat → Nat := drN_ex.choose
theorem drN_eq (n : Nat) : drN n = (n * 1103515245 + 12345) % 2147483648 := drN_ex.choose_spec n
theorem drN_lt (n : Nat) : drN n < 2147483648 := by rw [drN_eq]; exact Nat.mod_lt _ (by omega)
theorem lk_1 : (1103515245 : Int64) = lN 1103515245 := rfl
theorem lk_2 : (12345 : Int64) = lN 12345 := rfl
theorem lk_3 : (2147483648 : Int64) = lN 2147483648 := rfl
theorem lk_4 : (65536 : Int64) = lN 65536 := rfl
theorem nzl_ok {o : Nat} (h0 : 0 < o) (h : o < 2 ^ 31) : nzL (lN o) = some () := by
  unfold nzL
  have : ¬ lN o = 0 := by
    rw [show (0 : Int64) = lN 0 from rfl, pk_lEQ (by omega) (by omega)]
    omega
  rw [beq_false_of_ne this]
  rfl
theorem nzi_ok {o : Nat} (h0 : 0 < o) (h : o < 2 ^ 31) : nzI (nI o) = some () := nz_ok (by rw [← nI_0, nI_eqP (by omega) (by omega)]; omega)
theorem X_draws (k : Nat) (d : AH) (x : XS) (m : MS) (n o : Nat) (hn : n < 2147483648) (hx : x.1 11 = nI n) (h0 : 0 < o) (ho : o < 2 ^ 31) : callR (k + 1) n_X0_draws [.ref 0, .int (nI o)] (P d x m) = some (.inl (some (.int (nI (drN n / 65536 % o)))), P d (xF x 11 (nI (drN n))) m) := by
  have hl := drN_lt n
  simp (disch := omega) only [e_X0_draws_0, c_X0_draws, cond_true, cond_false, Option.bind_some, rI_s, rL_s, rR_s, rV_s, cnd_d, cnd_ne, cnd_eq, bI_d0, bI_t0, ite_not, decide_eq_false_iff_not, decide_eq_true_eq, lg_cmp_ge, lg_cmp_le, lg_cmp_gt, lg_cmp_lt, lg_cmp_eq, okb_1, okb_0, okb_b, eq_self, if_true, if_false, Bool.true_eq_false, Bool.false_eq_true, isO_X, rx_11, hx, nI_l, lk_1, lk_2, lk_3, lN_mul, lN_add, pk_lRem, lN_i, (drN_eq n).symm, wx_11, xF_s, nzi_ok, li_65536, pk_div (d := 65536), pk_rem]
theorem M_draw (k : Nat) (d : AH) (x : XS) (m : MS) (n o : Nat) (hn : n < 2147483648) (hx : m.2.2.2 = lN n) (h0 : 0 < o) (ho : o < 2 ^ 31) : callR (k + 1) n_X4_draw [.ref 153, .int (nI o)] (P d x m) = some (.inl (some (.int (nI (drN n / 65536 % o)))), P d x (mD m (lN (drN n)))) := by
  have hl := drN_lt n
  simp (disch := omega) only [e_X4_draw_0, c_X4_draw, cond_true, cond_false, Option.bind_some, rI_s, rL_s, rR_s, rV_s, cnd_d, cnd_ne, cnd_eq, bI_d0, bI_t0, ite_not, decide_eq_false_iff_not, decide_eq_true_eq, lg_cmp_ge, lg_cmp_le, lg_cmp_gt, lg_cmp_lt, lg_cmp_eq, okb_1, okb_0, okb_b, eq_self, if_true, if_false, Bool.true_eq_false, Bool.false_eq_true, isO_M, rm_38, wm_38, hx, nI_l, lk_1, lk_2, lk_3, lN_mul, lN_add, pk_lRem, (drN_eq n).symm, show (mD m (lN (drN n))).2.2.2 = lN (drN n) from rfl, nzl_ok, lk_4, pk_lDiv (b := 65536), lN_i]
noncomputable def spk (C : AC) (p : Int32) (s : AA × Nat) : AA × Nat :=
  if p ≤ nI (drN s.2 / 65536 % 100) ∨ C.1 = 0 then (s.1, drN s.2) else
  (if 0 < s.1.1 0 (drN (drN s.2) / 65536 % C.1) ∧ s.1.1 1 (drN (drN s.2) / 65536 % C.1) = 0 then setA s.1 1 (drN (drN s.2) / 65536 % C.1) 1 else s.1, drN (drN s.2))
theorem spk_a {C : AC} {p : Int32} {A : AA} {n : Nat} (c : p ≤ nI (drN n / 65536 % 100) ∨ C.1 = 0) : spk C p (A, n) = (A, drN n) := if_pos c
theorem spk_b {C : AC} {p : Int32} {A : AA} {n : Nat} (c : ¬ (p ≤ nI (drN n / 65536 % 100) ∨ C.1 = 0)) : spk C p (A, n) = (if 0 < A.1 0 (drN (drN n) / 65536 % C.1) ∧ A.1 1 (drN (drN n) / 65536 % C.1) = 0 then setA A 1 (drN (drN n) / 65536 % C.1) 1 else A, drN (drN n)) := if_neg c
theorem spk_lt (C : AC) (p : Int32) (s : AA × Nat) : (spk C p s).2 < 2147483648 := by
  unfold spk
  split
  · exact drN_lt _
  · exact drN_lt _
theorem WA_spk {C : AC} {p : Int32} {s : AA × Nat} (h : WA C s.1) : WA C (spk C p s).1 := by
  unfold spk
  split
  · exact h
  · show WA C (if _ then _ else _)
    split
    · exact WA_heat h _ 1 (by decide) (by decide)
    · exact h
def S11 (x x' : XS) : Prop := (∀ k, k ≠ 11 → k ≠ 15 → k ≠ 16 → k ≠ 18 → k ≠ 22 → x'.1 k = x.1 k) ∧ (∀ j, j = 21 ∨ j = 22 ∨ j = 23 → x'.2.1 j = x.2.1 j) ∧ (∀ t, t ≠ 1 → x'.2.2.2.1 t = x.2.2.2.1 t) ∧ x'.2.2.2.2 = x.2.2.2.2
theorem S11_trans {a b c : XS} (h : S11 a b) (g : S11 b c) : S11 a c := ⟨fun k z p q r s => (g.1 k z p q r s).trans (h.1 k z p q r s), fun j hj => (g.2.1 j hj).trans (h.2.1 j hj), fun t ht => (g.2.2.1 t ht).trans (h.2.2.1 t ht), g.2.2.2.trans h.2.2.2⟩
theorem S11_sim {x x' : XS} (h : SimX x x') : S11 x x' := ⟨fun k _ p q r s => h.1 k p q r s, h.2⟩
theorem S11_F (x : XS) (v : Int32) : S11 x (xF x 11 v) := ⟨fun k z _ _ _ _ => xF_n _ _ _ _ z, fun _ _ => rfl, fun _ _ => rfl, rfl⟩
theorem S11_end {x x' : XS} (h : S11 x x') : SimX x (xF x' 11 (x.1 11)) := ⟨fun k p q r s => by
  by_cases c : k = 11
  · rw [c, xF_s]
  · rw [xF_n _ _ _ _ c]; exact h.1 k c p q r s, h.2⟩
theorem S11_XC {d : AH} {C : AC} {x x' : XS} {fo F} (s : S11 x x') (h : XC d (CW C fo F none) x) : XC d (CW C fo F none) x' := by
  have h2 := SimX_XC (S11_end s) h
  exact XC_e h2 rfl rfl fun k hk => (xF_n _ _ _ _ (by omega)).symm
theorem X_drawsSpark (k : Nat) (d : AH) (m : MS) (C : AC) (h6 : C.1 ≤ 6) (A : AA) (x : XS) (p : Int32) (n : Nat) (hn : n < 2147483648) (hv : VP d (x.2.2.2.2.1 0) C) (hX : VX C A (x.2.2.2.1 1)) (hx : x.1 11 = nI n) : ∃ x', callR (k + 3) n_X0_drawsSpark [.ref 0, .int p] (P d x m) = some (.inl none, P d x' m) ∧ S11 x x' ∧ VX C (spk C p (A, n)).1 (x'.2.2.2.1 1) ∧ x'.1 11 = nI (spk C p (A, n)).2 := by
  have d1 := X_draws (k + 1) d x m n 100 hn hx (by omega) (by omega)
  rw [show nI 100 = (100 : Int32) from rfl] at d1
  by_cases c1 : p ≤ nI (drN n / 65536 % 100)
  · rw [spk_a (Or.inl c1)]
    refine ⟨xF x 11 (nI (drN n)), ?_, S11_F _ _, hX, xF_s _ _ _⟩
    simp (disch := omega) only [c_X0_drawsSpark, e_X0_drawsSpark_0, e_X0_drawsSpark_20, cond_true, cond_false, Option.bind_some, rI_s, rL_s, rR_s, rV_s, cnd_d, cnd_ne, cnd_eq, bI_d0, bI_t0, ite_not, decide_eq_false_iff_not, decide_eq_true_eq, lg_cmp_ge, lg_cmp_le, lg_cmp_gt, lg_cmp_lt, lg_cmp_eq, okb_1, okb_0, okb_b, eq_self, if_true, if_false, Bool.true_eq_false, Bool.false_eq_true, isO_X, d1, c1]
  · by_cases c2 : C.1 = 0
    · rw [spk_a (Or.inr c2)]
      refine ⟨xF x 11 (nI (drN n)), ?_, S11_F _ _, hX, xF_s _ _ _⟩
      have hh := X_houses k (hv.1 (xF x 11 (nI (drN n))) m)
      rw [c2, nI_0] at hh
      simp (disch := omega) only [c_X0_drawsSpark, e_X0_drawsSpark_0, e_X0_drawsSpark_10, e_X0_drawsSpark_20, cond_true, cond_false, Option.bind_some, rI_s, rL_s, rR_s, rV_s, cnd_d, cnd_ne, cnd_eq, bI_d0, bI_t0, ite_not, decide_eq_false_iff_not, decide_eq_true_eq, lg_cmp_ge, lg_cmp_le, lg_cmp_gt, lg_cmp_lt, lg_cmp_eq, okb_1, okb_0, okb_b, eq_self, if_true, if_false, Bool.true_eq_false, Bool.false_eq_true, isO_X, d1, c1, rx_0, xF_2, hh]
    · have hh := X_houses k (hv.1 (xF x 11 (nI (drN n))) m)
      have d2 := X_draws (k + 1) d (xF x 11 (nI (drN n))) m (drN n) C.1 (drN_lt n) (xF_s _ _ _) (by omega) (by omega)
      have hq : drN (drN n) / 65536 % C.1 < C.1 := Nat.mod_lt _ (by omega)
      have hne : ¬ nI C.1 = 0 := by rw [← nI_0, nI_eqP (by omega) (by omega)]; exact c2
      rw [spk_b (fun h => h.elim c1 c2)]
      dsimp only
      generalize drN (drN n) / 65536 % C.1 = q at hq d2 ⊢
      have s2 : S11 x (xF (xF x 11 (nI (drN n))) 11 (nI (drN (drN n)))) := S11_trans (S11_F _ _) (S11_F _ _)
      have r0 : rdR (P d (xF (xF x 11 (nI (drN n))) 11 (nI (drN (drN n)))) m) 12 2 0 = some 13 := rp_0 d _ m 1 (by omega)
      have l0 : ldI (P d (xF (xF x 11 (nI (drN n))) 11 (nI (drN (drN n)))) m) 13 0 (nI q) = some (A.1 0 q) := by rw [← (hX.1 q hq).1]; exact lp_0 d (xF (xF x 11 (nI (drN n))) 11 (nI (drN (drN n)))) m 1 (by omega) q (by omega)
      have r1 : rdR (P d (xF (xF x 11 (nI (drN n))) 11 (nI (drN (drN n)))) m) 12 2 1 = some 14 := rp_1 d _ m 1 (by omega)
      have l1 : ldI (P d (xF (xF x 11 (nI (drN n))) 11 (nI (drN (drN n)))) m) 14 0 (nI q) = some (A.1 1 q) := by rw [← (hX.1 q hq).2.1]; exact lp_1 d (xF (xF x 11 (nI (drN n))) 11 (nI (drN (drN n)))) m 1 (by omega) q (by omega)
      have t1 : stI (P d (xF (xF x 11 (nI (drN n))) 11 (nI (drN (drN n)))) m) 14 0 (nI q) 1 = some (P d (xS (xF (xF x 11 (nI (drN n))) 11 (nI (drN (drN n)))) 1 (sA (x.2.2.2.1 1) 1 q 1)) m) := sp_1 d (xF (xF x 11 (nI (drN n))) 11 (nI (drN (drN n)))) m 1 (by omega) q 1 (by omega)
      by_cases c3 : 0 < A.1 0 q
      · by_cases c4 : A.1 1 q = 0
        · rw [if_pos ⟨c3, c4⟩]
          refine ⟨_, ?_, S11_trans s2 (S11_sim (FX_Sim (xS_FX _ 1 (sA (x.2.2.2.1 1) 1 q 1)))), by rw [xS_s]; exact VX_heat hX q hq 1, by rw [xS_1, xF_s]⟩
          simp (disch := omega) only [c_X0_drawsSpark, e_X0_drawsSpark_0, e_X0_drawsSpark_10, e_X0_drawsSpark_21, e_X0_drawsSpark_45, e_X0_drawsSpark_57, e_X0_drawsSpark_67, cond_true, cond_false, Option.bind_some, rI_s, rL_s, rR_s, rV_s, cnd_d, cnd_ne, cnd_eq, bI_d0, bI_t0, ite_not, decide_eq_false_iff_not, decide_eq_true_eq, lg_cmp_ge, lg_cmp_le, lg_cmp_gt, lg_cmp_lt, lg_cmp_eq, okb_1, okb_0, okb_b, eq_self, if_true, if_false, Bool.true_eq_false, Bool.false_eq_true, isO_X, d1, c1, rx_0, rx_2, xF_2, hh, hne, d2, r0, l0, r1, l1, t1, Int32.not_le.mpr c3, c4]
        · rw [if_neg (fun h => c4 h.2)]
          refine ⟨_, ?_, s2, hX, xF_s _ _ _⟩
          simp (disch := omega) only [c_X0_drawsSpark, e_X0_drawsSpark_0, e_X0_drawsSpark_10, e_X0_drawsSpark_21, e_X0_drawsSpark_45, e_X0_drawsSpark_67, cond_true, cond_false, Option.bind_some, rI_s, rL_s, rR_s, rV_s, cnd_d, cnd_ne, cnd_eq, bI_d0, bI_t0, ite_not, decide_eq_false_iff_not, decide_eq_true_eq, lg_cmp_ge, lg_cmp_le, lg_cmp_gt, lg_cmp_lt, lg_cmp_eq, okb_1, okb_0, okb_b, eq_self, if_true, if_false, Bool.true_eq_false, Bool.false_eq_true, isO_X, d1, c1, rx_0, rx_2, xF_2, hh, hne, d2, r0, l0, r1, l1, Int32.not_le.mpr c3, c4]
      · rw [if_neg (fun h => c3 h.1)]
        refine ⟨_, ?_, s2, hX, xF_s _ _ _⟩
        simp (disch := omega) only [c_X0_drawsSpark, e_X0_drawsSpark_0, e_X0_drawsSpark_10, e_X0_drawsSpark_21, e_X0_drawsSpark_67, cond_true, cond_false, Option.bind_some, rI_s, rL_s, rR_s, rV_s, cnd_d, cnd_ne, cnd_eq, bI_d0, bI_t0, ite_not, decide_eq_false_iff_not, decide_eq_true_eq, lg_cmp_ge, lg_cmp_le, lg_cmp_gt, lg_cmp_lt, lg_cmp_eq, okb_1, okb_0, okb_b, eq_self, if_true, if_false, Bool.true_eq_false, Bool.false_eq_true, isO_X, d1, c1, rx_0, rx_2, xF_2, hh, hne, d2, r0, l0, Int32.not_lt.mp c3]
noncomputable def spI (C : AC) (p : Int32) : Nat → AA × Nat → AA × Nat
  | 0, s => s
  | r + 1, s => spI C p r (hourA C (spk C p s).1, (spk C p s).2)
theorem spI_lt (C : AC) (p : Int32) : ∀ r s, s.2 < 2147483648 → (spI C p r s).2 < 2147483648
  | 0, _, h => h
  | r + 1, s, _ => spI_lt C p r _ (spk_lt C p s)
theorem WA_spI {C : AC} {p : Int32} : ∀ r s, WA C s.1 → WA C (spI C p r s).1
  | 0, _, h => h
  | r + 1, _, h => WA_spI r _ (WA_hour (WA_spk h))
noncomputable def spO (C : AC) (A : AA) (n : Nat) (p : Int32) : Nat → Int32 × Int32 × Nat → Int32 × Int32 × Nat
  | 0, s => s
  | r + 1, s => spO C A n p r (s.1 + sumI ((spI C p n (A, s.2.2)).1.1 0) C.1, s.2.1 + pcI (orI (hotB ((spI C p n (A, s.2.2)).1.1 1)) C.1), (spI C p n (A, s.2.2)).2)
def spR (w : Int32) (s : Int32 × Int32 × Nat) : Int32 := if w = 0 then s.1 else s.2.1
theorem X_sparkI (k : Nat) (d : AH) (m : MS) (C : AC) (fo : Option Nat) (F : Nat → (Nat → Int64) → Int64) (h6 : C.1 ≤ 6) (x0 : XS) (hC : XC d (CW C fo F none) x0) (n : Nat) (hn : n ≤ 60) (mm p w was l f o : Int32) : ∀ (r i : Nat) (A : AA) (dr : Nat) (x : XS), i + r = n → dr < 2147483648 → WA (CW C fo F none) A → S11 x0 x → XA (CW C fo F none) A x 1 → x.1 11 = nI dr → ∃ x', evR T_X0_sparks (callR (k + 204)) 91 ([(0, .ref 0), (1, .int mm), (2, .int (nI n)), (3, .int p), (4, .int w), (5, .int was), (6, .int l), (7, .int f), (8, .int o), (9, .int (nI i))], [], P d x m) = evR T_X0_sparks (callR (k + 204)) 117 ([(0, .ref 0), (1, .int mm), (2, .int (nI n)), (3, .int p), (4, .int w), (5, .int was), (6, .int l), (7, .int f), (8, .int o)], [], P d x' m) ∧ S11 x0 x' ∧ XA (CW C fo F none) (spI (CW C fo F none) p r (A, dr)).1 x' 1 ∧ x'.1 11 = nI (spI (CW C fo F none) p r (A, dr)).2
  | 0, i, A, dr, x, hi, hdr, hW, hs, hX, hx => by
    have e : i = n := by omega
    subst e
    refine ⟨x, ?_, hs, hX, hx⟩
    rw [e_X0_sparks_91]
    simp (disch := omega) only [cond_true, cond_false, Option.bind_some, rI_s, rL_s, rR_s, rV_s, cnd_d, cnd_ne, cnd_eq, bI_d0, bI_t0, ite_not, decide_eq_false_iff_not, decide_eq_true_eq, lg_cmp_ge, lg_cmp_le, lg_cmp_gt, lg_cmp_lt, lg_cmp_eq, okb_1, okb_0, okb_b, eq_self, if_true, if_false, Bool.true_eq_false, Bool.false_eq_true, le_rT]
  | r + 1, i, A, dr, x, hi, hdr, hW, hs, hX, hx => by
    obtain ⟨x1, e1, s1, v1, h1⟩ := X_drawsSpark (k + 201) d m (CW C fo F none) h6 A x p dr hdr (S11_XC hs hC).1 hX.1 hx
    have hs1 := S11_trans hs s1
    have hW1 := WA_spk (p := p) (s := (A, dr)) hW
    obtain ⟨x2, e2, f2, -, v2⟩ := X_hour k d x1 m 1 (by omega) (CW C fo F none) (spk (CW C fo F none) p (A, dr)).1 hW1 (S11_XC hs1 hC) (Rel_XA v1)
    have hs2 := S11_trans hs1 (S11_sim (FX_Sim f2))
    obtain ⟨x3, e3, hs3, v3, h3⟩ := X_sparkI k d m C fo F h6 x0 hC n hn mm p w was l f o r (i + 1) _ _ x2 (by omega) (spk_lt _ _ _) (WA_hour hW1) hs2 v2 (by rw [f2.1 11 (by omega) (by omega)]; exact h1)
    refine ⟨x3, ?_, hs3, v3, h3⟩
    rw [← e3, e_X0_sparks_91]
    have e2' : callR (k + 204) n_X0_goesOn [.ref 0, .ref 12] (P d x1 m) = _ := e2
    simp (disch := omega) only [e_X0_sparks_97, cond_true, cond_false, Option.bind_some, rI_s, rL_s, rR_s, rV_s, cnd_d, cnd_ne, cnd_eq, bI_d0, bI_t0, ite_not, decide_eq_false_iff_not, decide_eq_true_eq, lg_cmp_ge, lg_cmp_le, lg_cmp_gt, lg_cmp_lt, lg_cmp_eq, okb_1, okb_0, okb_b, eq_self, if_true, if_false, Bool.true_eq_false, Bool.false_eq_true, nI_leP, if_neg (show ¬ n ≤ i by omega), e1, rx_2, e2', nI_1]
theorem X_sparkO (k : Nat) (d : AH) (m : MS) (C : AC) (fo : Option Nat) (F : Nat → (Nat → Int64) → Int64) (h6 : C.1 ≤ 6) (A : AA) (hW : WA (CW C fo F none) A) (x0 : XS) (hC : XC d (CW C fo F none) x0) (hX : VX C A (x0.2.2.2.1 0)) (n mm : Nat) (hn : n ≤ 60) (hm : mm ≤ 10) (p w : Int32) : ∀ (r i : Nat) (l f : Int32) (dr : Nat) (x : XS), i + r = mm → dr < 2147483648 → S11 x0 x → x.1 11 = nI dr → ∃ x', evR T_X0_sparks (callR (k + 204)) 71 ([(0, .ref 0), (1, .int (nI mm)), (2, .int (nI n)), (3, .int p), (4, .int w), (5, .int (x0.1 11)), (6, .int l), (7, .int f), (8, .int (nI i))], [], P d x m) = some (.inl (some (.int (spR w (spO (CW C fo F none) A n p r (l, f, dr))))), P d x' m) ∧ SimX x0 x'
  | 0, i, l, f, dr, x, hi, hdr, hs, hx => by
    have e : i = mm := by omega
    subst e
    refine ⟨_, ?_, S11_end hs⟩
    rw [e_X0_sparks_71]
    rw [show spR w (spO (CW C fo F none) A n p 0 (l, f, dr)) = if w = 0 then l else f from rfl]
    by_cases c : w = 0
    · simp (disch := omega) only [e_X0_sparks_150, e_X0_sparks_161, e_X0_sparks_168, cond_true, cond_false, Option.bind_some, rI_s, rL_s, rR_s, rV_s, cnd_d, cnd_ne, cnd_eq, bI_d0, bI_t0, ite_not, decide_eq_false_iff_not, decide_eq_true_eq, lg_cmp_ge, lg_cmp_le, lg_cmp_gt, lg_cmp_lt, lg_cmp_eq, okb_1, okb_0, okb_b, eq_self, if_true, if_false, Bool.true_eq_false, Bool.false_eq_true, le_rT, wx_11, c]
    · simp (disch := omega) only [e_X0_sparks_150, e_X0_sparks_166, e_X0_sparks_168, cond_true, cond_false, Option.bind_some, rI_s, rL_s, rR_s, rV_s, cnd_d, cnd_ne, cnd_eq, bI_d0, bI_t0, ite_not, decide_eq_false_iff_not, decide_eq_true_eq, lg_cmp_ge, lg_cmp_le, lg_cmp_gt, lg_cmp_lt, lg_cmp_eq, okb_1, okb_0, okb_b, eq_self, if_true, if_false, Bool.true_eq_false, Bool.false_eq_true, le_rT, wx_11, c]
  | r + 1, i, l, f, dr, x, hi, hdr, hs, hx => by
    obtain ⟨x1, e1, f1, v1, -⟩ := X_keep (k + 203) d x m C A h6 (by rw [hs.2.2.1 0 (by omega)]; exact hX)
    have hs1 := S11_trans hs (S11_sim (FX_Sim f1))
    obtain ⟨x2, e2, hs2, v2, h2⟩ := X_sparkI k d m C fo F h6 x0 hC n hn (nI mm) p w (x0.1 11) l f (nI i) n 0 A dr x1 (by omega) hdr hW hs1 (Rel_XA v1) (by rw [f1.1 11 (by omega) (by omega)]; exact hx)
    have e3 : callR (k + 204) n_X2_left [.ref 12] (P d x2 m) = some (.inl (some (.int (sumI ((spI (CW C fo F none) p n (A, dr)).1.1 0) C.1))), P d x2 m) := X_left0 (k + 203) d x2 m 1 (by omega) C _ h6 v2.1
    have e4 : callR (k + 204) n_X2_fires [.ref 12] (P d x2 m) = some (.inl (some (.int (orI (hotB ((spI (CW C fo F none) p n (A, dr)).1.1 1)) C.1))), P d x2 m) := X_fires0 (k + 203) d x2 m 1 (by omega) C _ h6 v2.1
    have e5 := pc_all (k + 203) (P d x2 m)
    obtain ⟨x6, e6, hs6⟩ := X_sparkO k d m C fo F h6 A hW x0 hC hX n mm hn hm p w r (i + 1) (l + sumI ((spI (CW C fo F none) p n (A, dr)).1.1 0) C.1) (f + pcI (orI (hotB ((spI (CW C fo F none) p n (A, dr)).1.1 1)) C.1)) (spI (CW C fo F none) p n (A, dr)).2 x2 (by omega) (spI_lt _ _ _ _ hdr) hs2 h2
    refine ⟨x6, ?_, hs6⟩
    have hO : spO (CW C fo F none) A n p (r + 1) (l, f, dr) = spO (CW C fo F none) A n p r (l + sumI ((spI (CW C fo F none) p n (A, dr)).1.1 0) C.1, f + pcI (orI (hotB ((spI (CW C fo F none) p n (A, dr)).1.1 1)) C.1), (spI (CW C fo F none) p n (A, dr)).2) := rfl
    rw [hO, ← e6, e_X0_sparks_71]
    rw [nI_0] at e2
    simp (disch := omega) only [e_X0_sparks_77, e_X0_sparks_117, cond_true, cond_false, Option.bind_some, rI_s, rL_s, rR_s, rV_s, cnd_d, cnd_ne, cnd_eq, bI_d0, bI_t0, ite_not, decide_eq_false_iff_not, decide_eq_true_eq, lg_cmp_ge, lg_cmp_le, lg_cmp_gt, lg_cmp_lt, lg_cmp_eq, okb_1, okb_0, okb_b, eq_self, if_true, if_false, Bool.true_eq_false, Bool.false_eq_true, nI_leP, if_neg (show ¬ mm ≤ i by omega), rx_1, rx_2, e1, e2, e3, e4, e5, nI_1]
