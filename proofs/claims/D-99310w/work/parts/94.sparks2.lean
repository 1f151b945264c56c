theorem M_sparksOn (k : Nat) (d : AH) (x : XS) (m : MS) (C : AC) (A : AA) (fo : Option Nat) (F : Nat → (Nat → Int64) → Int64) (h6 : C.1 ≤ 6) (hA : VA (CW C fo F none) A m) (q : Nat) (hq : q < C.1) : ∃ m', callR (k + 3) n_X4_sparksOn [.ref 153, .int (nI q)] (P d x m) = some (.inl none, P d x m') ∧ Fr m m' ∧ VA (CW C fo F none) (if 0 < A.1 0 q ∧ A.1 1 q = 0 then setA A 1 q 1 else A) m' := by
  have w0 : callR (k + 1) n_X4_worthOf [.ref 153, .int (nI q)] (P d x m) = some (.inl (some (.int (A.1 0 q))), P d x m) := by rw [M_worthOf k d x m q (by omega), (hA.1 q hq).1]
  have w1 : callR (k + 1) n_X4_heatOf [.ref 153, .int (nI q)] (P d x m) = some (.inl (some (.int (A.1 1 q))), P d x m) := by rw [M_heatOf k d x m q (by omega), (hA.1 q hq).2.1]
  by_cases c : 0 < A.1 0 q ∧ A.1 1 q = 0
  · rw [if_pos c]
    refine ⟨mA m 10 (14 + 4 * q + 1) 1, ?_, mA_Fr _ _ _ (by omega), VA_heat hA q hq h6 1⟩
    simp (disch := omega) only [e_X4_sparksOn_0, e_X4_sparksOn_8, e_X4_sparksOn_22, c_X4_sparksOn, e_X4_canLight_0, e_X4_canLight_8, e_X4_canLight_16, e_X4_canLight_20, e_X4_canLight_21, c_X4_canLight, cond_true, cond_false, Option.bind_some, rI_s, rL_s, rR_s, rV_s, cnd_d, cnd_ne, cnd_eq, bI_d0, bI_t0, ite_not, decide_eq_false_iff_not, decide_eq_true_eq, lg_cmp_ge, lg_cmp_le, lg_cmp_gt, lg_cmp_lt, lg_cmp_eq, okb_1, okb_0, okb_b, eq_self, if_true, if_false, Bool.true_eq_false, Bool.false_eq_true, isO_M, w0, w1, Int32.not_le.mpr c.1, c.2, rm_21, li_14, li_4, pk_mul, nI_add, nI_1, sm_10, show ¬ (1 : Int32) = 0 by decide]
  · rw [if_neg c]
    refine ⟨m, ?_, Fr_refl m, hA⟩
    by_cases c1 : 0 < A.1 0 q
    · have c2 : ¬ A.1 1 q = 0 := fun h => c ⟨c1, h⟩
      simp (disch := omega) only [e_X4_sparksOn_0, e_X4_sparksOn_8, e_X4_sparksOn_22, c_X4_sparksOn, e_X4_canLight_0, e_X4_canLight_8, e_X4_canLight_16, e_X4_canLight_20, e_X4_canLight_21, c_X4_canLight, cond_true, cond_false, Option.bind_some, rI_s, rL_s, rR_s, rV_s, cnd_d, cnd_ne, cnd_eq, bI_d0, bI_t0, ite_not, decide_eq_false_iff_not, decide_eq_true_eq, lg_cmp_ge, lg_cmp_le, lg_cmp_gt, lg_cmp_lt, lg_cmp_eq, okb_1, okb_0, okb_b, eq_self, if_true, if_false, Bool.true_eq_false, Bool.false_eq_true, isO_M, w0, w1, Int32.not_le.mpr c1, c2]
    · simp (disch := omega) only [e_X4_sparksOn_0, e_X4_sparksOn_8, e_X4_sparksOn_22, c_X4_sparksOn, e_X4_canLight_0, e_X4_canLight_8, e_X4_canLight_16, e_X4_canLight_20, e_X4_canLight_21, c_X4_canLight, cond_true, cond_false, Option.bind_some, rI_s, rL_s, rR_s, rV_s, cnd_d, cnd_ne, cnd_eq, bI_d0, bI_t0, ite_not, decide_eq_false_iff_not, decide_eq_true_eq, lg_cmp_ge, lg_cmp_le, lg_cmp_gt, lg_cmp_lt, lg_cmp_eq, okb_1, okb_0, okb_b, eq_self, if_true, if_false, Bool.true_eq_false, Bool.false_eq_true, isO_M, w0, Int32.not_lt.mp c1]
theorem VC_D {C : AC} {m : MS} (h : VC C m) (v : Int64) : VC C (mD m v) := VC_e h rfl fun _ _ => rfl
theorem VA_D {C : AC} {A : AA} {m : MS} (h : VA C A m) (v : Int64) : VA C A (mD m v) := VA_e h rfl rfl
theorem KM_D {m0 m : MS} (h : KM m0 m) (v : Int64) : KM m0 (mD m v) := h
theorem M_sparkS (k : Nat) (d : AH) (x : XS) (C : AC) (fo : Option Nat) (F : Nat → (Nat → Int64) → Int64) (h6 : C.1 ≤ 6) (m0 : MS) (mm nn p w l f o i : Int32) (A : AA) (dr : Nat) (m : MS) (hdr : dr < 2147483648) (hC : VC (CW C fo F none) m) (hk : KM m0 m) (hA : VA (CW C fo F none) A m) (hx : m.2.2.2 = lN dr) : ∃ m', evR T_X4_sparks (callR (k + 3)) 93 ([(0, .ref 153), (1, .int mm), (2, .int nn), (3, .int p), (4, .int w), (5, .int l), (6, .int f), (7, .int o), (8, .int i)], [], P d x m) = evR T_X4_sparks (callR (k + 3)) 126 ([(0, .ref 153), (1, .int mm), (2, .int nn), (3, .int p), (4, .int w), (5, .int l), (6, .int f), (7, .int o), (8, .int i)], [], P d x m') ∧ VC (CW C fo F none) m' ∧ KM m0 m' ∧ VA (CW C fo F none) (spk (CW C fo F none) p (A, dr)).1 m' ∧ m'.2.2.2 = lN (spk (CW C fo F none) p (A, dr)).2 := by
  have d1 := M_draw (k + 2) d x m dr 100 hdr hx (by omega) (by omega)
  rw [show nI 100 = (100 : Int32) from rfl] at d1
  have h3 : m.2.1 10 3 = nI C.1 := hC.1.1
  have h3' : (mD m (lN (drN dr))).2.1 10 3 = nI C.1 := h3
  by_cases c1 : p ≤ nI (drN dr / 65536 % 100)
  · rw [spk_a (Or.inl c1)]
    refine ⟨mD m (lN (drN dr)), ?_, VC_D hC _, KM_D hk _, VA_D hA _, rfl⟩
    rw [e_X4_sparks_93]
    simp (disch := omega) only [cond_true, cond_false, Option.bind_some, rI_s, rL_s, rR_s, rV_s, cnd_d, cnd_ne, cnd_eq, bI_d0, bI_t0, ite_not, decide_eq_false_iff_not, decide_eq_true_eq, lg_cmp_ge, lg_cmp_le, lg_cmp_gt, lg_cmp_lt, lg_cmp_eq, okb_1, okb_0, okb_b, eq_self, if_true, if_false, Bool.true_eq_false, Bool.false_eq_true, d1, c1]
  · by_cases c2 : C.1 = 0
    · rw [spk_a (C := CW C fo F none) (Or.inr c2)]
      refine ⟨mD m (lN (drN dr)), ?_, VC_D hC _, KM_D hk _, VA_D hA _, rfl⟩
      have hle : nI C.1 ≤ 0 := by rw [c2]; decide
      rw [e_X4_sparks_93]
      simp (disch := omega) only [e_X4_sparks_103, cond_true, cond_false, Option.bind_some, rI_s, rL_s, rR_s, rV_s, cnd_d, cnd_ne, cnd_eq, bI_d0, bI_t0, ite_not, decide_eq_false_iff_not, decide_eq_true_eq, lg_cmp_ge, lg_cmp_le, lg_cmp_gt, lg_cmp_lt, lg_cmp_eq, okb_1, okb_0, okb_b, eq_self, if_true, if_false, Bool.true_eq_false, Bool.false_eq_true, d1, c1, li_3, rm_21, lm_10, h3', hle]
    · have d2 := M_draw (k + 2) d x (mD m (lN (drN dr))) (drN dr) C.1 (drN_lt _) rfl (by omega) (by omega)
      have hq : drN (drN dr) / 65536 % C.1 < C.1 := Nat.mod_lt _ (by omega)
      have hle : ¬ nI C.1 ≤ 0 := by rw [← nI_0, nI_leP (by omega) (by omega)]; omega
      obtain ⟨m2, e2, f2, v2⟩ := M_sparksOn k d x (mD (mD m (lN (drN dr))) (lN (drN (drN dr)))) C A fo F h6 (VA_D (VA_D hA _) _) (drN (drN dr) / 65536 % C.1) hq
      rw [spk_b (C := CW C fo F none) (fun h => h.elim c1 c2)]
      refine ⟨m2, ?_, VC_fr (VC_D (VC_D hC _) _) f2, KM_fr (KM_D (KM_D hk _) _) f2, v2, f2.2.2.2⟩
      rw [e_X4_sparks_93]
      simp (disch := omega) only [e_X4_sparks_103, e_X4_sparks_112, cond_true, cond_false, Option.bind_some, rI_s, rL_s, rR_s, rV_s, cnd_d, cnd_ne, cnd_eq, bI_d0, bI_t0, ite_not, decide_eq_false_iff_not, decide_eq_true_eq, lg_cmp_ge, lg_cmp_le, lg_cmp_gt, lg_cmp_lt, lg_cmp_eq, okb_1, okb_0, okb_b, eq_self, if_true, if_false, Bool.true_eq_false, Bool.false_eq_true, d1, c1, li_3, rm_21, lm_10, h3', hle, d2, e2]
theorem M_sparkI (k : Nat) (d : AH) (x : XS) (C : AC) (fo : Option Nat) (F : Nat → (Nat → Int64) → Int64) (h6 : C.1 ≤ 6) (m0 : MS) (n : Nat) (hn : n ≤ 60) (mm p w l f o : Int32) : ∀ (r i : Nat) (A : AA) (dr : Nat) (m : MS), i + r = n → dr < 2147483648 → WA (CW C fo F none) A → VC (CW C fo F none) m → KM m0 m → VA (CW C fo F none) A m → m.2.2.2 = lN dr → ∃ m', evR T_X4_sparks (callR (k + 7)) 87 ([(0, .ref 153), (1, .int mm), (2, .int (nI n)), (3, .int p), (4, .int w), (5, .int l), (6, .int f), (7, .int o), (8, .int (nI i))], [], P d x m) = evR T_X4_sparks (callR (k + 7)) 137 ([(0, .ref 153), (1, .int mm), (2, .int (nI n)), (3, .int p), (4, .int w), (5, .int l), (6, .int f), (7, .int o)], [], P d x m') ∧ VC (CW C fo F none) m' ∧ KM m0 m' ∧ VA (CW C fo F none) (spI (CW C fo F none) p r (A, dr)).1 m' ∧ m'.2.2.2 = lN (spI (CW C fo F none) p r (A, dr)).2
  | 0, i, A, dr, m, hi, hdr, hW, hC, hk, hA, hx => by
    have e : i = n := by omega
    subst e
    refine ⟨m, ?_, hC, hk, hA, hx⟩
    rw [e_X4_sparks_87]
    simp (disch := omega) only [cond_true, cond_false, Option.bind_some, rI_s, rL_s, rR_s, rV_s, cnd_d, cnd_ne, cnd_eq, bI_d0, bI_t0, ite_not, decide_eq_false_iff_not, decide_eq_true_eq, lg_cmp_ge, lg_cmp_le, lg_cmp_gt, lg_cmp_lt, lg_cmp_eq, okb_1, okb_0, okb_b, eq_self, if_true, if_false, Bool.true_eq_false, Bool.false_eq_true, le_rT]
  | r + 1, i, A, dr, m, hi, hdr, hW, hC, hk, hA, hx => by
    obtain ⟨m1, e1, hC1, k1, v1, h1⟩ := M_sparkS (k + 4) d x C fo F h6 m0 mm (nI n) p w l f o (nI i) A dr m hdr hC hk hA hx
    have hW1 := WA_spk (p := p) (s := (A, dr)) hW
    obtain ⟨m2, e2, f2, -, v2⟩ := M_passes k d x m1 (CW C fo F none) (spk (CW C fo F none) p (A, dr)).1 hW1 hC1 v1
    obtain ⟨m3, e3, hC3, k3, v3, h3⟩ := M_sparkI k d x C fo F h6 m0 n hn mm p w l f o r (i + 1) _ _ m2 (by omega) (spk_lt _ _ _) (WA_hour hW1) (VC_fr hC1 f2) (KM_fr k1 f2) v2 (by rw [f2.2.2.2]; exact h1)
    refine ⟨m3, ?_, hC3, k3, v3, h3⟩
    rw [← e3, e_X4_sparks_87]
    simp (disch := omega) only [cond_true, cond_false, Option.bind_some, rI_s, rL_s, rR_s, rV_s, cnd_d, cnd_ne, cnd_eq, bI_d0, bI_t0, ite_not, decide_eq_false_iff_not, decide_eq_true_eq, lg_cmp_ge, lg_cmp_le, lg_cmp_gt, lg_cmp_lt, lg_cmp_eq, okb_1, okb_0, okb_b, eq_self, if_true, if_false, Bool.true_eq_false, Bool.false_eq_true, nI_leP, if_neg (show ¬ n ≤ i by omega)]
    rw [e1, e_X4_sparks_126]
    simp (disch := omega) only [cond_true, cond_false, Option.bind_some, rI_s, rL_s, rR_s, rV_s, cnd_d, cnd_ne, cnd_eq, bI_d0, bI_t0, ite_not, decide_eq_false_iff_not, decide_eq_true_eq, lg_cmp_ge, lg_cmp_le, lg_cmp_gt, lg_cmp_lt, lg_cmp_eq, okb_1, okb_0, okb_b, eq_self, if_true, if_false, Bool.true_eq_false, Bool.false_eq_true, e2, nI_1]
theorem M_sparkO (k : Nat) (d : AH) (x : XS) (C : AC) (fo : Option Nat) (F : Nat → (Nat → Int64) → Int64) (h6 : C.1 ≤ 6) (A : AA) (hW : WA (CW C fo F none) A) (m0 : MS) (hC : VC (CW C fo F none) m0) (hA : VA (CW C fo F none) A m0) (n mm : Nat) (hn : n ≤ 60) (hm : mm ≤ 10) (p w : Int32) : ∀ (r i : Nat) (l f : Int32) (dr : Nat) (m : MS), i + r = mm → dr < 2147483648 → KM m0 m → m.2.1 10 = m0.2.1 10 → m.2.2.2 = lN dr → ∃ m', evR T_X4_sparks (callR (k + 7)) 78 ([(0, .ref 153), (1, .int (nI mm)), (2, .int (nI n)), (3, .int p), (4, .int w), (5, .int l), (6, .int f), (7, .int (nI i))], [], P d x m) = some (.inl (some (.int (spR w (spO (CW C fo F none) A n p r (l, f, dr))))), P d x m') ∧ KM m0 m' ∧ m'.2.1 10 = m0.2.1 10
  | 0, i, l, f, dr, m, hi, hdr, hk, he, hx => by
    have e : i = mm := by omega
    subst e
    refine ⟨m, ?_, hk, he⟩
    rw [e_X4_sparks_78]
    rw [show spR w (spO (CW C fo F none) A n p 0 (l, f, dr)) = if w = 0 then l else f from rfl]
    by_cases c : w = 0
    · simp (disch := omega) only [e_X4_sparks_168, e_X4_sparks_173, e_X4_sparks_180, cond_true, cond_false, Option.bind_some, rI_s, rL_s, rR_s, rV_s, cnd_d, cnd_ne, cnd_eq, bI_d0, bI_t0, ite_not, decide_eq_false_iff_not, decide_eq_true_eq, lg_cmp_ge, lg_cmp_le, lg_cmp_gt, lg_cmp_lt, lg_cmp_eq, okb_1, okb_0, okb_b, eq_self, if_true, if_false, Bool.true_eq_false, Bool.false_eq_true, le_rT, c]
    · simp (disch := omega) only [e_X4_sparks_168, e_X4_sparks_178, e_X4_sparks_180, cond_true, cond_false, Option.bind_some, rI_s, rL_s, rR_s, rV_s, cnd_d, cnd_ne, cnd_eq, bI_d0, bI_t0, ite_not, decide_eq_false_iff_not, decide_eq_true_eq, lg_cmp_ge, lg_cmp_le, lg_cmp_gt, lg_cmp_lt, lg_cmp_eq, okb_1, okb_0, okb_b, eq_self, if_true, if_false, Bool.true_eq_false, Bool.false_eq_true, le_rT, c]
  | r + 1, i, l, f, dr, m, hi, hdr, hk, he, hx => by
    obtain ⟨m1, e1, hC1, k1, v1, h1⟩ := M_sparkI k d x C fo F h6 m0 n hn (nI mm) p w l f (nI i) n 0 A dr m (by omega) hdr hW (KM_VC hk hC) hk (KM_VA hk he hA) hx
    have e3 := M_worthAll (k + 5) d x m1 C.1 h6 hC1.1.1
    rw [show sumI (fun h => m1.2.1 10 (14 + 4 * h)) C.1 = sumI ((spI (CW C fo F none) p n (A, dr)).1.1 0) C.1 from sumI_c fun i hi => (v1.1 i hi).1] at e3
    have e4 := M_fires (k + 5) d x m1 C.1 h6 hC1.1.1
    rw [show orI (hotB fun h => m1.2.1 10 (15 + 4 * h)) C.1 = orI (hotB ((spI (CW C fo F none) p n (A, dr)).1.1 1)) C.1 from orI_c fun i hi => hotB_c (v1.1 i hi).2.1] at e4
    obtain ⟨j, hj, ej⟩ := hot_nI ((spI (CW C fo F none) p n (A, dr)).1.1 1) C.1 h6
    have e5 := M_bits (k + 6) (P d x m1) j hj
    rw [← ej] at e5
    obtain ⟨m2, e2, q2⟩ := M_laysBack (k + 6) d x m1
    obtain ⟨k2, he2⟩ := KM_back k1 q2
    obtain ⟨m6, e6, k6, he6⟩ := M_sparkO k d x C fo F h6 A hW m0 hC hA n mm hn hm p w r (i + 1) (l + sumI ((spI (CW C fo F none) p n (A, dr)).1.1 0) C.1) (f + pcI (orI (hotB ((spI (CW C fo F none) p n (A, dr)).1.1 1)) C.1)) (spI (CW C fo F none) p n (A, dr)).2 m2 (by omega) (spI_lt _ _ _ _ hdr) k2 he2 (by rw [q2.2.2.2.2]; exact h1)
    refine ⟨m6, ?_, k6, he6⟩
    have hO : spO (CW C fo F none) A n p (r + 1) (l, f, dr) = spO (CW C fo F none) A n p r (l + sumI ((spI (CW C fo F none) p n (A, dr)).1.1 0) C.1, f + pcI (orI (hotB ((spI (CW C fo F none) p n (A, dr)).1.1 1)) C.1), (spI (CW C fo F none) p n (A, dr)).2) := rfl
    rw [hO, ← e6, e_X4_sparks_78]
    rw [nI_0] at e1
    simp (disch := omega) only [e_X4_sparks_84, cond_true, cond_false, Option.bind_some, rI_s, rL_s, rR_s, rV_s, cnd_d, cnd_ne, cnd_eq, bI_d0, bI_t0, ite_not, decide_eq_false_iff_not, decide_eq_true_eq, lg_cmp_ge, lg_cmp_le, lg_cmp_gt, lg_cmp_lt, lg_cmp_eq, okb_1, okb_0, okb_b, eq_self, if_true, if_false, Bool.true_eq_false, Bool.false_eq_true, nI_leP, if_neg (show ¬ mm ≤ i by omega)]
    rw [e1, e_X4_sparks_137]
    simp (disch := omega) only [cond_true, cond_false, Option.bind_some, rI_s, rL_s, rR_s, rV_s, cnd_d, cnd_ne, cnd_eq, bI_d0, bI_t0, ite_not, decide_eq_false_iff_not, decide_eq_true_eq, lg_cmp_ge, lg_cmp_le, lg_cmp_gt, lg_cmp_lt, lg_cmp_eq, okb_1, okb_0, okb_b, eq_self, if_true, if_false, Bool.true_eq_false, Bool.false_eq_true, e3, e4, e5, e2, nI_1]
theorem op_sparks (v1 v2 v3 w : Int32) : AskOK n_X0_sparks n_X4_sparks [.int v1, .int v2, .int v3, .int w] := by
  intro Z d x m hR k
  obtain ⟨C, A, n, u, a, t, nr, F, fo, hP, hS⟩ := Rel_to hR
  obtain ⟨hZ, hV, hN, hPR, hT, hRR, hF, hD, hBr, hI⟩ := id hP
  have hvp := (hV.2.1 d (Ext_refl Z d)).1
  have h6 := hV.1.1.2
  have hfl := flag_eq hV
  have xv := X_isValley (k + 998) d x m C (hvp.1 x m)
  have mv : ∀ x, _ := fun x => M_isValley (k + 998) d x m
  rw [hfl] at mv
  by_cases c1 : 0 < C.2.2.2.1
  · cases c2 : inI 1 10 v1 with
    | false =>
      refine ask_n (-1) ?_ ?_
      · simp (disch := omega) only [c_X0_sparks, e_X0_sparks_0, e_X0_sparks_7, e_X0_sparks_54, cond_true, cond_false, Option.bind_some, rI_s, rL_s, rR_s, rV_s, cnd_d, cnd_ne, cnd_eq, bI_d0, bI_t0, ite_not, decide_eq_false_iff_not, decide_eq_true_eq, lg_cmp_ge, lg_cmp_le, lg_cmp_gt, lg_cmp_lt, lg_cmp_eq, okb_1, okb_0, okb_b, eq_self, if_true, if_false, Bool.true_eq_false, Bool.false_eq_true, isO_X, xv, c1, X_in, in_1_10, c2]
      · simp (disch := omega) only [c_X4_sparks, e_X4_sparks_0, e_X4_sparks_7, e_X4_sparks_54, cond_true, cond_false, Option.bind_some, rI_s, rL_s, rR_s, rV_s, cnd_d, cnd_ne, cnd_eq, bI_d0, bI_t0, ite_not, decide_eq_false_iff_not, decide_eq_true_eq, lg_cmp_ge, lg_cmp_le, lg_cmp_gt, lg_cmp_lt, lg_cmp_eq, okb_1, okb_0, okb_b, eq_self, if_true, if_false, Bool.true_eq_false, Bool.false_eq_true, isO_M, mv, c1, M_in, in_1_10, c2]
    | true =>
      cases c3 : inI 1 60 v2 with
      | false =>
        refine ask_n (-1) ?_ ?_
        · simp (disch := omega) only [c_X0_sparks, e_X0_sparks_0, e_X0_sparks_7, e_X0_sparks_19, e_X0_sparks_54, cond_true, cond_false, Option.bind_some, rI_s, rL_s, rR_s, rV_s, cnd_d, cnd_ne, cnd_eq, bI_d0, bI_t0, ite_not, decide_eq_false_iff_not, decide_eq_true_eq, lg_cmp_ge, lg_cmp_le, lg_cmp_gt, lg_cmp_lt, lg_cmp_eq, okb_1, okb_0, okb_b, eq_self, if_true, if_false, Bool.true_eq_false, Bool.false_eq_true, isO_X, xv, c1, X_in, in_1_10, c2, in_1_60, c3]
        · simp (disch := omega) only [c_X4_sparks, e_X4_sparks_0, e_X4_sparks_7, e_X4_sparks_19, e_X4_sparks_54, cond_true, cond_false, Option.bind_some, rI_s, rL_s, rR_s, rV_s, cnd_d, cnd_ne, cnd_eq, bI_d0, bI_t0, ite_not, decide_eq_false_iff_not, decide_eq_true_eq, lg_cmp_ge, lg_cmp_le, lg_cmp_gt, lg_cmp_lt, lg_cmp_eq, okb_1, okb_0, okb_b, eq_self, if_true, if_false, Bool.true_eq_false, Bool.false_eq_true, isO_M, mv, c1, M_in, in_1_10, c2, in_1_60, c3]
      | true =>
        cases c4 : inI 0 100 v3 with
        | false =>
          refine ask_n (-1) ?_ ?_
          · simp (disch := omega) only [c_X0_sparks, e_X0_sparks_0, e_X0_sparks_7, e_X0_sparks_19, e_X0_sparks_31, e_X0_sparks_54, cond_true, cond_false, Option.bind_some, rI_s, rL_s, rR_s, rV_s, cnd_d, cnd_ne, cnd_eq, bI_d0, bI_t0, ite_not, decide_eq_false_iff_not, decide_eq_true_eq, lg_cmp_ge, lg_cmp_le, lg_cmp_gt, lg_cmp_lt, lg_cmp_eq, okb_1, okb_0, okb_b, eq_self, if_true, if_false, Bool.true_eq_false, Bool.false_eq_true, isO_X, xv, c1, X_in, in_1_10, c2, in_1_60, c3, in_0_100, c4]
          · simp (disch := omega) only [c_X4_sparks, e_X4_sparks_0, e_X4_sparks_7, e_X4_sparks_19, e_X4_sparks_31, e_X4_sparks_54, cond_true, cond_false, Option.bind_some, rI_s, rL_s, rR_s, rV_s, cnd_d, cnd_ne, cnd_eq, bI_d0, bI_t0, ite_not, decide_eq_false_iff_not, decide_eq_true_eq, lg_cmp_ge, lg_cmp_le, lg_cmp_gt, lg_cmp_lt, lg_cmp_eq, okb_1, okb_0, okb_b, eq_self, if_true, if_false, Bool.true_eq_false, Bool.false_eq_true, isO_M, mv, c1, M_in, in_1_10, c2, in_1_60, c3, in_0_100, c4]
        | true =>
          cases c5 : inI 0 1 w with
          | false =>
            refine ask_n (-1) ?_ ?_
            · simp (disch := omega) only [c_X0_sparks, e_X0_sparks_0, e_X0_sparks_7, e_X0_sparks_19, e_X0_sparks_31, e_X0_sparks_43, e_X0_sparks_54, cond_true, cond_false, Option.bind_some, rI_s, rL_s, rR_s, rV_s, cnd_d, cnd_ne, cnd_eq, bI_d0, bI_t0, ite_not, decide_eq_false_iff_not, decide_eq_true_eq, lg_cmp_ge, lg_cmp_le, lg_cmp_gt, lg_cmp_lt, lg_cmp_eq, okb_1, okb_0, okb_b, eq_self, if_true, if_false, Bool.true_eq_false, Bool.false_eq_true, isO_X, xv, c1, X_in, in_1_10, c2, in_1_60, c3, in_0_100, c4, in_0_1, c5]
            · simp (disch := omega) only [c_X4_sparks, e_X4_sparks_0, e_X4_sparks_7, e_X4_sparks_19, e_X4_sparks_31, e_X4_sparks_43, e_X4_sparks_54, cond_true, cond_false, Option.bind_some, rI_s, rL_s, rR_s, rV_s, cnd_d, cnd_ne, cnd_eq, bI_d0, bI_t0, ite_not, decide_eq_false_iff_not, decide_eq_true_eq, lg_cmp_ge, lg_cmp_le, lg_cmp_gt, lg_cmp_lt, lg_cmp_eq, okb_1, okb_0, okb_b, eq_self, if_true, if_false, Bool.true_eq_false, Bool.false_eq_true, isO_M, mv, c1, M_in, in_1_10, c2, in_1_60, c3, in_0_100, c4, in_0_1, c5]
          | true =>
            obtain ⟨mm, hm1, hm, rfl⟩ := inI_1 (n := 10) (by omega) c2
            obtain ⟨j, hj1, hj, rfl⟩ := inI_1 (n := 60) (by omega) c3
            obtain ⟨dr, hdr, edr⟩ := nI_of (Int32.not_lt.mpr hD.2)
            have hC := Rel_XC hV hRR hF hBr.1
            have hCm := Rel_VC hV.1 hRR hF hBr.2.1
            have hAm := Rel_VA (fo := fo) (F := F) hS.1 hBr.2.2
            have hWw := Rel_WA (fo := fo) (F := F) hS.2.2
            obtain ⟨x1, e1, s1⟩ := X_sparkO (k + 795) d m C fo F h6 A hWw x hC hS.2.1 j mm hj hm v3 w mm 0 0 0 dr x (by omega) (by omega) (S11_sim (SimX_refl x)) (by rw [hD.1, edr])
            obtain ⟨m1, g1, q1⟩ := M_keeps (k + 998) d x1 (mD m (lN dr))
            obtain ⟨km, ke⟩ := KM_keep q1
            obtain ⟨m2, g2, k2, he2⟩ := M_sparkO (k + 992) d x1 C fo F h6 A hWw (mD m (lN dr)) (VC_D hCm _) (VA_D hAm _) j mm hj hm v3 w mm 0 0 0 dr m1 (by omega) (by omega) km ke (by rw [q1.2.2.2.2]; rfl)
            rw [nI_0] at e1 g2
            refine ⟨spR w (spO (CW C fo F none) A j v3 mm (0, 0, dr)), x1, ?_, s1, m2, ?_, (KM_sim k2 he2 : SimM m m2)⟩
            · simp (disch := omega) only [c_X0_sparks, e_X0_sparks_0, e_X0_sparks_7, e_X0_sparks_19, e_X0_sparks_31, e_X0_sparks_43, e_X0_sparks_56, cond_true, cond_false, Option.bind_some, rI_s, rL_s, rR_s, rV_s, cnd_d, cnd_ne, cnd_eq, bI_d0, bI_t0, ite_not, decide_eq_false_iff_not, decide_eq_true_eq, lg_cmp_ge, lg_cmp_le, lg_cmp_gt, lg_cmp_lt, lg_cmp_eq, okb_1, okb_0, okb_b, eq_self, if_true, if_false, Bool.true_eq_false, Bool.false_eq_true, isO_X, xv, c1, X_in, in_1_10, c2, in_1_60, c3, in_0_100, c4, in_0_1, c5, rx_11, e1]
            · simp (disch := omega) only [c_X4_sparks, e_X4_sparks_0, e_X4_sparks_7, e_X4_sparks_19, e_X4_sparks_31, e_X4_sparks_43, e_X4_sparks_56, cond_true, cond_false, Option.bind_some, rI_s, rL_s, rR_s, rV_s, cnd_d, cnd_ne, cnd_eq, bI_d0, bI_t0, ite_not, decide_eq_false_iff_not, decide_eq_true_eq, lg_cmp_ge, lg_cmp_le, lg_cmp_gt, lg_cmp_lt, lg_cmp_eq, okb_1, okb_0, okb_b, eq_self, if_true, if_false, Bool.true_eq_false, Bool.false_eq_true, isO_M, mv, c1, M_in, in_1_10, c2, in_1_60, c3, in_0_100, c4, in_0_1, c5, rm_23, edr, show (nI dr).toInt64 = lN dr from nI_l (by omega), wm_38, g1, g2]
  · refine ask_n (-1) ?_ ?_
    · simp (disch := omega) only [c_X0_sparks, e_X0_sparks_0, e_X0_sparks_54, cond_true, cond_false, Option.bind_some, rI_s, rL_s, rR_s, rV_s, cnd_d, cnd_ne, cnd_eq, bI_d0, bI_t0, ite_not, decide_eq_false_iff_not, decide_eq_true_eq, lg_cmp_ge, lg_cmp_le, lg_cmp_gt, lg_cmp_lt, lg_cmp_eq, okb_1, okb_0, okb_b, eq_self, if_true, if_false, Bool.true_eq_false, Bool.false_eq_true, isO_X, xv, c1]
    · simp (disch := omega) only [c_X4_sparks, e_X4_sparks_0, e_X4_sparks_54, cond_true, cond_false, Option.bind_some, rI_s, rL_s, rR_s, rV_s, cnd_d, cnd_ne, cnd_eq, bI_d0, bI_t0, ite_not, decide_eq_false_iff_not, decide_eq_true_eq, lg_cmp_ge, lg_cmp_le, lg_cmp_gt, lg_cmp_lt, lg_cmp_eq, okb_1, okb_0, okb_b, eq_self, if_true, if_false, Bool.true_eq_false, Bool.false_eq_true, isO_M, mv, c1]
