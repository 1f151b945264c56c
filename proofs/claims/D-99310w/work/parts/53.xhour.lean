/-! x's hour -/
/-- the valley of x -/
def VP (d : AH) (v : Nat) (C : AC) : Prop := (∀ x m, VL (P d x m) v C) ∧ ∃ bes : Nat → Int32, (∀ x m, ∃ be, rdR (P d x m) v 1 2 = some be ∧ ∀ i, i < 6 → ldI (P d x m) be 0 (nI i) = some (bes i)) ∧ ∀ i, i < C.1 → bes i = C.2.2.1 i
/-- a rule of x's reckons F -/
def RuX (d : AH) (x : XS) (r : Nat) (F : (Nat → Int64) → Int64) : Prop := ∀ (k : Nat) (x' : XS) (m : MS), x'.2.2.2.2.1 1 = x.2.2.2.2.1 1 → x'.1 102 = x.1 102 → x'.2.2.2.2.2 19 = x.2.2.2.2.2 19 → ∃ o, callR (k + 200) n_J2_get [.ref 18, .int (nI r)] (P d x' m) = some (.inl (some (.ref o)), P d x' m) ∧ isO (P d x' m) o 7 = true ∧ callR (k + 200) n_X7_wants [.ref o, .ref 24] (P d x' m) = some (.inl (some (.long (F fun i => if i < 11 then x'.2.2.1 i else 0))), P d x' m)
def XC (d : AH) (C : AC) (x : XS) : Prop := VP d (x.2.2.2.2.1 0) C ∧ C.1 ≤ 6 ∧
  (match C.2.2.2.2.1 with | none => x.1 4 = -1 | some F => ∃ r, r < 6 ∧ x.1 4 = nI r ∧ RuX d x r F) ∧
  (match C.2.2.2.2.2 with | none => x.1 17 = 0 | some q => q.1 ≤ 6 ∧ x.1 17 = 1 ∧ x.1 15 = nI q.1 ∧ ∀ i, i < q.1 → x.2.1 25 i = nI (q.2 i) ∧ q.2 i < 6) ∧ (∀ h, h < C.1 → C.2.2.1 h &&& 63 = C.2.2.1 h)
def XA (C : AC) (A : AA) (x : XS) (t : Nat) : Prop := VX C A (x.2.2.2.1 t) ∧ (C.2.2.2.2.2.isSome = true → x.1 16 = nI (A.2.2 2))
def FX (t : Nat) (x x' : XS) : Prop := (∀ k, k ≠ 16 → k ≠ 18 → x'.1 k = x.1 k) ∧ x'.2.1 = x.2.1 ∧ (∀ u, u ≠ t → x'.2.2.2.1 u = x.2.2.2.1 u) ∧ x'.2.2.2.2 = x.2.2.2.2
/-- only words are other -/
def WX (x x' : XS) : Prop := x'.1 = x.1 ∧ x'.2.1 = x.2.1 ∧ x'.2.2.2 = x.2.2.2
theorem FX_refl (t : Nat) (x : XS) : FX t x x := ⟨fun _ _ _ => rfl, rfl, fun _ _ => rfl, rfl⟩
theorem FX_trans {t : Nat} {a b c : XS} (h : FX t a b) (g : FX t b c) : FX t a c := ⟨fun k p q => (g.1 k p q).trans (h.1 k p q), g.2.1.trans h.2.1, fun u hu => (g.2.2.1 u hu).trans (h.2.2.1 u hu), g.2.2.2.trans h.2.2.2⟩
theorem WX_FX {t : Nat} {x x' : XS} (h : WX x x') : FX t x x' := ⟨fun k _ _ => by rw [h.1], h.2.1, fun u _ => by rw [h.2.2], by rw [h.2.2]⟩
theorem WX_trans {a b c : XS} (h : WX a b) (g : WX b c) : WX a c := ⟨g.1.trans h.1, g.2.1.trans h.2.1, g.2.2.trans h.2.2⟩
theorem XA_WX {C : AC} {A : AA} {x x' : XS} {t : Nat} (h : XA C A x t) (g : WX x x') : XA C A x' t := by
  unfold XA
  rw [g.1, g.2.2]
  exact h
theorem xS_FX (x : XS) (t : Nat) (s : SS) : FX t x (xS x t s) := ⟨fun _ _ _ => rfl, rfl, fun u hu => xS_n x t s u hu, rfl⟩
theorem xF_FX (x : XS) (t k : Nat) (v : Int32) (h : k = 16 ∨ k = 18) : FX t x (xF x k v) := ⟨fun j a b => xF_n _ _ _ _ (by omega), rfl, fun _ _ => rfl, rfl⟩
theorem RuX_fr {d : AH} {x x' : XS} {r : Nat} {F : (Nat → Int64) → Int64} (h : RuX d x r F) (e1 : x'.2.2.2.2 = x.2.2.2.2) (e2 : x'.1 102 = x.1 102) : RuX d x' r F := by
  intro k x2 m a b c
  exact h k x2 m (by rw [a, e1]) (by rw [b, e2]) (by rw [c, e1])
theorem XC_fr {d : AH} {C : AC} {x x' : XS} {t : Nat} (h : XC d C x) (f : FX t x x') : XC d C x' := by
  obtain ⟨h1, h6, h2, h3, h4⟩ := h
  obtain ⟨f1, f2, f3, f4⟩ := f
  refine ⟨by rw [f4]; exact h1, h6, ?_, ?_, h4⟩
  · rw [f1 4 (by omega) (by omega)]
    split at h2
    · exact h2
    · obtain ⟨r, hr, a, b⟩ := h2
      exact ⟨r, hr, a, RuX_fr b f4 (f1 102 (by omega) (by omega))⟩
  · rw [f1 17 (by omega) (by omega), f1 15 (by omega) (by omega), f2]
    exact h3
theorem VP_s {d : AH} {v : Nat} {C : AC} (h : VP d v C) (x : XS) (m : MS) (t : Nat) (ht : t < 22) : ∀ s, VL (sput (P d x m) (sAd t) s) v C := by
  intro s
  rw [P_s d x m t ht]
  exact h.1 _ _
theorem X_isReached (k : Nat) (d : AH) (x : XS) (m : MS) (t : Nat) (ht : t < 22) (C : AC) (A : AA) (hp : A.2.2 0 ≤ C.1) (hC : XC d C x) (hA : XA C A x t) (g : Nat) (hg : g < 6) : callR (k + 2) n_X0_isReached [.ref 0, .ref (sAd t), .int (nI g)] (P d x m) = some (.inl (some (.int (bI (rA C A g)))), P d x m) := by
  have h6 := hC.2.1
  obtain ⟨z, ez, hz⟩ := X_far k (hC.1.1 x m) (A.2.2 0) (g + 1) (by omega) (by omega)
  simp (disch := omega) only [e_X0_isReached_0, e_X0_isReached_20, e_X0_isReached_24, e_X0_isReached_25, c_X0_isReached, cond_true, cond_false, Option.bind_some, rI_s, rL_s, rR_s, rV_s, cnd_d, cnd_ne, cnd_eq, bI_d0, bI_t0, ite_not, decide_eq_false_iff_not, decide_eq_true_eq, lg_cmp_ge, lg_cmp_le, lg_cmp_gt, lg_cmp_lt, lg_cmp_eq, okb_1, okb_0, okb_b, li_2, li_3, li_4, li_5, li_6, li_7, li_8, li_9, li_10, li_11, li_12, li_13, li_14, li_15, li_16, li_18, li_20, li_22, li_24, li_25, li_26, li_28, li_32, li_38, li_40, li_43, li_44, li_45, li_46, li_47, li_48, li_49, li_50, li_54, li_56, li_59, li_60, li_61, li_64, li_91, li_93, li_99, li_100, li_111, li_112, li_117, li_122, li_123, li_131, li_132, li_200, li_255, li_256, li_400, li_560, li_9999, li_99999, li_65536, pk_mul, nI_add, nI_1, neg_lt0, neg_le0, nI_nn, nI_nlt0, P_isO, rp_0, rp_1, rp_2, rp_3, rp_4, rp_5, rp_6, rp_7, rp_8, rp_9, lp_0, lp_1, lp_2, lp_3, lp_4, sp_0, sp_1, sp_2, sp_3, sp_4, wp_5, wp_6, wp_7, wp_8, wp_9, isO_X, rx_0, hA.1.2.2.2.1, ez]
  unfold rA
  rcases hz with hz | hz
  · rw [hz.2.2, if_neg (Int32.not_le.mpr hz.2.1)]
    simp [hz.1, bI]
  · rw [hz.2, if_pos (by decide)]
    simp [Int32.not_le.mpr hz.1, bI]
theorem X_nextL (k : Nat) (d : AH) (m : MS) (t : Nat) (ht : t < 22) (C : AC) (A : AA) (hp : A.2.2 0 ≤ C.1) (q : Nat × (Nat → Nat)) (eq : C.2.2.2.2.2 = some q) (x : XS) (hC : XC d C x) (hA : VX C A (x.2.2.2.1 t)) : ∀ r i : Nat, i + r = q.1 → evR T_X0_nextOf (callR (k + 2)) 0 ([(0, .ref 0), (1, .ref (sAd t))], [], P d (xF x 16 (nI i)) m) = some (.inl (some (.int (oI (nextR (rA C A) q.2 r i).1))), P d (xF x 16 (nI (nextR (rA C A) q.2 r i).2)) m)
  | 0, i, hi => by
    have hr := hC.2.2.2.1
    rw [eq] at hr
    rw [e_X0_nextOf_0]
    simp (disch := omega) only [e_X0_nextOf_11, e_X0_nextOf_40, e_X0_nextOf_52, c_X0_nextOf, cond_true, cond_false, Option.bind_some, rI_s, rL_s, rR_s, rV_s, cnd_d, cnd_ne, cnd_eq, bI_d0, bI_t0, ite_not, decide_eq_false_iff_not, decide_eq_true_eq, lg_cmp_ge, lg_cmp_le, lg_cmp_gt, lg_cmp_lt, lg_cmp_eq, okb_1, okb_0, okb_b, li_2, li_3, li_4, li_5, li_6, li_7, li_8, li_9, li_10, li_11, li_12, li_13, li_14, li_15, li_16, li_18, li_20, li_22, li_24, li_25, li_26, li_28, li_32, li_38, li_40, li_43, li_44, li_45, li_46, li_47, li_48, li_49, li_50, li_54, li_56, li_59, li_60, li_61, li_64, li_91, li_93, li_99, li_100, li_111, li_112, li_117, li_122, li_123, li_131, li_132, li_200, li_255, li_256, li_400, li_560, li_9999, li_10000, li_99999, li_65536, pk_mul, nI_add, nI_1, neg_lt0, neg_le0, nI_nn, nI_nlt0, rx_16, rx_15, xF_s, xF_n, hr.2.2.1, show i = q.1 by omega, le_rT, if_true]
    rfl
  | r + 1, i, hi => by
    have hr := hC.2.2.2.1
    rw [eq] at hr
    have hri := hr.2.2.2 i (by omega)
    have hl := hri.2
    have h6 := hr.1
    have e4 : xF (xF x 16 (nI i)) 16 (nI (i + 1)) = xF x 16 (nI (i + 1)) := by unfold xF; simp only [bx_uu]
    have hC' : XC d C (xF x 16 (nI (i + 1))) := XC_fr (t := t) hC (xF_FX x t 16 _ (by omega))
    have er := X_isReached k d (xF x 16 (nI (i + 1))) m t ht C (rowA A (i + 1)) hp hC' ⟨hA, fun _ => xF_s _ _ _⟩ (q.2 i) hri.2
    have er2 : rA C (rowA A (i + 1)) (q.2 i) = rA C A (q.2 i) := rfl
    rw [er2] at er
    rw [e_X0_nextOf_0]
    simp (disch := omega) only [e_X0_nextOf_11, e_X0_nextOf_40, e_X0_nextOf_52, c_X0_nextOf, cond_true, cond_false, Option.bind_some, rI_s, rL_s, rR_s, rV_s, cnd_d, cnd_ne, cnd_eq, bI_d0, bI_t0, ite_not, decide_eq_false_iff_not, decide_eq_true_eq, lg_cmp_ge, lg_cmp_le, lg_cmp_gt, lg_cmp_lt, lg_cmp_eq, okb_1, okb_0, okb_b, li_2, li_3, li_4, li_5, li_6, li_7, li_8, li_9, li_10, li_11, li_12, li_13, li_14, li_15, li_16, li_18, li_20, li_22, li_24, li_25, li_26, li_28, li_32, li_38, li_40, li_43, li_44, li_45, li_46, li_47, li_48, li_49, li_50, li_54, li_56, li_59, li_60, li_61, li_64, li_91, li_93, li_99, li_100, li_111, li_112, li_117, li_122, li_123, li_131, li_132, li_200, li_255, li_256, li_400, li_560, li_9999, li_10000, li_99999, li_65536, pk_mul, nI_add, nI_1, neg_lt0, neg_le0, nI_nn, nI_nlt0, rx_16, rx_15, rx_13, lx_25, wx_16, xF_s, xF_n, hr.2.2.1, nI_leP, if_neg (show ¬ q.1 ≤ i by omega), e4, nI_pred, show (xF x 16 (nI (i + 1))).2.1 = x.2.1 from rfl, hri.1, er]
    unfold nextR
    by_cases hc : rA C A (q.2 i) = true
    · rw [if_neg (by rw [hc]; decide), if_pos hc]
      rfl
    · rw [if_pos (by simpa using hc), if_neg hc]
      exact X_nextL k d m t ht C A hp q eq x hC hA r (i + 1) (by omega)
theorem pc_all (k : Nat) (h : AH) (s : Int32) : callR (k + 1) n_J14_bitCount [.int s] h = some (.inl (some (.int (pcI s))), h) := by
  simp only [e_J14_bitCount_0, c_J14_bitCount]
  rfl
