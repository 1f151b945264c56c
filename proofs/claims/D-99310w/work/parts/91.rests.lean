/-! rests -/
theorem d5 : ∀ i, i < 25 → nI i / (5 : Int32) = nI (i / 5) := by decide
theorem m5 : ∀ i, i < 25 → nI i - nI (i / 5) * (5 : Int32) = nI (i % 5) := by decide
theorem t5 : ∀ i, i < 25 → (5 : Int32) * nI i = nI (5 * i) := by decide
theorem t2 : ∀ i, i < 50 → (2 : Int32) * nI i = nI (2 * i) := by decide
def rsA (A : AA) (p q i : Nat) : AA := setA (setA A 2 p (5 * nI (i / 5))) 2 q (5 * nI (i % 5))
def rs1 (C : AC) (A : AA) (p q n i : Nat) : Int32 := (itA C n (rsA A p q i)).1 0 p - nI (i / 5)
def rs2 (C : AC) (A : AA) (p q n i : Nat) : Int32 := (itA C n (rsA A p q i)).1 0 q - nI (i % 5)
def rsG (f g : Nat → Int32) (a b : Nat) : Nat → Nat → Bool
  | 0, _ => true
  | r + 1, k => if f (5 * a + b) < f (5 * k + b) then false else if g (5 * a + k) ≤ g (5 * a + b) then rsG f g a b r (k + 1) else false
def dn (b : Nat → Bool) : Nat → Nat → Nat
  | _, 0 => 0
  | i, r + 1 => dn b (i + 1) r + (if b i = true then 1 else 0)
def fd (b : Nat → Bool) : Nat → Nat → Option Nat
  | _, 0 => none
  | i, r + 1 => if b i = true then some i else fd b (i + 1) r
theorem fd_lt (b : Nat → Bool) : ∀ r i j, fd b i r = some j → j < i + r
  | 0, _, _, h => by cases h
  | r + 1, i, j, h => by
    unfold fd at h
    split at h
    · cases h; omega
    · have := fd_lt b r (i + 1) j h; omega
theorem dn_le (b : Nat → Bool) : ∀ r i, dn b i r ≤ r
  | 0, _ => Nat.le_refl _
  | r + 1, i => by
    have := dn_le b r (i + 1)
    unfold dn
    split <;> omega
def oE (o p : Option Nat) : Option Nat := match o with
  | some j => some j
  | none => p
def rsR (w : Int32) (c : Nat) (o : Option Nat) : Int32 := if w = 0 then nI c else match o with
  | none => -2
  | some j => if w = 1 then 5 * (nI j / 5) else 5 * (nI j - nI j / 5 * 5)
theorem xA_Sim (x : XS) (j i : Nat) (v : Int32) (h : j ≠ 21 ∧ j ≠ 22 ∧ j ≠ 23) : SimX x (xA x j i v) := ⟨fun _ _ _ _ _ => rfl, fun q hq => xA_o _ _ _ _ _ (by omega), fun _ _ => rfl, rfl⟩
theorem X_laysL (k : Nat) (d : AH) (m : MS) (C : AC) (fo : Option Nat) (F : Nat → (Nat → Int64) → Int64) (n : Nat) (hn : n ≤ 60) (h6 : C.1 ≤ 6) (A : AA) (hW : WA (CW C fo F none) A) (x0 : XS) (hC : XC d (CW C fo F none) x0) (hX : VX C A (x0.2.2.2.1 0)) (p q : Nat) (hp : p < C.1) (hq : q < C.1) : ∀ (r i : Nat) (x : XS), i + r = 25 → SimX x0 x → (∀ j, j < i → x.2.1 148 j = rs1 (CW C fo F none) A p q n j ∧ x.2.1 149 j = rs2 (CW C fo F none) A p q n j) → ∃ x', evR T_X0_laysWords (callR (k + 205)) 3 ([(0, .ref 0), (1, .int (nI p)), (2, .int (nI q)), (3, .int (nI n)), (4, .int (nI i))], [], P d x m) = some (.inl none, P d x' m) ∧ SimX x0 x' ∧ ∀ j, j < 25 → x'.2.1 148 j = rs1 (CW C fo F none) A p q n j ∧ x'.2.1 149 j = rs2 (CW C fo F none) A p q n j
  | 0, i, x, hi, hs, hr => by
    have e : i = 25 := by omega
    subst e
    refine ⟨x, ?_, hs, hr⟩
    rw [e_X0_laysWords_3]
    simp (disch := omega) only [e_X0_laysWords_104, cond_true, cond_false, Option.bind_some, rI_s, rL_s, rR_s, rV_s, cnd_d, cnd_ne, cnd_eq, bI_d0, bI_t0, ite_not, decide_eq_false_iff_not, decide_eq_true_eq, lg_cmp_ge, lg_cmp_le, lg_cmp_gt, lg_cmp_lt, lg_cmp_eq, okb_1, okb_0, okb_b, eq_self, if_true, if_false, Bool.true_eq_false, Bool.false_eq_true, li_25, le_rT]
  | r + 1, i, x, hi, hs, hr => by
    obtain ⟨x1, e1, f1, v1, -⟩ := X_keep (k + 204) d x m C A h6 (by rw [hs.2.2.1 0 (by omega)]; exact hX)
    have hs1 := SimX_trans hs (FX_Sim f1)
    have r2 : ∀ x, rdR (P d x m) 12 2 2 = some 15 := fun x => rp_2 d x m 1 (by omega)
    have r0 : ∀ x, rdR (P d x m) 12 2 0 = some 13 := fun x => rp_0 d x m 1 (by omega)
    have s1 : stI (P d x1 m) 15 0 (nI p) (5 * nI (i / 5)) = some (P d (xS x1 1 (sA (x1.2.2.2.1 1) 2 p (5 * nI (i / 5)))) m) := sp_2 d x1 m 1 (by omega) p _ (by omega)
    have s2 : stI (P d (xS x1 1 (sA (x1.2.2.2.1 1) 2 p (5 * nI (i / 5)))) m) 15 0 (nI q) (5 * nI (i % 5)) = some (P d (xS x1 1 (sA (sA (x1.2.2.2.1 1) 2 p (5 * nI (i / 5))) 2 q (5 * nI (i % 5)))) m) := by
      have := sp_2 d (xS x1 1 (sA (x1.2.2.2.1 1) 2 p (5 * nI (i / 5)))) m 1 (by omega) q (5 * nI (i % 5)) (by omega)
      rw [xS_s, xS_S] at this
      exact this
    have hs2 := SimX_trans hs1 (FX_Sim (xS_FX x1 1 (sA (sA (x1.2.2.2.1 1) 2 p (5 * nI (i / 5))) 2 q (5 * nI (i % 5)))))
    have vc : VX C (rsA A p q i) (sA (sA (x1.2.2.2.1 1) 2 p (5 * nI (i / 5))) 2 q (5 * nI (i % 5))) := VX_says (VX_says v1 p hp _) q hq _
    have wc : WA (CW C fo F none) (rsA A p q i) := WA_says (WA_says hW p _) q _
    obtain ⟨x3, e3, f3, v3⟩ := X_goesTill k d m (CW C fo F none) n (by omega) (rsA A p q i) (xS x1 1 (sA (sA (x1.2.2.2.1 1) 2 p (5 * nI (i / 5))) 2 q (5 * nI (i % 5)))) wc (SimX_XC hs2 hC) (Rel_XA (by rw [xS_s]; exact vc))
    have hs3 := SimX_trans hs2 (FX_Sim f3)
    have l1 : ldI (P d x3 m) 13 0 (nI p) = some ((itA (CW C fo F none) n (rsA A p q i)).1 0 p) := by rw [← (v3.1.1 p hp).1]; exact lp_0 d x3 m 1 (by omega) p (by omega)
    have t1 : stI (P d x3 m) 148 0 (nI i) ((itA (CW C fo F none) n (rsA A p q i)).1 0 p - nI (i / 5)) = some (P d (xA x3 148 i (rs1 (CW C fo F none) A p q n i)) m) := sx_148 d x3 m i _ (by omega)
    have l2 : ldI (P d (xA x3 148 i (rs1 (CW C fo F none) A p q n i)) m) 13 0 (nI q) = some ((itA (CW C fo F none) n (rsA A p q i)).1 0 q) := by rw [← (v3.1.1 q hq).1]; exact lp_0 d (xA x3 148 i (rs1 (CW C fo F none) A p q n i)) m 1 (by omega) q (by omega)
    have t2 : stI (P d (xA x3 148 i (rs1 (CW C fo F none) A p q n i)) m) 149 0 (nI i) ((itA (CW C fo F none) n (rsA A p q i)).1 0 q - nI (i % 5)) = some (P d (xA (xA x3 148 i (rs1 (CW C fo F none) A p q n i)) 149 i (rs2 (CW C fo F none) A p q n i)) m) := sx_149 d _ m i _ (by omega)
    have hs4 := SimX_trans (SimX_trans hs3 (xA_Sim x3 148 i (rs1 (CW C fo F none) A p q n i) (by omega))) (xA_Sim (xA x3 148 i (rs1 (CW C fo F none) A p q n i)) 149 i (rs2 (CW C fo F none) A p q n i) (by omega))
    obtain ⟨x5, e5, hs5, hr5⟩ := X_laysL k d m C fo F n hn h6 A hW x0 hC hX p q hp hq r (i + 1) (xA (xA x3 148 i (rs1 (CW C fo F none) A p q n i)) 149 i (rs2 (CW C fo F none) A p q n i)) (by omega) hs4 (fun j hj => by
      have e2 : (xS x1 1 (sA (sA (x1.2.2.2.1 1) 2 p (5 * nI (i / 5))) 2 q (5 * nI (i % 5)))).2.1 = x.2.1 := f1.2.1
      by_cases c : j = i
      · subst c
        refine ⟨?_, xA_s _ _ _ _⟩
        rw [xA_o _ _ _ _ _ (by omega), xA_s]
      · rw [xA_o _ _ _ _ _ (by omega), xA_n _ _ _ _ _ c, xA_n _ _ _ _ _ c, xA_o _ _ _ _ _ (by omega), f3.2.1, e2]
        exact hr j (by omega))
    refine ⟨x5, ?_, hs5, hr5⟩
    rw [← e5, e_X0_laysWords_3]
    have hn25 : ¬ (25 : Int32) ≤ nI i := by rw [show (25 : Int32) = nI 25 from rfl, nI_leP (by omega) (by omega)]; omega
    simp (disch := omega) only [e_X0_laysWords_10, cond_true, cond_false, Option.bind_some, rI_s, rL_s, rR_s, rV_s, cnd_d, cnd_ne, cnd_eq, bI_d0, bI_t0, ite_not, decide_eq_false_iff_not, decide_eq_true_eq, lg_cmp_ge, lg_cmp_le, lg_cmp_gt, lg_cmp_lt, lg_cmp_eq, okb_1, okb_0, okb_b, eq_self, if_true, if_false, Bool.true_eq_false, Bool.false_eq_true, hn25, d5 i (by omega), m5 i (by omega), rx_1, rx_2, rx_23, rx_24, e1, r2, r0, s1, s2, e3, l1, t1, l2, t2, nI_1]
theorem X_isRest (k : Nat) (d : AH) (x : XS) (m : MS) (f g : Nat → Int32) (c : Nat) (hc : c < 25) (hf : ∀ j, j < 25 → x.2.1 148 j = f j ∧ x.2.1 149 j = g j) : callR (k + 1) n_X0_isRest [.ref 0, .int (nI c)] (P d x m) = some (.inl (some (.int (bI (rsG f g (c / 5) (c % 5) 5 0)))), P d x m) := by
  have loop : ∀ r i : Nat, i + r = 5 → evR T_X0_isRest (callR k) 2 ([(0, .ref 0), (1, .int (nI c)), (2, .int (nI i))], [], P d x m) = some (.inl (some (.int (bI (rsG f g (c / 5) (c % 5) r i)))), P d x m) := by
    intro r
    induction r with
    | zero =>
      intro i hi
      have e : i = 5 := by omega
      subst e
      rw [e_X0_isRest_2]
      simp (disch := omega) only [e_X0_isRest_57, cond_true, cond_false, Option.bind_some, rI_s, rL_s, rR_s, rV_s, cnd_d, cnd_ne, cnd_eq, bI_d0, bI_t0, ite_not, decide_eq_false_iff_not, decide_eq_true_eq, lg_cmp_ge, lg_cmp_le, lg_cmp_gt, lg_cmp_lt, lg_cmp_eq, okb_1, okb_0, okb_b, eq_self, if_true, if_false, Bool.true_eq_false, Bool.false_eq_true, li_5, le_rT]
      rfl
    | succ r ih =>
      intro i hi
      have hr := ih (i + 1) (by omega)
      have hn5 : ¬ (5 : Int32) ≤ nI i := by rw [show (5 : Int32) = nI 5 from rfl, nI_leP (by omega) (by omega)]; omega
      have e1 : c - c % 5 + i = 5 * (c / 5) + i := by omega
      have e2 : 5 * (c / 5) + c % 5 = c := by omega
      have l1 : ldI (P d x m) 148 0 (nI (5 * i + c % 5)) = some (f (5 * i + c % 5)) := by rw [← (hf (5 * i + c % 5) (by omega)).1]; exact lx_148 d x m _ (by omega)
      have l2 : ldI (P d x m) 148 0 (nI c) = some (f (5 * (c / 5) + c % 5)) := by rw [e2, ← (hf c hc).1]; exact lx_148 d x m _ (by omega)
      have l3 : ldI (P d x m) 149 0 (nI (c - c % 5 + i)) = some (g (5 * (c / 5) + i)) := by rw [e1, ← (hf (5 * (c / 5) + i) (by omega)).2]; exact lx_149 d x m _ (by omega)
      have l4 : ldI (P d x m) 149 0 (nI c) = some (g (5 * (c / 5) + c % 5)) := by rw [e2, ← (hf c hc).2]; exact lx_149 d x m _ (by omega)
      have hu : rsG f g (c / 5) (c % 5) (r + 1) i = if f (5 * (c / 5) + c % 5) < f (5 * i + c % 5) then false else if g (5 * (c / 5) + i) ≤ g (5 * (c / 5) + c % 5) then rsG f g (c / 5) (c % 5) r (i + 1) else false := rfl
      rw [hu, e_X0_isRest_2]
      by_cases c1 : f (5 * (c / 5) + c % 5) < f (5 * i + c % 5)
      · rw [if_pos c1]
        simp (disch := omega) only [e_X0_isRest_7, e_X0_isRest_49, cond_true, cond_false, Option.bind_some, rI_s, rL_s, rR_s, rV_s, cnd_d, cnd_ne, cnd_eq, bI_d0, bI_t0, ite_not, decide_eq_false_iff_not, decide_eq_true_eq, lg_cmp_ge, lg_cmp_le, lg_cmp_gt, lg_cmp_lt, lg_cmp_eq, okb_1, okb_0, okb_b, eq_self, if_true, if_false, Bool.true_eq_false, Bool.false_eq_true, hn5, d5 c hc, m5 c hc, t5 i (by omega), nI_add, rx_23, l1, l2, c1]
        rfl
      · rw [if_neg c1]
        by_cases c2 : g (5 * (c / 5) + i) ≤ g (5 * (c / 5) + c % 5)
        · rw [if_pos c2, ← hr]
          simp (disch := omega) only [e_X0_isRest_7, e_X0_isRest_28, e_X0_isRest_51, cond_true, cond_false, Option.bind_some, rI_s, rL_s, rR_s, rV_s, cnd_d, cnd_ne, cnd_eq, bI_d0, bI_t0, ite_not, decide_eq_false_iff_not, decide_eq_true_eq, lg_cmp_ge, lg_cmp_le, lg_cmp_gt, lg_cmp_lt, lg_cmp_eq, okb_1, okb_0, okb_b, eq_self, if_true, if_false, Bool.true_eq_false, Bool.false_eq_true, hn5, d5 c hc, m5 c hc, t5 i (by omega), nI_add, pk_sub (show c % 5 ≤ c by omega), rx_23, rx_24, l1, l2, l3, l4, c1, c2, nI_1]
        · rw [if_neg c2]
          simp (disch := omega) only [e_X0_isRest_7, e_X0_isRest_28, e_X0_isRest_49, cond_true, cond_false, Option.bind_some, rI_s, rL_s, rR_s, rV_s, cnd_d, cnd_ne, cnd_eq, bI_d0, bI_t0, ite_not, decide_eq_false_iff_not, decide_eq_true_eq, lg_cmp_ge, lg_cmp_le, lg_cmp_gt, lg_cmp_lt, lg_cmp_eq, okb_1, okb_0, okb_b, eq_self, if_true, if_false, Bool.true_eq_false, Bool.false_eq_true, hn5, d5 c hc, m5 c hc, t5 i (by omega), nI_add, pk_sub (show c % 5 ≤ c by omega), rx_23, rx_24, l1, l2, l3, l4, c1, c2]
          rfl
  have := loop 5 0 (by omega)
  rw [nI_0] at this
  simp (disch := omega) only [c_X0_isRest, e_X0_isRest_0, cond_true, cond_false, Option.bind_some, rI_s, rL_s, rR_s, rV_s, cnd_d, cnd_ne, cnd_eq, bI_d0, bI_t0, ite_not, decide_eq_false_iff_not, decide_eq_true_eq, lg_cmp_ge, lg_cmp_le, lg_cmp_gt, lg_cmp_lt, lg_cmp_eq, okb_1, okb_0, okb_b, eq_self, if_true, if_false, Bool.true_eq_false, Bool.false_eq_true, isO_X, this]
theorem X_restsL (k : Nat) (d : AH) (x : XS) (m : MS) (f g : Nat → Int32) (hf : ∀ j, j < 25 → x.2.1 148 j = f j ∧ x.2.1 149 j = g j) (w : Int32) : ∀ (r i c : Nat) (o : Option Nat), i + r = 25 → c ≤ i → (c = 0 ↔ o = none) → (∀ j, o = some j → j < 25) → evR T_X0_rests (callR (k + 1)) 64 ([(0, .ref 0), (4, .int w), (5, .int (nI c)), (6, .int (oI o)), (7, .int (nI i))], [], P d x m) = some (.inl (some (.int (rsR w (c + dn (fun i => rsG f g (i / 5) (i % 5) 5 0) i r) (oE o (fd (fun i => rsG f g (i / 5) (i % 5) 5 0) i r))))), P d x m)
  | 0, i, c, o, hi, hci, hco, ho => by
    have e : i = 25 := by omega
    subst e
    have hd : dn (fun i => rsG f g (i / 5) (i % 5) 5 0) 25 0 = 0 := rfl
    have hfd : fd (fun i => rsG f g (i / 5) (i % 5) 5 0) 25 0 = none := rfl
    have hoo : oE o none = o := by cases o <;> rfl
    rw [hd, hfd, hoo, Nat.add_zero c, e_X0_rests_64]
    unfold rsR
    by_cases cw : w = 0
    · simp (disch := omega) only [e_X0_rests_106, e_X0_rests_111, cond_true, cond_false, Option.bind_some, rI_s, rL_s, rR_s, rV_s, cnd_d, cnd_ne, cnd_eq, bI_d0, bI_t0, ite_not, decide_eq_false_iff_not, decide_eq_true_eq, lg_cmp_ge, lg_cmp_le, lg_cmp_gt, lg_cmp_lt, lg_cmp_eq, okb_1, okb_0, okb_b, eq_self, if_true, if_false, Bool.true_eq_false, Bool.false_eq_true, li_25, le_rT, cw]
    · cases o with
      | none =>
        simp (disch := omega) only [e_X0_rests_106, e_X0_rests_114, e_X0_rests_120, e_X0_rests_144, cond_true, cond_false, Option.bind_some, rI_s, rL_s, rR_s, rV_s, cnd_d, cnd_ne, cnd_eq, bI_d0, bI_t0, ite_not, decide_eq_false_iff_not, decide_eq_true_eq, lg_cmp_ge, lg_cmp_le, lg_cmp_gt, lg_cmp_lt, lg_cmp_eq, okb_1, okb_0, okb_b, eq_self, if_true, if_false, Bool.true_eq_false, Bool.false_eq_true, li_25, le_rT, cw, show oI none = -1 from rfl]
      | some j =>
        have hj := ho j rfl
        have hne : ¬ nI j = -1 := fun e => absurd (e ▸ nI_pos' (n := j) (by omega)) (by decide)
        by_cases c1 : w = 1
        · simp (disch := omega) only [e_X0_rests_106, e_X0_rests_114, e_X0_rests_125, e_X0_rests_132, e_X0_rests_143, e_X0_rests_144, cond_true, cond_false, Option.bind_some, rI_s, rL_s, rR_s, rV_s, cnd_d, cnd_ne, cnd_eq, bI_d0, bI_t0, ite_not, decide_eq_false_iff_not, decide_eq_true_eq, lg_cmp_ge, lg_cmp_le, lg_cmp_gt, lg_cmp_lt, lg_cmp_eq, okb_1, okb_0, okb_b, eq_self, if_true, if_false, Bool.true_eq_false, Bool.false_eq_true, li_25, le_rT, cw, show oI (some j) = nI j from rfl, hne, c1, show ¬ (1 : Int32) = 0 by decide]
        · simp (disch := omega) only [e_X0_rests_106, e_X0_rests_114, e_X0_rests_125, e_X0_rests_139, e_X0_rests_143, e_X0_rests_144, cond_true, cond_false, Option.bind_some, rI_s, rL_s, rR_s, rV_s, cnd_d, cnd_ne, cnd_eq, bI_d0, bI_t0, ite_not, decide_eq_false_iff_not, decide_eq_true_eq, lg_cmp_ge, lg_cmp_le, lg_cmp_gt, lg_cmp_lt, lg_cmp_eq, okb_1, okb_0, okb_b, eq_self, if_true, if_false, Bool.true_eq_false, Bool.false_eq_true, li_25, le_rT, cw, show oI (some j) = nI j from rfl, hne, c1]
  | r + 1, i, c, o, hi, hci, hco, ho => by
    have hR := X_isRest k d x m f g i (by omega) hf
    have hn25 : ¬ (25 : Int32) ≤ nI i := by rw [show (25 : Int32) = nI 25 from rfl, nI_leP (by omega) (by omega)]; omega
    have hd : dn (fun i => rsG f g (i / 5) (i % 5) 5 0) i (r + 1) = dn (fun i => rsG f g (i / 5) (i % 5) 5 0) (i + 1) r + (if rsG f g (i / 5) (i % 5) 5 0 = true then 1 else 0) := rfl
    have hfd : fd (fun i => rsG f g (i / 5) (i % 5) 5 0) i (r + 1) = if rsG f g (i / 5) (i % 5) 5 0 = true then some i else fd (fun i => rsG f g (i / 5) (i % 5) 5 0) (i + 1) r := rfl
    rw [hd, hfd, e_X0_rests_64]
    cases cb : rsG f g (i / 5) (i % 5) 5 0 with
    | false =>
      rw [cb] at hR
      have hr := X_restsL k d x m f g hf w r (i + 1) c o (by omega) (by omega) hco ho
      rw [if_neg (by decide), if_neg (by decide), Nat.add_zero (dn (fun i => rsG f g (i / 5) (i % 5) 5 0) (i + 1) r), ← hr]
      simp (disch := omega) only [e_X0_rests_71, e_X0_rests_80, e_X0_rests_100, cond_true, cond_false, Option.bind_some, rI_s, rL_s, rR_s, rV_s, cnd_d, cnd_ne, cnd_eq, bI_d0, bI_t0, ite_not, decide_eq_false_iff_not, decide_eq_true_eq, lg_cmp_ge, lg_cmp_le, lg_cmp_gt, lg_cmp_lt, lg_cmp_eq, okb_1, okb_0, okb_b, eq_self, if_true, if_false, Bool.true_eq_false, Bool.false_eq_true, hn25, hR, nI_1]
    | true =>
      rw [cb] at hR
      rw [if_pos rfl, if_pos rfl]
      cases o with
      | none =>
        have hc0 : c = 0 := hco.mpr rfl
        subst hc0
        have hr := X_restsL k d x m f g hf w r (i + 1) 1 (some i) (by omega) (by omega) (by simp) (fun j e => by cases e; omega)
        rw [show 0 + (dn (fun i => rsG f g (i / 5) (i % 5) 5 0) (i + 1) r + 1) = 1 + dn (fun i => rsG f g (i / 5) (i % 5) 5 0) (i + 1) r by omega]
        rw [show oE none (some i) = oE (some i) (fd (fun i => rsG f g (i / 5) (i % 5) 5 0) (i + 1) r) from rfl, ← hr]
        simp (disch := omega) only [e_X0_rests_71, e_X0_rests_83, e_X0_rests_88, e_X0_rests_95, e_X0_rests_100, cond_true, cond_false, Option.bind_some, rI_s, rL_s, rR_s, rV_s, cnd_d, cnd_ne, cnd_eq, bI_d0, bI_t0, ite_not, decide_eq_false_iff_not, decide_eq_true_eq, lg_cmp_ge, lg_cmp_le, lg_cmp_gt, lg_cmp_lt, lg_cmp_eq, okb_1, okb_0, okb_b, eq_self, if_true, if_false, Bool.true_eq_false, Bool.false_eq_true, hn25, hR, nI_0, show nI 1 = (0 : Int32) + 1 from rfl, show oI (some i) = nI i from rfl, nI_1]
      | some j =>
        have hc0 : ¬ c = 0 := fun h => nomatch hco.mp h
        have hr := X_restsL k d x m f g hf w r (i + 1) (c + 1) (some j) (by omega) (by omega) (by simp) ho
        have hcn : ¬ nI c = 0 := by rw [← nI_0, nI_eqP (by omega) (by omega)]; exact hc0
        rw [show c + (dn (fun i => rsG f g (i / 5) (i % 5) 5 0) (i + 1) r + 1) = c + 1 + dn (fun i => rsG f g (i / 5) (i % 5) 5 0) (i + 1) r by omega]
        rw [show oE (some j) (some i) = oE (some j) (fd (fun i => rsG f g (i / 5) (i % 5) 5 0) (i + 1) r) from rfl, ← hr]
        simp (disch := omega) only [e_X0_rests_71, e_X0_rests_83, e_X0_rests_93, e_X0_rests_95, e_X0_rests_100, cond_true, cond_false, Option.bind_some, rI_s, rL_s, rR_s, rV_s, cnd_d, cnd_ne, cnd_eq, bI_d0, bI_t0, ite_not, decide_eq_false_iff_not, decide_eq_true_eq, lg_cmp_ge, lg_cmp_le, lg_cmp_gt, lg_cmp_lt, lg_cmp_eq, okb_1, okb_0, okb_b, eq_self, if_true, if_false, Bool.true_eq_false, Bool.false_eq_true, hn25, hR, hcn, nI_1]
