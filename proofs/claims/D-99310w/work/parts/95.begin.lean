/-! all as told -/
def begA (sd : Nat → Int32) : AA := ((fun j h => if j = 0 then sd (93 + 3 * h) else if j = 1 then sd (94 + 3 * h) else if j = 2 then sd (95 + 3 * h) else 0), (fun k => if k = 2 then sd 1 else 0), (fun _ => 0))
def Told (d : AH) (v : Nat) (C : AC) (sd : Nat → Int32) : Prop := VP d v C ∧ ∀ x m, rdI (P d x m) v 1 3 = some (sd 1) ∧ ∀ g, g < C.1 → HTold (P d x m) v g sd
def BgS (C : AC) (sd : Nat → Int32) (i : Nat) (s : SS) : Prop := ∀ g, g < i → s.1 0 g = (if g < C.1 then sd (93 + 3 * g) else 0) ∧ s.1 1 g = (if g < C.1 then sd (94 + 3 * g) else 0) ∧ s.1 2 g = (if g < C.1 then sd (95 + 3 * g) else 0) ∧ s.1 3 g = 0 ∧ s.1 4 g = 0
theorem BgS_s {C : AC} {sd : Nat → Int32} {i : Nat} {s : SS} (h : BgS C sd i s) (a b c : Int32) (ha : a = (if i < C.1 then sd (93 + 3 * i) else 0)) (hb : b = (if i < C.1 then sd (94 + 3 * i) else 0)) (hc : c = (if i < C.1 then sd (95 + 3 * i) else 0)) : BgS C sd (i + 1) (sA (sA (sA (sA (sA s 0 i a) 1 i b) 2 i c) 3 i 0) 4 i 0) := by
  intro g hg
  by_cases e : g = i
  · subst e
    refine ⟨?_, ?_, ?_, ?_, ?_⟩
    · rw [← ha]; simp [sA, va_up]
    · rw [← hb]; simp [sA, va_up]
    · rw [← hc]; simp [sA, va_up]
    · simp [sA, va_up]
    · simp [sA, va_up]
  · have := h g (by omega)
    obtain ⟨h0, h1, h2, h3, h4⟩ := this
    refine ⟨?_, ?_, ?_, ?_, ?_⟩
    · rw [← h0]; simp [sA, va_up, e]
    · rw [← h1]; simp [sA, va_up, e]
    · rw [← h2]; simp [sA, va_up, e]
    · rw [← h3]; simp [sA, va_up, e]
    · rw [← h4]; simp [sA, va_up, e]
theorem X_beginL (k : Nat) (d : AH) (m : MS) (t : Nat) (ht : t < 22) (C : AC) (sd : Nat → Int32) (v : Nat) (h6 : C.1 ≤ 6) (hv : Told d v C sd) : ∀ (r i : Nat) (x : XS), i + r = 6 → BgS C sd i (x.2.2.2.1 t) → ∃ s', evR T_X2_begin (callR (k + 200)) 2 ([(0, .ref (sAd t)), (1, .ref v), (2, .int (nI i))], [], P d x m) = evR T_X2_begin (callR (k + 200)) 135 ([(0, .ref (sAd t)), (1, .ref v)], [], P d (xS x t s') m) ∧ BgS C sd 6 s'
  | 0, i, x, hi, hs => by
    have e : i = 6 := by omega
    subst e
    refine ⟨x.2.2.2.1 t, ?_, hs⟩
    rw [xS_id, e_X2_begin_2]
    simp (disch := omega) only [cond_true, cond_false, Option.bind_some, rI_s, rL_s, rR_s, rV_s, cnd_d, cnd_ne, cnd_eq, bI_d0, bI_t0, ite_not, decide_eq_false_iff_not, decide_eq_true_eq, lg_cmp_ge, lg_cmp_le, lg_cmp_gt, lg_cmp_lt, lg_cmp_eq, okb_1, okb_0, okb_b, eq_self, if_true, if_false, Bool.true_eq_false, Bool.false_eq_true, li_6, le_rT]
  | r + 1, i, x, hi, hs => by
    have hn6 : ¬ (6 : Int32) ≤ nI i := by rw [show (6 : Int32) = nI 6 from rfl, nI_leP (by omega) (by omega)]; omega
    have r0 : ∀ x, rdR (P d x m) (sAd t) 2 0 = some (sAd t + 1) := fun x => rp_0 d x m t ht
    have r1 : ∀ x, rdR (P d x m) (sAd t) 2 1 = some (sAd t + 2) := fun x => rp_1 d x m t ht
    have r2 : ∀ x, rdR (P d x m) (sAd t) 2 2 = some (sAd t + 3) := fun x => rp_2 d x m t ht
    have r3 : ∀ x, rdR (P d x m) (sAd t) 2 3 = some (sAd t + 4) := fun x => rp_3 d x m t ht
    have r4 : ∀ x, rdR (P d x m) (sAd t) 2 4 = some (sAd t + 5) := fun x => rp_4 d x m t ht
    have s0 : ∀ x (v : Int32), stI (P d x m) (sAd t + 1) 0 (nI i) v = some (P d (xS x t (sA (x.2.2.2.1 t) 0 i v)) m) := fun x v => sp_0 d x m t ht i v (by omega)
    have s1 : ∀ x (v : Int32), stI (P d x m) (sAd t + 2) 0 (nI i) v = some (P d (xS x t (sA (x.2.2.2.1 t) 1 i v)) m) := fun x v => sp_1 d x m t ht i v (by omega)
    have s2 : ∀ x (v : Int32), stI (P d x m) (sAd t + 3) 0 (nI i) v = some (P d (xS x t (sA (x.2.2.2.1 t) 2 i v)) m) := fun x v => sp_2 d x m t ht i v (by omega)
    have s3 : ∀ x (v : Int32), stI (P d x m) (sAd t + 4) 0 (nI i) v = some (P d (xS x t (sA (x.2.2.2.1 t) 3 i v)) m) := fun x v => sp_3 d x m t ht i v (by omega)
    have s4 : ∀ x (v : Int32), stI (P d x m) (sAd t + 5) 0 (nI i) v = some (P d (xS x t (sA (x.2.2.2.1 t) 4 i v)) m) := fun x v => sp_4 d x m t ht i v (by omega)
    have l0 : ∀ x, ldI (P d x m) (sAd t + 1) 0 (nI i) = some ((x.2.2.2.1 t).1 0 i) := fun x => lp_0 d x m t ht i (by omega)
    have hh : ∀ x, callR (k + 200) n_X1_houses [.ref v] (P d x m) = some (.inl (some (.int (nI C.1))), P d x m) := fun x => X_houses (k + 198) (hv.1.1 x m)
    by_cases c : i < C.1
    · have hg : ∀ x, ∃ (al o : Nat) (h2 : Int32), rdR (P d x m) v 1 0 = some al ∧ callR (k + 200) n_J2_get [.ref al, .int (nI i)] (P d x m) = some (.inl (some (.ref o)), P d x m) ∧ okC (P d x m) o 6 = some () ∧ rdI (P d x m) o 6 0 = some (sd (93 + 3 * i)) ∧ rdI (P d x m) o 6 1 = some h2 ∧ rdI (P d x m) o 6 2 = some (sd (95 + 3 * i)) ∧ sd (94 + 3 * i) = (if 0 < sd (93 + 3 * i) then h2 else 0) := by
        intro x
        obtain ⟨al, arr, o, h2, a1, a2, a3, a4, -⟩ := (hv.2 x m).2 i c
        exact ⟨al, o, h2, a1, a2 k, by unfold okC; rw [isO_of a3]; rfl, rdI_of a3 0 _ rfl, rdI_of a3 1 _ rfl, rdI_of a3 2 _ rfl, a4⟩
      obtain ⟨al, o, h2, g1, g2, g3, g4, -, -, -⟩ := hg x
      have x1 : xS x t (sA (x.2.2.2.1 t) 0 i (sd (93 + 3 * i))) = xS x t (sA (x.2.2.2.1 t) 0 i (sd (93 + 3 * i))) := rfl
      obtain ⟨al1, o1, ht1, p1, p2, p3, -, p5, -, p7⟩ := hg (xS x t (sA (x.2.2.2.1 t) 0 i (sd (93 + 3 * i))))
      obtain ⟨al2, o2, ht2, q1, q2, q3, -, -, q6, -⟩ := hg (xS x t (sA (sA (x.2.2.2.1 t) 0 i (sd (93 + 3 * i))) 1 i (sd (94 + 3 * i))))
      obtain ⟨s', e', b'⟩ := X_beginL k d m t ht C sd v h6 hv r (i + 1) (xS x t (sA (sA (sA (sA (sA (x.2.2.2.1 t) 0 i (sd (93 + 3 * i))) 1 i (sd (94 + 3 * i))) 2 i (sd (95 + 3 * i))) 3 i 0) 4 i 0)) (by omega) (by rw [xS_s]; exact BgS_s hs _ _ _ (by rw [if_pos c]) (by rw [if_pos c]) (by rw [if_pos c]))
      refine ⟨s', ?_, b'⟩
      rw [xS_S] at e'
      have hcl : ¬ nI C.1 ≤ nI i := by rw [nI_leP (by omega) (by omega)]; omega
      rw [← e', e_X2_begin_2]
      by_cases c2 : 0 < sd (93 + 3 * i)
      · rw [if_pos c2] at p7
        rw [← p7] at p5
        simp (disch := omega) only [e_X2_begin_8, e_X2_begin_16, e_X2_begin_21, e_X2_begin_31, e_X2_begin_49, e_X2_begin_59, e_X2_begin_68, e_X2_begin_86, e_X2_begin_96, e_X2_begin_114, cond_true, cond_false, Option.bind_some, rI_s, rL_s, rR_s, rV_s, cnd_d, cnd_ne, cnd_eq, bI_d0, bI_t0, ite_not, decide_eq_false_iff_not, decide_eq_true_eq, lg_cmp_ge, lg_cmp_le, lg_cmp_gt, lg_cmp_lt, lg_cmp_eq, okb_1, okb_0, okb_b, eq_self, if_true, if_false, Bool.true_eq_false, Bool.false_eq_true, rR_s, hn6, hh, hcl, show ¬ (1 : Int32) = 0 by decide, g1, g2, g3, g4, p1, p2, p3, p5, q1, q2, q3, q6, r0, r1, r2, r3, r4, s0, s1, s2, s3, s4, l0, xS_s, xS_S, sA_s, Int32.not_le.mpr c2, nI_1]
      · rw [if_neg c2] at p7
        rw [p7] at q1 q2 q3 q6
        simp (disch := omega) only [e_X2_begin_8, e_X2_begin_16, e_X2_begin_21, e_X2_begin_31, e_X2_begin_49, e_X2_begin_59, e_X2_begin_85, e_X2_begin_86, e_X2_begin_96, e_X2_begin_114, cond_true, cond_false, Option.bind_some, rI_s, rL_s, rR_s, rV_s, cnd_d, cnd_ne, cnd_eq, bI_d0, bI_t0, ite_not, decide_eq_false_iff_not, decide_eq_true_eq, lg_cmp_ge, lg_cmp_le, lg_cmp_gt, lg_cmp_lt, lg_cmp_eq, okb_1, okb_0, okb_b, eq_self, if_true, if_false, Bool.true_eq_false, Bool.false_eq_true, rR_s, hn6, hh, hcl, show ¬ (1 : Int32) = 0 by decide, g1, g2, g3, g4, q1, q2, q3, q6, r0, r1, r2, r3, r4, s0, s1, s2, s3, s4, l0, xS_s, xS_S, sA_s, Int32.not_lt.mp c2, p7, nI_1]
    · obtain ⟨s', e', b'⟩ := X_beginL k d m t ht C sd v h6 hv r (i + 1) (xS x t (sA (sA (sA (sA (sA (x.2.2.2.1 t) 0 i 0) 1 i 0) 2 i 0) 3 i 0) 4 i 0)) (by omega) (by rw [xS_s]; exact BgS_s hs _ _ _ (by rw [if_neg c]) (by rw [if_neg c]) (by rw [if_neg c]))
      refine ⟨s', ?_, b'⟩
      rw [xS_S] at e'
      have hcl : nI C.1 ≤ nI i := by rw [nI_leP (by omega) (by omega)]; omega
      rw [← e', e_X2_begin_2]
      simp (disch := omega) only [e_X2_begin_8, e_X2_begin_20, e_X2_begin_21, e_X2_begin_48, e_X2_begin_49, e_X2_begin_85, e_X2_begin_86, e_X2_begin_113, e_X2_begin_114, cond_true, cond_false, Option.bind_some, rI_s, rL_s, rR_s, rV_s, cnd_d, cnd_ne, cnd_eq, bI_d0, bI_t0, ite_not, decide_eq_false_iff_not, decide_eq_true_eq, lg_cmp_ge, lg_cmp_le, lg_cmp_gt, lg_cmp_lt, lg_cmp_eq, okb_1, okb_0, okb_b, eq_self, if_true, if_false, Bool.true_eq_false, Bool.false_eq_true, hn6, hh, hcl, r0, r1, r2, r3, r4, s0, s1, s2, s3, s4, xS_s, xS_S, nI_1]
theorem BgS_VX {C : AC} {sd : Nat → Int32} {s : SS} (h6 : C.1 ≤ 6) (h : BgS C sd 6 s) : VX C (begA sd) (sF (sF (sF (sF (sF s 5 (sd 1)) 6 0) 7 (-1)) 8 0) 9 0) := by
  refine ⟨fun g hg => ?_, fun g hn hg => ?_, ⟨?_, ?_, ?_⟩, ?_, fun hx => ?_, ?_, fun g hg => ?_⟩
  · obtain ⟨h0, h1, h2, h3, h4⟩ := h g (by omega)
    rw [if_pos hg] at h0 h1 h2
    exact ⟨h0, h1, h2, h4⟩
  · obtain ⟨h0, h1, h2, h3, h4⟩ := h g (by omega)
    rw [if_neg (by omega)] at h0 h1
    exact ⟨h0, h1⟩
  · simp [sF, va_up, begA]
  · simp [sF, va_up, begA]
  · simp [sF, va_up, begA]
  · simp [sF, va_up, begA, nI_0]
  · exact absurd hx (by simp [begA])
  · show sumI (s.1 3) 6 = 0
    have hz : sumI (s.1 3) 6 = sumI (fun _ => 0) 6 := sumI_c fun i hi => (h i hi).2.2.2.1
    rw [hz]
    rfl
  · exact (h g (by omega)).2.2.2.1
theorem X_begin (k : Nat) (d : AH) (x : XS) (m : MS) (t : Nat) (ht : t < 22) (C : AC) (sd : Nat → Int32) (v : Nat) (h6 : C.1 ≤ 6) (hv : Told d v C sd) : ∃ s', callR (k + 201) n_X2_begin [.ref (sAd t), .ref v] (P d x m) = some (.inl none, P d (xS x t s') m) ∧ VX C (begA sd) s' := by
  obtain ⟨s', e', b'⟩ := X_beginL k d m t ht C sd v h6 hv 6 0 x (by omega) (fun g hg => absurd hg (by omega))
  refine ⟨_, ?_, BgS_VX h6 b'⟩
  have w5 : ∀ x (v : Int32), wrF (P d x m) (sAd t) 2 5 (.int v) = some (P d (xS x t (sF (x.2.2.2.1 t) 5 v)) m) := fun x v => wp_5 d x m t ht v
  have w6 : ∀ x (v : Int32), wrF (P d x m) (sAd t) 2 6 (.int v) = some (P d (xS x t (sF (x.2.2.2.1 t) 6 v)) m) := fun x v => wp_6 d x m t ht v
  have w7 : ∀ x (v : Int32), wrF (P d x m) (sAd t) 2 7 (.int v) = some (P d (xS x t (sF (x.2.2.2.1 t) 7 v)) m) := fun x v => wp_7 d x m t ht v
  have w8 : ∀ x (v : Int32), wrF (P d x m) (sAd t) 2 8 (.int v) = some (P d (xS x t (sF (x.2.2.2.1 t) 8 v)) m) := fun x v => wp_8 d x m t ht v
  have w9 : ∀ x (v : Int32), wrF (P d x m) (sAd t) 2 9 (.int v) = some (P d (xS x t (sF (x.2.2.2.1 t) 9 v)) m) := fun x v => wp_9 d x m t ht v
  have hi : isO (P d x m) (sAd t) 2 = true := P_isO d x m t ht
  rw [nI_0] at e'
  simp (disch := omega) only [c_X2_begin, e_X2_begin_0, cond_true, cond_false, Option.bind_some, rI_s, rL_s, rR_s, rV_s, cnd_d, cnd_ne, cnd_eq, bI_d0, bI_t0, ite_not, decide_eq_false_iff_not, decide_eq_true_eq, lg_cmp_ge, lg_cmp_le, lg_cmp_gt, lg_cmp_lt, lg_cmp_eq, okb_1, okb_0, okb_b, eq_self, if_true, if_false, Bool.true_eq_false, Bool.false_eq_true, hi, e']
  rw [e_X2_begin_135]
  simp (disch := omega) only [cond_true, cond_false, Option.bind_some, rI_s, rL_s, rR_s, rV_s, cnd_d, cnd_ne, cnd_eq, bI_d0, bI_t0, ite_not, decide_eq_false_iff_not, decide_eq_true_eq, lg_cmp_ge, lg_cmp_le, lg_cmp_gt, lg_cmp_lt, lg_cmp_eq, okb_1, okb_0, okb_b, eq_self, if_true, if_false, Bool.true_eq_false, Bool.false_eq_true, (hv.2 _ m).1, w5, w6, w7, w8, w9, xS_s, xS_S]
/-! m's -/
theorem M_beginI (E : AEn) (d : AH) (x : XS) (m0 : MS) (i : Nat) (hi : i < 6) : ∀ (r q : Nat) (m : MS), q + r = 3 → (∀ j, 38 ≤ j → m.2.1 10 j = m0.2.1 10 j) → ∃ m', evR T_X4_begins E 42 ([(0, .ref 153), (1, .int (nI i)), (2, .int (nI q))], [], P d x m) = evR T_X4_begins E 79 ([(0, .ref 153), (1, .int (nI i))], [], P d x m') ∧ Fr m m' ∧ m'.1 = m.1 ∧ (∀ z, z < 3 → q ≤ z → m'.2.1 10 (14 + 4 * i + z) = m0.2.1 10 (93 + 3 * i + z)) ∧ (∀ j, (∀ z, z < 3 → q ≤ z → j ≠ 14 + 4 * i + z) → m'.2.1 10 j = m.2.1 10 j)
  | 0, q, m, hq, h => by
    have e : q = 3 := by omega
    subst e
    refine ⟨m, ?_, Fr_refl m, rfl, fun z hz hz2 => absurd hz2 (by omega), fun _ _ => rfl⟩
    rw [e_X4_begins_42]
    simp (disch := omega) only [cond_true, cond_false, Option.bind_some, rI_s, rL_s, rR_s, rV_s, cnd_d, cnd_ne, cnd_eq, bI_d0, bI_t0, ite_not, decide_eq_false_iff_not, decide_eq_true_eq, lg_cmp_ge, lg_cmp_le, lg_cmp_gt, lg_cmp_lt, lg_cmp_eq, okb_1, okb_0, okb_b, eq_self, if_true, if_false, Bool.true_eq_false, Bool.false_eq_true, li_3, le_rT]
  | r + 1, q, m, hq, h => by
    have l1 : ldI (P d x m) 163 0 (nI (93 + 3 * i + q)) = some (m0.2.1 10 (93 + 3 * i + q)) := by rw [← h _ (by omega)]; exact lm_10 d x m _ (by omega)
    obtain ⟨m', e', f', z', v', n'⟩ := M_beginI E d x m0 i hi r (q + 1) (mA m 10 (14 + 4 * i + q) (m0.2.1 10 (93 + 3 * i + q))) (by omega) (fun j hj => by rw [mA_n _ _ _ _ (by omega)]; exact h j hj)
    refine ⟨m', ?_, Fr_trans (mA_Fr _ _ _ (by omega)) f', z', fun z hz hz2 => ?_, fun j hj => ?_⟩
    · rw [← e', e_X4_begins_42]
      have hn3 : ¬ (3 : Int32) ≤ nI q := by rw [show (3 : Int32) = nI 3 from rfl, nI_leP (by omega) (by omega)]; omega
      simp (disch := omega) only [e_X4_begins_47, cond_true, cond_false, Option.bind_some, rI_s, rL_s, rR_s, rV_s, cnd_d, cnd_ne, cnd_eq, bI_d0, bI_t0, ite_not, decide_eq_false_iff_not, decide_eq_true_eq, lg_cmp_ge, lg_cmp_le, lg_cmp_gt, lg_cmp_lt, lg_cmp_eq, okb_1, okb_0, okb_b, eq_self, if_true, if_false, Bool.true_eq_false, Bool.false_eq_true, hn3, rm_21, show (3 : Int32) * nI i = nI (3 * i) from pk_mul 3 i, show (4 : Int32) * nI i = nI (4 * i) from pk_mul 4 i, show (93 : Int32) = nI 93 from rfl, li_14, nI_add, l1, sm_10, nI_1]
    · by_cases c : z = q
      · subst c
        rw [n' _ (fun z hz hz2 => by omega), mA_s]
      · exact v' z hz (by omega)
    · rw [n' j (fun z hz hz2 => hj z hz (by omega)), mA_n _ _ _ _ (hj q (by omega) (by omega))]
theorem M_beginL (E : AEn) (d : AH) (x : XS) (m0 : MS) : ∀ (r i : Nat) (m : MS), i + r = 6 → (∀ j, 38 ≤ j → m.2.1 10 j = m0.2.1 10 j) → ∃ m', evR T_X4_begins E 34 ([(0, .ref 153), (1, .int (nI i))], [], P d x m) = some (.inl none, P d x m') ∧ Fr m m' ∧ m'.1 = m.1 ∧ (∀ h, h < 6 → i ≤ h → (∀ z, z < 3 → m'.2.1 10 (14 + 4 * h + z) = m0.2.1 10 (93 + 3 * h + z)) ∧ m'.2.1 10 (17 + 4 * h) = 0) ∧ (∀ j, j < 14 + 4 * i → m'.2.1 10 j = m.2.1 10 j)
  | 0, i, m, hi, h => by
    have e : i = 6 := by omega
    subst e
    refine ⟨m, ?_, Fr_refl m, rfl, fun h hh h2 => absurd h2 (by omega), fun _ _ => rfl⟩
    rw [e_X4_begins_34]
    simp (disch := omega) only [e_X4_begins_99, cond_true, cond_false, Option.bind_some, rI_s, rL_s, rR_s, rV_s, cnd_d, cnd_ne, cnd_eq, bI_d0, bI_t0, ite_not, decide_eq_false_iff_not, decide_eq_true_eq, lg_cmp_ge, lg_cmp_le, lg_cmp_gt, lg_cmp_lt, lg_cmp_eq, okb_1, okb_0, okb_b, eq_self, if_true, if_false, Bool.true_eq_false, Bool.false_eq_true, li_6, le_rT]
  | r + 1, i, m, hi, h => by
    have hn6 : ¬ (6 : Int32) ≤ nI i := by rw [show (6 : Int32) = nI 6 from rfl, nI_leP (by omega) (by omega)]; omega
    obtain ⟨m1, e1, f1, z1, v1, n1⟩ := M_beginI E d x m0 i (by omega) 3 0 m (by omega) h
    obtain ⟨m', e', f', z', v', n'⟩ := M_beginL E d x m0 r (i + 1) (mA m1 10 (14 + 4 * i + 3) 0) (by omega) (fun j hj => by rw [mA_n _ _ _ _ (by omega), f1.2.1 j (by omega)]; exact h j hj)
    refine ⟨m', ?_, Fr_trans f1 (Fr_trans (mA_Fr _ _ _ (by omega)) f'), by rw [z', mA_1, z1], fun g hg h2 => ?_, fun j hj => ?_⟩
    · rw [← e', e_X4_begins_34]
      rw [nI_0] at e1
      simp (disch := omega) only [e_X4_begins_40, cond_true, cond_false, Option.bind_some, rI_s, rL_s, rR_s, rV_s, cnd_d, cnd_ne, cnd_eq, bI_d0, bI_t0, ite_not, decide_eq_false_iff_not, decide_eq_true_eq, lg_cmp_ge, lg_cmp_le, lg_cmp_gt, lg_cmp_lt, lg_cmp_eq, okb_1, okb_0, okb_b, eq_self, if_true, if_false, Bool.true_eq_false, Bool.false_eq_true, hn6, e1]
      rw [e_X4_begins_79]
      simp (disch := omega) only [cond_true, cond_false, Option.bind_some, rI_s, rL_s, rR_s, rV_s, cnd_d, cnd_ne, cnd_eq, bI_d0, bI_t0, ite_not, decide_eq_false_iff_not, decide_eq_true_eq, lg_cmp_ge, lg_cmp_le, lg_cmp_gt, lg_cmp_lt, lg_cmp_eq, okb_1, okb_0, okb_b, eq_self, if_true, if_false, Bool.true_eq_false, Bool.false_eq_true, rm_21, show (4 : Int32) * nI i = nI (4 * i) from pk_mul 4 i, li_14, show (3 : Int32) = nI 3 from rfl, nI_add, sm_10, nI_1]
    · by_cases c : g = i
      · subst c
        refine ⟨fun z hz => ?_, ?_⟩
        · rw [n' _ (by omega), mA_n _ _ _ _ (by omega)]
          exact v1 z hz (by omega)
        · rw [n' _ (by omega), show 17 + 4 * g = 14 + 4 * g + 3 by omega, mA_s]
      · exact v' g hg (by omega)
    · rw [n' j (by omega), mA_n _ _ _ _ (by omega), n1 j (fun z hz h2 => by omega)]
theorem M_begins (k : Nat) (d : AH) (x : XS) (m : MS) (C : AC) (h6 : C.1 ≤ 6) : ∃ m', callR (k + 1) n_X4_begins [.ref 153] (P d x m) = some (.inl none, P d x m') ∧ Fr m m' ∧ m'.1 = m.1 ∧ VAs C (begA (m.2.1 10)) (m'.2.1 10) := by
  obtain ⟨m', e', f', z', v', n'⟩ := M_beginL (callR k) d x m 6 0 (mA (mA (mA (mA m 10 10 0) 10 11 0) 10 12 (-1)) 10 13 0) (by omega) (fun j hj => by rw [mA_n _ _ _ _ (by omega), mA_n _ _ _ _ (by omega), mA_n _ _ _ _ (by omega), mA_n _ _ _ _ (by omega)])
  have f := Fr_trans (Fr_trans (Fr_trans (Fr_trans (mA_Fr m 10 0 (by omega)) (mA_Fr _ 11 0 (by omega))) (mA_Fr _ 12 (-1) (by omega))) (mA_Fr _ 13 0 (by omega))) f'
  refine ⟨m', ?_, f, by rw [z', mA_1, mA_1, mA_1, mA_1], fun h hh => ?_, ⟨?_, ?_, ?_⟩, ?_, fun hx => ?_, ?_, fun h hh => ?_⟩
  · rw [nI_0] at e'
    have s0 : ∀ m v, stI (P d x m) 163 0 (10 : Int32) v = some (P d x (mA m 10 10 v)) := fun m v => sm_10 d x m 10 v (by omega)
    have s1 : ∀ m v, stI (P d x m) 163 0 (11 : Int32) v = some (P d x (mA m 10 11 v)) := fun m v => sm_10 d x m 11 v (by omega)
    have s2 : ∀ m v, stI (P d x m) 163 0 (12 : Int32) v = some (P d x (mA m 10 12 v)) := fun m v => sm_10 d x m 12 v (by omega)
    have s3 : ∀ m v, stI (P d x m) 163 0 (13 : Int32) v = some (P d x (mA m 10 13 v)) := fun m v => sm_10 d x m 13 v (by omega)
    simp (disch := omega) only [c_X4_begins, e_X4_begins_0, cond_true, cond_false, Option.bind_some, rI_s, rL_s, rR_s, rV_s, cnd_d, cnd_ne, cnd_eq, bI_d0, bI_t0, ite_not, decide_eq_false_iff_not, decide_eq_true_eq, lg_cmp_ge, lg_cmp_le, lg_cmp_gt, lg_cmp_lt, lg_cmp_eq, okb_1, okb_0, okb_b, eq_self, if_true, if_false, Bool.true_eq_false, Bool.false_eq_true, isO_M, rm_21, s0, s1, s2, s3, e']
  · obtain ⟨a1, a2⟩ := v' h (by omega) (by omega)
    exact ⟨a1 0 (by omega), by rw [show 15 + 4 * h = 14 + 4 * h + 1 by omega, a1 1 (by omega), show 93 + 3 * h + 1 = 94 + 3 * h by omega]; rfl, by rw [show 16 + 4 * h = 14 + 4 * h + 2 by omega, a1 2 (by omega), show 93 + 3 * h + 2 = 95 + 3 * h by omega]; rfl, a2⟩
  · rw [n' 13 (by omega), mA_s]; rfl
  · rw [n' 10 (by omega), mA_n _ _ _ _ (by omega), mA_n _ _ _ _ (by omega), mA_n _ _ _ _ (by omega), mA_s]; rfl
  · rw [f.2.1 1 (by omega)]; rfl
  · rw [n' 11 (by omega), mA_n _ _ _ _ (by omega), mA_n _ _ _ _ (by omega), mA_s]; rfl
  · exact absurd hx (by simp [begA])
  · show _ = (0 : Int32)
    have hz : sumI (fun h => m'.2.1 10 (93 + 3 * h) - m'.2.1 10 (14 + 4 * h)) C.1 = sumI (fun _ => 0) C.1 := sumI_c fun i hi => by
      rw [f.2.1 _ (by omega), show m'.2.1 10 (14 + 4 * i) = m.2.1 10 (93 + 3 * i) from (v' i (by omega) (by omega)).1 0 (by omega)]
      grind
    rw [hz]
    generalize C.1 = n
    induction n with
    | zero => rfl
    | succ n ih => show sumI (fun _ => 0) n + 0 = 0; rw [ih]; rfl
  · rw [f.2.1 _ (by omega)]
    show m.2.1 10 (93 + 3 * h) = m.2.1 10 (93 + 3 * h) + 0
    rw [Int32.add_zero]
theorem WA_beg {C : AC} {d : AH} {v : Nat} {sd : Nat → Int32} {fo F} (x : XS) (m : MS) (h : Told d v C sd) (h1 : 0 ≤ sd 1) : WA (CW C fo F none) (begA sd) := by
  refine ⟨fun g hg => ?_, h1, Nat.zero_le _, fun hx => absurd hx (by simp [begA]), fun q e => nomatch e⟩
  obtain ⟨al, arr, o, h2, a1, a2, a3, a4, a5, a6, -⟩ := (h.2 x m).2 g hg
  show 0 ≤ sd (94 + 3 * g) ∧ sd (94 + 3 * g) ≤ 9
  rw [a4]
  split
  · exact ⟨a5, a6⟩
  · decide
