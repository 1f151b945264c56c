theorem X_nla (k : Nat) (d : AH) (x : XS) (m : MS) (C : AC) (hv : VL (P d x m) (x.2.2.2.2.1 0) C) (h6 : C.1 ≤ 6) : callR (k + 3) n_X0_doesNobodyLoseAll [.ref 0] (P d x m) = some (.inl (some (.int (bI (nlaB ((x.2.2.2.1 0).1 0) ((x.2.2.2.1 1).1 0) C.1)))), P d x m) := by
  rw [← X_nlaL k d x m C hv h6 C.1 0 (by omega) rfl, nI_0]
  simp (disch := omega) only [c_X0_doesNobodyLoseAll, e_X0_doesNobodyLoseAll_0, cond_true, cond_false, Option.bind_some, rI_s, rL_s, rR_s, rV_s, cnd_d, cnd_ne, cnd_eq, bI_d0, bI_t0, ite_not, decide_eq_false_iff_not, decide_eq_true_eq, lg_cmp_ge, lg_cmp_le, lg_cmp_gt, lg_cmp_lt, lg_cmp_eq, okb_1, okb_0, okb_b, eq_self, if_true, if_false, Bool.true_eq_false, Bool.false_eq_true, isO_X]
def wetA (A : AA) (v : Int32) : AA := (A.1, va_up A.2.1 2 v, A.2.2)
theorem nlaB_c {f f' g g' : Nat → Int32} : ∀ n, (∀ h, h < n → f h = f' h ∧ g h = g' h) → nlaB f g n = nlaB f' g' n
  | 0, _ => rfl
  | n + 1, e => by
    show (nlaB f g n && _) = (nlaB f' g' n && _)
    rw [nlaB_c n fun h hh => e h (by omega), (e n (by omega)).1, (e n (by omega)).2]
theorem WA_wet {C : AC} {A : AA} (h : WA C A) (v : Int32) (hv : 0 ≤ v) : WA C (wetA A v) := by
  obtain ⟨w1, w2, w3, w4, w5⟩ := h
  refine ⟨w1, ?_, w3, ?_, w5⟩
  · rw [show (wetA A v).2.1 2 = v by simp [wetA, va_up]]; exact hv
  · rw [show (wetA A v).2.1 0 = A.2.1 0 by simp [wetA, va_up]]; exact w4
theorem VX_wet {C : AC} {A : AA} {s : SS} (h : VX C A s) (v : Int32) : VX C (wetA A v) (sF s 5 v) := by
  obtain ⟨b1, bz, ⟨b8, b9, b5⟩, b6, b7, bg⟩ := h
  have t0 : (wetA A v).2.1 0 = A.2.1 0 := by simp [wetA, va_up]
  have t1 : (wetA A v).2.1 1 = A.2.1 1 := by simp [wetA, va_up]
  have t2 : (wetA A v).2.1 2 = v := by simp [wetA, va_up]
  have t3 : (wetA A v).2.1 3 = A.2.1 3 := by simp [wetA, va_up]
  refine ⟨b1, bz, ⟨?_, ?_, ?_⟩, ?_, fun hx => ?_, ?_⟩
  · rw [t0, sF_n _ _ _ _ (by omega)]; exact b8
  · rw [t1, sF_n _ _ _ _ (by omega)]; exact b9
  · rw [t2, sF_s]
  · rw [sF_n _ _ _ _ (by omega)]; exact b6
  · rw [t0] at hx
    rw [sF_n _ _ _ _ (by omega)]; exact b7 hx
  · rw [t3]; exact bg
def waterA (C : AC) (A : AA) (n : Nat) : Nat → Nat → Option Nat
  | 0, _ => none
  | r + 1, i => if nlaB (A.1 0) ((itA C n (wetA A (nI i))).1 0) C.1 = true then some i else waterA C A n r (i + 1)
