/-! look -/
def cX (g : Nat → Int32) (v : Int32) : Nat → Nat
  | 0 => 0
  | k + 1 => cX g v k + (if g k = v then 1 else 0)
def mX (g : Nat → Int32) (H : Int32 → Nat) : Nat → Nat
  | 0 => 0
  | k + 1 => max (mX g H k) (H (g k))
def cM (ft : Nat → Bool) (c : Nat → Int32) (v : Int32) : Nat → Nat
  | 0 => 0
  | b + 1 => cM ft c v b + (if ft b = true ∧ c b = v then 1 else 0)
def mM (ft : Nat → Bool) (c : Nat → Int32) (H : Int32 → Nat) : Nat → Nat
  | 0 => 0
  | a + 1 => if ft a = true then max (mM ft c H a) (H (c a)) else mM ft c H a
def Cmp (ft : Nat → Bool) (c : Nat → Int32) (r : Nat) (g : Nat → Int32) (n : Nat) : Prop := (∀ v, cX g v n = cM ft c v r) ∧ ∀ H, mX g H n = mM ft c H r
theorem cX_c {g g' : Nat → Int32} (v : Int32) : ∀ n, (∀ k, k < n → g' k = g k) → cX g' v n = cX g v n
  | 0, _ => rfl
  | n + 1, e => by
    show cX g' v n + _ = cX g v n + _
    rw [cX_c v n fun k hk => e k (by omega), e n (by omega)]
theorem mX_c {g g' : Nat → Int32} (H : Int32 → Nat) : ∀ n, (∀ k, k < n → g' k = g k) → mX g' H n = mX g H n
  | 0, _ => rfl
  | n + 1, e => by
    show max (mX g' H n) _ = max (mX g H n) _
    rw [mX_c H n fun k hk => e k (by omega), e n (by omega)]
theorem Cmp_t {ft : Nat → Bool} {c : Nat → Int32} {r : Nat} {g g' : Nat → Int32} {n : Nat} (h : Cmp ft c r g n) (hf : ft r = true) (e : ∀ k, k < n → g' k = g k) (en : g' n = c r) : Cmp ft c (r + 1) g' (n + 1) := by
  refine ⟨fun v => ?_, fun H => ?_⟩
  · show cX g' v n + (if g' n = v then 1 else 0) = cM ft c v r + (if ft r = true ∧ c r = v then 1 else 0)
    rw [cX_c v n e, h.1 v, en]
    by_cases z : c r = v
    · rw [if_pos z, if_pos ⟨hf, z⟩]
    · rw [if_neg z, if_neg (fun q => z q.2)]
  · show max (mX g' H n) (H (g' n)) = if ft r = true then max (mM ft c H r) (H (c r)) else mM ft c H r
    rw [mX_c H n e, h.2 H, en, if_pos hf]
theorem Cmp_f {ft : Nat → Bool} {c : Nat → Int32} {r : Nat} {g g' : Nat → Int32} {n : Nat} (h : Cmp ft c r g n) (hf : ft r = false) (e : ∀ k, k < n → g' k = g k) : Cmp ft c (r + 1) g' n := by
  refine ⟨fun v => ?_, fun H => ?_⟩
  · show _ = cM ft c v r + (if ft r = true ∧ c r = v then 1 else 0)
    rw [cX_c v n e, h.1 v, if_neg (fun q => by rw [hf] at q; exact absurd q.1 (by decide))]; rfl
  · show _ = if ft r = true then _ else _
    rw [mX_c H n e, h.2 H, if_neg (by rw [hf]; decide)]
theorem cX_le (g : Nat → Int32) (v : Int32) : ∀ n, cX g v n ≤ n
  | 0 => Nat.le_refl _
  | n + 1 => by
    have := cX_le g v n
    unfold cX
    split <;> omega
theorem mX_le (g : Nat → Int32) (H : Int32 → Nat) (b : Nat) (hb : ∀ v, H v ≤ b) : ∀ n, mX g H n ≤ b
  | 0 => Nat.zero_le _
  | n + 1 => by
    have h1 := mX_le g H b hb n
    have h2 := hb (g n)
    show max _ _ ≤ b
    omega
theorem cM_le (ft : Nat → Bool) (c : Nat → Int32) (v : Int32) : ∀ n, cM ft c v n ≤ n
  | 0 => Nat.le_refl _
  | n + 1 => by
    have := cM_le ft c v n
    unfold cM
    split <;> omega
theorem mX_pos (g : Nat → Int32) (n : Nat) (hn : 0 < n) : 0 < mX g (fun v => cX g v n) n := by
  have h0 : ∀ j, j ≤ n → 0 < j → 0 < cX g (g 0) j := by
    intro j
    induction j with
    | zero => intro _ h; exact absurd h (by omega)
    | succ j ih =>
      intro hj _
      show 0 < cX g (g 0) j + (if g j = g 0 then 1 else 0)
      by_cases z : j = 0
      · subst z; rw [if_pos rfl]; omega
      · have := ih (by omega) (by omega); omega
  have h1 : ∀ (H : Int32 → Nat) j, 0 < j → H (g 0) ≤ mX g H j := by
    intro H j
    induction j with
    | zero => intro h; exact absurd h (by omega)
    | succ j ih =>
      intro _
      show _ ≤ max (mX g H j) (H (g j))
      by_cases z : j = 0
      · subst z; omega
      · have := ih (by omega); omega
  have := h1 (fun v => cX g v n) n hn
  have h2 := h0 n (Nat.le_refl _) hn
  omega
theorem i_max (a b : Nat) (ha : a < 2 ^ 31) (hb : b < 2 ^ 31) : (if nI a < nI b then nI b else nI a) = nI (max a b) := by
  by_cases c : a < b
  · rw [if_pos ((nI_ltI ha hb).mpr c), Nat.max_eq_right (by omega)]
  · rw [if_neg (fun h => c ((nI_ltI ha hb).mp h)), Nat.max_eq_left (by omega)]
theorem X_mostAlike (k : Nat) (d : AH) (x : XS) (m : MS) (g : Nat → Int32) (hr n : Nat) (hn : n ≤ 7) (hh : hr ≤ 60) (hg : ∀ j, j < n → x.2.1 151 (61 * j + hr) = g j) : callR (k + 2) n_X0_mostAlike [.ref 0, .int (nI hr), .int (nI n)] (P d x m) = some (.inl (some (.int (nI (mX g (fun v => cX g v n) n)))), P d x m) := by
  have hb0 : ∀ h, callR (k + 1) n_X0_bit [.int 0] h = some (.inl (some (.int 0)), h) := fun h => X_bit k h false
  have hb1 : ∀ h, callR (k + 1) n_X0_bit [.int 1] h = some (.inl (some (.int 1)), h) := fun h => X_bit k h true
  have inner : ∀ (i : Nat) (mo : Int32), i < n → ∀ r j : Nat, j + r = n → evR T_X0_mostAlike (callR (k + 1)) 17 ([(0, .ref 0), (1, .int (nI hr)), (2, .int (nI n)), (3, .int mo), (4, .int (nI i)), (5, .int (nI (cX g (g i) j))), (6, .int (nI j))], [], P d x m) = evR T_X0_mostAlike (callR (k + 1)) 69 ([(0, .ref 0), (1, .int (nI hr)), (2, .int (nI n)), (3, .int mo), (4, .int (nI i)), (5, .int (nI (cX g (g i) n)))], [], P d x m) := by
    intro i mo hi r
    induction r with
    | zero =>
      intro j hj
      have e : j = n := by omega
      subst e
      rw [e_X0_mostAlike_17]
      simp (disch := omega) only [cond_true, cond_false, Option.bind_some, rI_s, rL_s, rR_s, rV_s, cnd_d, cnd_ne, cnd_eq, bI_d0, bI_t0, ite_not, decide_eq_false_iff_not, decide_eq_true_eq, lg_cmp_ge, lg_cmp_le, lg_cmp_gt, lg_cmp_lt, lg_cmp_eq, okb_1, okb_0, okb_b, eq_self, if_true, if_false, Bool.true_eq_false, Bool.false_eq_true, le_rT]
    | succ r ih =>
      intro j hj
      have e1 := ih (j + 1) (by omega)
      have hc : cX g (g i) (j + 1) = cX g (g i) j + (if g j = g i then 1 else 0) := rfl
      have hl := cX_le g (g i) j
      have l1 : ldI (P d x m) 151 0 (nI (61 * j + hr)) = some (g j) := by rw [← hg j (by omega)]; exact lx_151 d x m _ (by omega)
      have l2 : ldI (P d x m) 151 0 (nI (61 * i + hr)) = some (g i) := by rw [← hg i hi]; exact lx_151 d x m _ (by omega)
      rw [hc] at e1
      rw [← e1, e_X0_mostAlike_17]
      by_cases z : g j = g i
      · rw [if_pos z]
        simp (disch := omega) only [e_X0_mostAlike_23, e_X0_mostAlike_52, e_X0_mostAlike_57, cond_true, cond_false, Option.bind_some, rI_s, rL_s, rR_s, rV_s, cnd_d, cnd_ne, cnd_eq, bI_d0, bI_t0, ite_not, decide_eq_false_iff_not, decide_eq_true_eq, lg_cmp_ge, lg_cmp_le, lg_cmp_gt, lg_cmp_lt, lg_cmp_eq, okb_1, okb_0, okb_b, eq_self, if_true, if_false, Bool.true_eq_false, Bool.false_eq_true, nI_leP, if_neg (show ¬ n ≤ j by omega), rx_26, li_61, pk_mul, nI_add, l1, l2, z, hb1, nI_1]
      · rw [if_neg z]
        simp (disch := omega) only [e_X0_mostAlike_23, e_X0_mostAlike_56, e_X0_mostAlike_57, cond_true, cond_false, Option.bind_some, rI_s, rL_s, rR_s, rV_s, cnd_d, cnd_ne, cnd_eq, bI_d0, bI_t0, ite_not, decide_eq_false_iff_not, decide_eq_true_eq, lg_cmp_ge, lg_cmp_le, lg_cmp_gt, lg_cmp_lt, lg_cmp_eq, okb_1, okb_0, okb_b, eq_self, if_true, if_false, Bool.true_eq_false, Bool.false_eq_true, nI_leP, if_neg (show ¬ n ≤ j by omega), rx_26, li_61, pk_mul, nI_add, l1, l2, z, hb0, nI_1, Int32.add_zero, Nat.add_zero]
  have outer : ∀ r i : Nat, i + r = n → evR T_X0_mostAlike (callR (k + 1)) 5 ([(0, .ref 0), (1, .int (nI hr)), (2, .int (nI n)), (3, .int (nI (mX g (fun v => cX g v n) i))), (4, .int (nI i))], [], P d x m) = some (.inl (some (.int (nI (mX g (fun v => cX g v n) n)))), P d x m) := by
    intro r
    induction r with
    | zero =>
      intro i hi
      have e : i = n := by omega
      subst e
      rw [e_X0_mostAlike_5]
      simp (disch := omega) only [e_X0_mostAlike_82, cond_true, cond_false, Option.bind_some, rI_s, rL_s, rR_s, rV_s, cnd_d, cnd_ne, cnd_eq, bI_d0, bI_t0, ite_not, decide_eq_false_iff_not, decide_eq_true_eq, lg_cmp_ge, lg_cmp_le, lg_cmp_gt, lg_cmp_lt, lg_cmp_eq, okb_1, okb_0, okb_b, eq_self, if_true, if_false, Bool.true_eq_false, Bool.false_eq_true, le_rT]
    | succ r ih =>
      intro i hi
      have e1 := ih (i + 1) (by omega)
      have e2 := inner i (nI (mX g (fun v => cX g v n) i)) (by omega) n 0 (by omega)
      have hm : mX g (fun v => cX g v n) (i + 1) = max (mX g (fun v => cX g v n) i) (cX g (g i) n) := rfl
      have hl1 := mX_le g (fun v => cX g v n) n (fun v => cX_le g v n) i
      have hl2 := cX_le g (g i) n
      rw [show cX g (g i) 0 = 0 from rfl, nI_0] at e2
      rw [← e1, hm, ← i_max _ _ (by omega) (by omega), e_X0_mostAlike_5]
      simp (disch := omega) only [e_X0_mostAlike_11, cond_true, cond_false, Option.bind_some, rI_s, rL_s, rR_s, rV_s, cnd_d, cnd_ne, cnd_eq, bI_d0, bI_t0, ite_not, decide_eq_false_iff_not, decide_eq_true_eq, lg_cmp_ge, lg_cmp_le, lg_cmp_gt, lg_cmp_lt, lg_cmp_eq, okb_1, okb_0, okb_b, eq_self, if_true, if_false, Bool.true_eq_false, Bool.false_eq_true, nI_leP, if_neg (show ¬ n ≤ i by omega), e2, e_X0_mostAlike_69, nI_1]
  have := outer n 0 (by omega)
  rw [show mX g (fun v => cX g v n) 0 = 0 from rfl, nI_0] at this
  simp (disch := omega) only [c_X0_mostAlike, e_X0_mostAlike_0, cond_true, cond_false, Option.bind_some, rI_s, rL_s, rR_s, rV_s, cnd_d, cnd_ne, cnd_eq, bI_d0, bI_t0, ite_not, decide_eq_false_iff_not, decide_eq_true_eq, lg_cmp_ge, lg_cmp_le, lg_cmp_gt, lg_cmp_lt, lg_cmp_eq, okb_1, okb_0, okb_b, eq_self, if_true, if_false, Bool.true_eq_false, Bool.false_eq_true, isO_X, this]
def whF (al : Nat → Nat) : Nat → Nat
  | 0 => 0
  | n + 1 => if al (n + 1) < al (whF al n) then n + 1 else whF al n
theorem whF_le (al : Nat → Nat) : ∀ n, whF al n ≤ n
  | 0 => Nat.le_refl _
  | n + 1 => by
    have := whF_le al n
    unfold whF
    split <;> omega
def loR (w : Int32) (al : Nat → Nat) : Int32 := if al (whF al 60) = 0 then -2 else if w = 0 then nI (whF al 60) else nI (al (whF al 60))
theorem X_whL (k : Nat) (d : AH) (x : XS) (m : MS) (al : Nat → Nat) (n : Nat) (w : Int32) (hal : ∀ j, j ≤ 60 → al j ≤ 7) (hA : ∀ j, j ≤ 60 → callR (k + 1) n_X0_mostAlike [.ref 0, .int (nI j), .int (nI n)] (P d x m) = some (.inl (some (.int (nI (al j)))), P d x m)) (hp : 0 < al (whF al 60)) : ∀ r i : Nat, i + r = 60 → evR T_X0_look (callR (k + 1)) 101 ([(0, .ref 0), (1, .int w), (2, .int (nI n)), (3, .int (nI (whF al i))), (4, .int (nI (i + 1)))], [], P d x m) = some (.inl (some (.int (loR w al))), P d x m)
  | 0, i, hi => by
    have e : i = 60 := by omega
    subst e
    have hw := whF_le al 60
    rw [e_X0_look_101]
    unfold loR
    rw [if_neg (by omega)]
    by_cases c : w = 0
    · simp (disch := omega) only [e_X0_look_133, e_X0_look_137, e_X0_look_147, cond_true, cond_false, Option.bind_some, rI_s, rL_s, rR_s, rV_s, cnd_d, cnd_ne, cnd_eq, bI_d0, bI_t0, ite_not, decide_eq_false_iff_not, decide_eq_true_eq, lg_cmp_ge, lg_cmp_le, lg_cmp_gt, lg_cmp_lt, lg_cmp_eq, okb_1, okb_0, okb_b, eq_self, if_true, if_false, Bool.true_eq_false, Bool.false_eq_true, show ((60 : Int32) < nI (60 + 1)) = True from eq_true (by decide), c]
    · simp (disch := omega) only [e_X0_look_133, e_X0_look_141, e_X0_look_147, cond_true, cond_false, Option.bind_some, rI_s, rL_s, rR_s, rV_s, cnd_d, cnd_ne, cnd_eq, bI_d0, bI_t0, ite_not, decide_eq_false_iff_not, decide_eq_true_eq, lg_cmp_ge, lg_cmp_le, lg_cmp_gt, lg_cmp_lt, lg_cmp_eq, okb_1, okb_0, okb_b, eq_self, if_true, if_false, Bool.true_eq_false, Bool.false_eq_true, show ((60 : Int32) < nI (60 + 1)) = True from eq_true (by decide), c, hA]
  | r + 1, i, hi => by
    have hr := X_whL k d x m al n w hal hA hp r (i + 1) (by omega)
    have hw := whF_le al i
    have hlt : ((60 : Int32) < nI (i + 1)) = False := eq_false (by rw [show (60 : Int32) = nI 60 from rfl, nI_ltP (by omega) (by omega)]; omega)
    have ha1 := hal (i + 1) (by omega)
    have ha2 := hal (whF al i) (by omega)
    have hu : whF al (i + 1) = if al (i + 1) < al (whF al i) then i + 1 else whF al i := rfl
    rw [← hr, hu, e_X0_look_101]
    by_cases c : al (i + 1) < al (whF al i)
    · rw [if_pos c]
      simp (disch := omega) only [e_X0_look_108, e_X0_look_124, e_X0_look_127, cond_true, cond_false, Option.bind_some, rI_s, rL_s, rR_s, rV_s, cnd_d, cnd_ne, cnd_eq, bI_d0, bI_t0, ite_not, decide_eq_false_iff_not, decide_eq_true_eq, lg_cmp_ge, lg_cmp_le, lg_cmp_gt, lg_cmp_lt, lg_cmp_eq, okb_1, okb_0, okb_b, eq_self, if_true, if_false, Bool.true_eq_false, Bool.false_eq_true, hlt, hA, nI_leP, if_neg (show ¬ al (whF al i) ≤ al (i + 1) by omega), nI_1 (i + 1)]
    · rw [if_neg c]
      simp (disch := omega) only [e_X0_look_108, e_X0_look_127, cond_true, cond_false, Option.bind_some, rI_s, rL_s, rR_s, rV_s, cnd_d, cnd_ne, cnd_eq, bI_d0, bI_t0, ite_not, decide_eq_false_iff_not, decide_eq_true_eq, lg_cmp_ge, lg_cmp_le, lg_cmp_gt, lg_cmp_lt, lg_cmp_eq, okb_1, okb_0, okb_b, eq_self, if_true, if_false, Bool.true_eq_false, Bool.false_eq_true, hlt, hA, nI_leP, if_pos (show al (whF al i) ≤ al (i + 1) by omega), nI_1 (i + 1)]
theorem M_whL (k : Nat) (d : AH) (x : XS) (m : MS) (al : Nat → Nat) (w : Int32) (hal : ∀ j, j ≤ 60 → al j ≤ 7) (hA : ∀ j, j ≤ 60 → callR (k + 1) n_X4_alikeAt [.ref 153, .int (nI j)] (P d x m) = some (.inl (some (.int (nI (al j)))), P d x m)) : ∀ r i : Nat, i + r = 60 → evR T_X4_look (callR (k + 1)) 27 ([(0, .ref 153), (1, .int w), (2, .int (nI (whF al i))), (3, .int (nI (i + 1)))], [], P d x m) = some (.inl (some (.int (loR w al))), P d x m)
  | 0, i, hi => by
    have e : i = 60 := by omega
    subst e
    have hw := whF_le al 60
    have ha := hal (whF al 60) (by omega)
    rw [e_X4_look_27]
    unfold loR
    by_cases z : al (whF al 60) = 0
    · rw [if_pos z]
      have hz : nI (al (whF al 60)) = 0 := by rw [z, nI_0]
      simp (disch := omega) only [e_X4_look_54, e_X4_look_62, e_X4_look_80, cond_true, cond_false, Option.bind_some, rI_s, rL_s, rR_s, rV_s, cnd_d, cnd_ne, cnd_eq, bI_d0, bI_t0, ite_not, decide_eq_false_iff_not, decide_eq_true_eq, lg_cmp_ge, lg_cmp_le, lg_cmp_gt, lg_cmp_lt, lg_cmp_eq, okb_1, okb_0, okb_b, eq_self, if_true, if_false, Bool.true_eq_false, Bool.false_eq_true, show ((60 : Int32) < nI (60 + 1)) = True from eq_true (by decide), hA, hz]
    · rw [if_neg z]
      have hz : ¬ nI (al (whF al 60)) = 0 := by rw [← nI_0, nI_eqP (by omega) (by omega)]; exact z
      by_cases c : w = 0
      · simp (disch := omega) only [e_X4_look_54, e_X4_look_67, e_X4_look_71, e_X4_look_80, cond_true, cond_false, Option.bind_some, rI_s, rL_s, rR_s, rV_s, cnd_d, cnd_ne, cnd_eq, bI_d0, bI_t0, ite_not, decide_eq_false_iff_not, decide_eq_true_eq, lg_cmp_ge, lg_cmp_le, lg_cmp_gt, lg_cmp_lt, lg_cmp_eq, okb_1, okb_0, okb_b, eq_self, if_true, if_false, Bool.true_eq_false, Bool.false_eq_true, show ((60 : Int32) < nI (60 + 1)) = True from eq_true (by decide), hA, hz, c]
      · simp (disch := omega) only [e_X4_look_54, e_X4_look_67, e_X4_look_75, e_X4_look_80, cond_true, cond_false, Option.bind_some, rI_s, rL_s, rR_s, rV_s, cnd_d, cnd_ne, cnd_eq, bI_d0, bI_t0, ite_not, decide_eq_false_iff_not, decide_eq_true_eq, lg_cmp_ge, lg_cmp_le, lg_cmp_gt, lg_cmp_lt, lg_cmp_eq, okb_1, okb_0, okb_b, eq_self, if_true, if_false, Bool.true_eq_false, Bool.false_eq_true, show ((60 : Int32) < nI (60 + 1)) = True from eq_true (by decide), hA, hz, c]
  | r + 1, i, hi => by
    have hr := M_whL k d x m al w hal hA r (i + 1) (by omega)
    have hw := whF_le al i
    have hlt : ((60 : Int32) < nI (i + 1)) = False := eq_false (by rw [show (60 : Int32) = nI 60 from rfl, nI_ltP (by omega) (by omega)]; omega)
    have ha1 := hal (i + 1) (by omega)
    have ha2 := hal (whF al i) (by omega)
    have hu : whF al (i + 1) = if al (i + 1) < al (whF al i) then i + 1 else whF al i := rfl
    rw [← hr, hu, e_X4_look_27]
    by_cases c : al (i + 1) < al (whF al i)
    · rw [if_pos c]
      simp (disch := omega) only [e_X4_look_33, e_X4_look_46, e_X4_look_48, cond_true, cond_false, Option.bind_some, rI_s, rL_s, rR_s, rV_s, cnd_d, cnd_ne, cnd_eq, bI_d0, bI_t0, ite_not, decide_eq_false_iff_not, decide_eq_true_eq, lg_cmp_ge, lg_cmp_le, lg_cmp_gt, lg_cmp_lt, lg_cmp_eq, okb_1, okb_0, okb_b, eq_self, if_true, if_false, Bool.true_eq_false, Bool.false_eq_true, hlt, hA, nI_leP, if_neg (show ¬ al (whF al i) ≤ al (i + 1) by omega), nI_1 (i + 1)]
    · rw [if_neg c]
      simp (disch := omega) only [e_X4_look_33, e_X4_look_48, cond_true, cond_false, Option.bind_some, rI_s, rL_s, rR_s, rV_s, cnd_d, cnd_ne, cnd_eq, bI_d0, bI_t0, ite_not, decide_eq_false_iff_not, decide_eq_true_eq, lg_cmp_ge, lg_cmp_le, lg_cmp_gt, lg_cmp_lt, lg_cmp_eq, okb_1, okb_0, okb_b, eq_self, if_true, if_false, Bool.true_eq_false, Bool.false_eq_true, hlt, hA, nI_leP, if_pos (show al (whF al i) ≤ al (i + 1) by omega), nI_1 (i + 1)]
