/-! the relation that every call keeps -/
def Ext (Z : Nat → Bool) (d d' : AH) : Prop := d.1 ≤ d'.1 ∧ ∀ a, a < d.1 + 175 → Z a = false → d'.2.2 a = d.2.2 a
theorem Ext_refl (Z : Nat → Bool) (d : AH) : Ext Z d d := ⟨Nat.le_refl _, fun _ _ _ => rfl⟩
theorem Ext_trans {Z Z' : Nat → Bool} {a b c : AH} (hz : ∀ i, i < a.1 + 175 → Z' i = Z i) (h : Ext Z a b) (g : Ext Z' b c) : Ext Z a c := by
  refine ⟨Nat.le_trans h.1 g.1, fun i hi hZ => ?_⟩
  have h1 := h.1
  rw [g.2 i (by omega) (by rw [hz i hi]; exact hZ), h.2 i hi hZ]
/-- what a house of the valley was told: worth, heat (none without worth), says -/
def HTold (h : AH) (v g : Nat) (sd : Nat → Int32) : Prop := ∃ (al arr o : Nat) (ht : Int32), rdR h v 1 0 = some al ∧ (∀ k, callR (k + 200) n_J2_get [.ref al, .int (nI g)] h = some (.inl (some (.ref o)), h)) ∧ aget h o = some (.inl (6, [.int (sd (93 + 3 * g)), .int ht, .int (sd (95 + 3 * g))])) ∧ sd (94 + 3 * g) = (if 0 < sd (93 + 3 * g) then ht else 0) ∧ 0 ≤ ht ∧ ht ≤ 9 ∧ arr = arr
def VAs (C : AC) (A : AA) (sd : Nat → Int32) : Prop := (∀ h, h < C.1 → sd (14 + 4 * h) = A.1 0 h ∧ sd (15 + 4 * h) = A.1 1 h ∧ sd (16 + 4 * h) = A.1 2 h ∧ sd (17 + 4 * h) = A.1 3 h) ∧
  (sd 13 = A.2.1 0 ∧ sd 10 = A.2.1 1 ∧ sd 1 = A.2.1 2) ∧ sd 11 = nI (A.2.2 0) ∧ (0 < A.2.1 0 → sd 12 = nI (A.2.2 1)) ∧
  (sumI (fun h => sd (93 + 3 * h) - sd (14 + 4 * h)) C.1 = A.2.1 3 ∧ ∀ h, h < C.1 → sd (93 + 3 * h) = A.1 0 h + A.1 4 h)
def VCs (C : AC) (sd : Nat → Int32) : Prop := (sd 3 = nI C.1 ∧ C.1 ≤ 6) ∧ (∀ a b, a < 7 → b < 7 → sd (44 + 7 * a + b) = C.2.1 a b) ∧ (∀ h, h < C.1 → sd (38 + h) = C.2.2.1 h) ∧ sd 2 = C.2.2.2.1 ∧ (∀ h, h < C.1 → C.2.2.1 h &&& 63 = C.2.2.1 h)
/-- the valley at v, as said -/
def VR (Z : Nat → Bool) (d : AH) (v : Nat) (sd : Nat → Int32) (C : AC) : Prop := VCs C sd ∧ (∀ d', Ext Z d d' → VP d' v C ∧ ∀ x m, rdI (P d' x m) v 1 3 = some (sd 1) ∧ ∀ g, g < C.1 → HTold (P d' x m) v g sd) ∧ ((sd 0 = 1 ∧ 0 < C.2.2.2.1) ∨ (sd 0 = 0 ∧ C.2.2.2.1 = 0 ∧ C.1 = 0)) ∧ 0 ≤ sd 1 ∧ (∀ a b, a < 7 → b < 7 → sd 0 = 1 → (a = b ∧ C.2.1 a b = 0) ∨ (a ≠ b ∧ (C.2.1 a b = -2 ∨ 0 < C.2.1 a b)))
def NR (nw nwh : Nat → Int32) (nn : Int32) (sd : Nat → Int32) (n : Nat) : Prop := n ≤ 10 ∧ nn = nI n ∧ sd 131 = nI n ∧ ∀ i, i < n → nw i = sd (111 + 2 * i) ∧ nwh i = sd (112 + 2 * i) ∧ ∃ w, w ≤ 60 ∧ sd (111 + 2 * i) = nI w
/-- said, with the state's cells out of another row -/
def layS (sd f : Nat → Int32) : Nat → Int32 := fun i => if 10 ≤ i ∧ i < 38 then f (i - 10) else sd i
def WA0 (C : AC) (A : AA) : Prop := (∀ h, h < C.1 → 0 ≤ A.1 1 h ∧ A.1 1 h ≤ 9) ∧ 0 ≤ A.2.1 2 ∧ A.2.2 0 ≤ C.1 ∧ (0 < A.2.1 0 → 1 ≤ A.2.2 1 ∧ A.2.2 1 ≤ C.1) ∧ (∀ h, h < C.1 → 0 ≤ A.1 0 h ∧ A.1 0 h ≤ 99) ∧ ∃ w, w ≤ 999 ∧ A.2.1 1 = nI w
def PR (x : XS) (m : MS) (C : AC) (u a : Nat) : Prop := u ≤ 20 ∧ a < 20 ∧ x.1 20 = nI u ∧ m.1 31 = nI u ∧ x.1 21 = nI a ∧ ∀ j, j < u → ∃ A, VX C A (x.2.2.2.1 (2 + (a + 20 - u + j) % 20)) ∧ VAs C A (layS (m.2.1 10) fun i => m.2.1 12 (28 * j + i)) ∧ WA0 C A
def TR (x : XS) (m : MS) (t : Nat) : Prop := t ≤ 400 ∧ x.1 7 = nI t ∧ m.1 1 = nI t ∧ ∀ i, i < 400 → x.2.1 21 i = m.2.1 1 i ∧ (m.2.1 1 i).toInt8.toInt32 = m.2.1 1 i
/-- the list of x's rules -/
def AL (Z : Nat → Bool) (d : AH) (x : XS) (nr : Nat) : Prop := ∃ (cap : Nat), nr ≤ cap ∧ 2 ≤ cap ∧ cap ≤ 6 ∧ ((x.2.2.2.2.1 1 = 19 ∧ cap = 2) ∨ (175 ≤ x.2.2.2.2.1 1 ∧ x.2.2.2.2.1 1 < d.1 + 175 ∧ Z (x.2.2.2.2.1 1) = false ∧ ∃ f, d.2.2 (x.2.2.2.2.1 1) = .inr (4, cap, .inr (.inr f))))
def RR (Z : Nat → Bool) (d : AH) (x : XS) (m : MS) (nr : Nat) (F : Nat → (Nat → Int64) → Int64) : Prop := nr ≤ 6 ∧ x.1 102 = nI nr ∧ m.1 2 = nI nr ∧ (∀ r, r < nr → (∀ d', Ext Z d d' → RuX d' x r (F r)) ∧ RuM m r (F r)) ∧ AL Z d x nr
/-- an image at i, of m's number k -/
def IM (Z : Nat → Bool) (d : AH) (i : Nat) (m : MS) (k : Nat) (nr : Nat) : Prop := 175 ≤ i ∧ i + 9 ≤ d.1 + 175 ∧ (∀ r, r < 9 → Z (i + r) = true) ∧ ∃ (v : Nat) (s : SS) (nw nwh : Nat → Int32) (nn : Int32) (fo : Option Nat) (dr : Int32) (C : AC) (A : AA) (n : Nat), d.2.2 i = .inl (13, [.ref v, .ref (i + 1), .ref (i + 7), .ref (i + 8), .int nn, .int (oI fo), .int dr, .ref 0]) ∧ (∀ r, r < 6 → d.2.2 (i + 1 + r) = sCell (i + 1) s r) ∧ d.2.2 (i + 7) = .inr (0, 10, .inl nw) ∧ d.2.2 (i + 8) = .inr (0, 10, .inl nwh) ∧ VR Z d v (fun c => m.2.1 18 (132 * k + c)) C ∧ VAs C A (fun c => m.2.1 18 (132 * k + c)) ∧ VX C A s ∧ WA0 C A ∧ NR nw nwh nn (fun c => m.2.1 18 (132 * k + c)) n ∧ m.2.1 19 k = oI fo ∧ (∀ r, fo = some r → r < nr) ∧ m.2.1 20 k = dr ∧ 0 ≤ dr
def IR (Z : Nat → Bool) (d : AH) (x : XS) (m : MS) (nr : Nat) : Prop := ∀ k, k < 4 → (x.2.2.2.2.2 152 k = none ∧ m.2.1 21 k = 0) ∨ ∃ i, x.2.2.2.2.2 152 k = some i ∧ m.2.1 21 k = 1 ∧ IM Z d i m k nr ∧ ∀ k', k' < 4 → ∀ i', x.2.2.2.2.2 152 k' = some i' → k' ≠ k → i' + 9 ≤ i ∨ i + 9 ≤ i'
def Rel (Z : Nat → Bool) (d : AH) (x : XS) (m : MS) : Prop := (∀ a, Z a = true → 175 ≤ a ∧ a < d.1 + 175) ∧ ∃ (C : AC) (A : AA) (n u a t nr : Nat) (F : Nat → (Nat → Int64) → Int64) (fo : Option Nat),
  VR Z d (x.2.2.2.2.1 0) (m.2.1 10) C ∧ VAs C A (m.2.1 10) ∧ VX C A (x.2.2.2.1 0) ∧ WA0 C A ∧ NR (x.2.1 22) (x.2.1 23) (x.1 10) (m.2.1 10) n ∧ PR x m C u a ∧ TR x m t ∧ RR Z d x m nr F ∧ (x.1 4 = oI fo ∧ m.1 22 = oI fo ∧ ∀ r, fo = some r → r < nr) ∧ (x.1 11 = m.1 23 ∧ 0 ≤ m.1 23) ∧ (x.1 17 = 0 ∧ m.1 25 = -1 ∧ m.1 27 = 0) ∧ IR Z d x m nr
def SimX (x x' : XS) : Prop := (∀ k, k ≠ 15 → k ≠ 16 → k ≠ 18 → k ≠ 22 → x'.1 k = x.1 k) ∧ (∀ j, j = 21 ∨ j = 22 ∨ j = 23 → x'.2.1 j = x.2.1 j) ∧ (∀ t, t ≠ 1 → x'.2.2.2.1 t = x.2.2.2.1 t) ∧ x'.2.2.2.2 = x.2.2.2.2
def SimM (m m' : MS) : Prop := (∀ k, k ≠ 19 → k ≠ 26 → k ≠ 28 → k ≠ 29 → k ≠ 34 → m'.1 k = m.1 k) ∧ ∀ j, j = 1 ∨ j = 2 ∨ j = 4 ∨ j = 5 ∨ j = 10 ∨ j = 12 ∨ j = 18 ∨ j = 19 ∨ j = 20 ∨ j = 21 → m'.2.1 j = m.2.1 j
theorem SimX_trans {a b c : XS} (h : SimX a b) (g : SimX b c) : SimX a c := ⟨fun k p q r s => (g.1 k p q r s).trans (h.1 k p q r s), fun j hj => (g.2.1 j hj).trans (h.2.1 j hj), fun t ht => (g.2.2.1 t ht).trans (h.2.2.1 t ht), g.2.2.2.trans h.2.2.2⟩
theorem FX_Sim {x x' : XS} (h : FX 1 x x') : SimX x x' := ⟨fun k _ b c _ => h.1 k b c, fun j _ => by rw [h.2.1], h.2.2.1, h.2.2.2⟩
theorem SimX_refl (x : XS) : SimX x x := ⟨fun _ _ _ _ _ => rfl, fun _ _ => rfl, fun _ _ => rfl, rfl⟩
theorem SimM_refl (m : MS) : SimM m m := ⟨fun _ _ _ _ _ _ => rfl, fun _ _ => rfl⟩
theorem SimM_trans {a b c : MS} (h : SimM a b) (g : SimM b c) : SimM a c := ⟨fun k p q r s t => (g.1 k p q r s t).trans (h.1 k p q r s t), fun j hj => (g.2 j hj).trans (h.2 j hj)⟩
theorem Rel_sim {Z : Nat → Bool} {d : AH} {x x' : XS} {m m' : MS} (h : Rel Z d x m) (hx : SimX x x') (hm : SimM m m') : Rel Z d x' m' := by
  obtain ⟨hZ, C, A, n, u, a, t, nr, F, fo, hV, hA, hX, hW, hN, hP, hT, hR, hF, hD, hB, hI⟩ := h
  obtain ⟨x1, x2, x3, x4⟩ := hx
  obtain ⟨m1, m2⟩ := hm
  refine ⟨hZ, C, A, n, u, a, t, nr, F, fo, ?_, ?_, ?_, hW, ?_, ?_, ?_, ?_, ?_, ?_, ?_, ?_⟩
  · rw [x4, m2 10 (by omega)]; exact hV
  · rw [m2 10 (by omega)]; exact hA
  · rw [x3 0 (by omega)]; exact hX
  · rw [x2 22 (by omega), x2 23 (by omega), x1 10 (by omega) (by omega) (by omega) (by omega), m2 10 (by omega)]; exact hN
  · obtain ⟨p1, p2, p3, p4, p5, p6⟩ := hP
    refine ⟨p1, p2, by rw [x1 20 (by omega) (by omega) (by omega) (by omega)]; exact p3, by rw [m1 31 (by omega) (by omega) (by omega) (by omega) (by omega)]; exact p4, by rw [x1 21 (by omega) (by omega) (by omega) (by omega)]; exact p5, fun j hj => ?_⟩
    obtain ⟨A', q1, q2, q3⟩ := p6 j hj
    exact ⟨A', by rw [x3 _ (by omega)]; exact q1, by rw [m2 10 (by omega), m2 12 (by omega)]; exact q2, q3⟩
  · obtain ⟨p1, p2, p3, p4⟩ := hT
    exact ⟨p1, by rw [x1 7 (by omega) (by omega) (by omega) (by omega)]; exact p2, by rw [m1 1 (by omega) (by omega) (by omega) (by omega) (by omega)]; exact p3, fun i hi => by rw [x2 21 (by omega), m2 1 (by omega)]; exact p4 i hi⟩
  · obtain ⟨p1, p2, p3, p4, p5⟩ := hR
    refine ⟨p1, by rw [x1 102 (by omega) (by omega) (by omega) (by omega)]; exact p2, by rw [m1 2 (by omega) (by omega) (by omega) (by omega) (by omega)]; exact p3, fun r hr => ⟨fun d' hd => ?_, ?_⟩, by unfold AL; rw [x4]; exact p5⟩
    · exact RuX_fr ((p4 r hr).1 d' hd) x4 (x1 102 (by omega) (by omega) (by omega) (by omega))
    · exact RuM_fr (p4 r hr).2 fun j hj => m2 j (by omega)
  · rw [x1 4 (by omega) (by omega) (by omega) (by omega), m1 22 (by omega) (by omega) (by omega) (by omega) (by omega)]; exact hF
  · rw [x1 11 (by omega) (by omega) (by omega) (by omega), m1 23 (by omega) (by omega) (by omega) (by omega) (by omega)]; exact hD
  · rw [x1 17 (by omega) (by omega) (by omega) (by omega), m1 25 (by omega) (by omega) (by omega) (by omega) (by omega), m1 27 (by omega) (by omega) (by omega) (by omega) (by omega)]; exact hB
  · unfold IR IM
    rw [x4, m2 21 (by omega), m2 18 (by omega), m2 19 (by omega), m2 20 (by omega)]
    exact hI
/-- the context of the rule in force -/
def CW (C : AC) (fo : Option Nat) (F : Nat → (Nat → Int64) → Int64) (q : Option (Nat × (Nat → Nat))) : AC := (C.1, C.2.1, C.2.2.1, C.2.2.2.1, fo.map F, q)
theorem CW_VX {C : AC} {fo F q} {A : AA} {s : SS} : VX (CW C fo F q) A s ↔ VX C A s := Iff.rfl
theorem VP_CW {d : AH} {v : Nat} {C : AC} {fo F q} (h : VP d v C) : VP d v (CW C fo F q) := h
theorem Rel_XC {Z : Nat → Bool} {d : AH} {x : XS} {m : MS} {C : AC} {nr : Nat} {F : Nat → (Nat → Int64) → Int64} {fo : Option Nat} {sd : Nat → Int32} (hV : VR Z d (x.2.2.2.2.1 0) sd C) (hR : RR Z d x m nr F) (hF : x.1 4 = oI fo ∧ m.1 22 = oI fo ∧ ∀ r, fo = some r → r < nr) (hB : x.1 17 = 0) : XC d (CW C fo F none) x := by
  have hr6 := hR.1
  refine ⟨(hV.2.1 d (Ext_refl Z d)).1, hV.1.1.2, ?_, hB, hV.1.2.2.2.2⟩
  cases fo with
  | none => exact hF.1
  | some r => exact ⟨r, by have := hF.2.2 r rfl; omega, hF.1, (hR.2.2.2.1 r (hF.2.2 r rfl)).1 d (Ext_refl Z d)⟩
theorem Rel_VC {Z : Nat → Bool} {d : AH} {x : XS} {m : MS} {C : AC} {nr : Nat} {F : Nat → (Nat → Int64) → Int64} {fo : Option Nat} (hV : VCs C (m.2.1 10)) (hR : RR Z d x m nr F) (hF : x.1 4 = oI fo ∧ m.1 22 = oI fo ∧ ∀ r, fo = some r → r < nr) (hB : m.1 25 = -1) : VC (CW C fo F none) m := by
  have hr6 := hR.1
  refine ⟨hV.1, hV.2.1, hV.2.2.1, hV.2.2.2.1, ?_, by show m.1 25 < 0; rw [hB]; decide, hV.2.2.2.2⟩
  cases fo with
  | none => show m.1 22 < 0; rw [hF.2.1]; decide
  | some r => exact ⟨r, by have := hF.2.2 r rfl; omega, hF.2.1, (hR.2.2.2.1 r (hF.2.2 r rfl)).2⟩
theorem Rel_VA {m : MS} {C : AC} {A : AA} {fo F} (h : VAs C A (m.2.1 10)) (hB : m.1 27 = 0) : VA (CW C fo F none) A m := by
  obtain ⟨a1, a2, a3, a4, a5⟩ := h
  refine ⟨a1, a2, a3, a4, ?_, fun h => nomatch h⟩
  rw [hB, Int32.sub_zero]
  exact a5.1
theorem Rel_WA {C : AC} {A : AA} {fo F} (h : WA0 C A) : WA (CW C fo F none) A := ⟨h.1, h.2.1, h.2.2.1, h.2.2.2.1, fun q e => nomatch e⟩
theorem Rel_XA {x : XS} {t : Nat} {C : AC} {A : AA} {fo F} (h : VX C A (x.2.2.2.1 t)) : XA (CW C fo F none) A x t := ⟨h, fun h => nomatch h⟩
/-- a call of both -/
def OpOK (nX nM : Nat) (as : List Value) : Prop := ∀ (Z : Nat → Bool) (d : AH) (x : XS) (m : MS), Rel Z d x m → ∀ k, ∃ (r : Int32) (Z' : Nat → Bool) (d' : AH) (x' : XS) (m' : MS), callR (k + 1000) nX (.ref 0 :: as) (P d x m) = some (.inl (some (.int r)), P d' x' m) ∧ callR (k + 1000) nM (.ref 153 :: as) (P d' x' m) = some (.inl (some (.int r)), P d' x' m') ∧ Rel Z' d' x' m' ∧ d'.1 ≤ d.1 + 10000 ∧ d'.2.1 ≤ d.2.1 + 80000
/-- a call that makes nothing -/
def OpS (nX nM : Nat) (as : List Value) : Prop := ∀ (Z : Nat → Bool) (d : AH) (x : XS) (m : MS), Rel Z d x m → ∀ k, ∃ (r : Int32) (x' : XS) (m' : MS), (∀ m, callR (k + 1000) nX (.ref 0 :: as) (P d x m) = some (.inl (some (.int r)), P d x' m)) ∧ (∀ x, callR (k + 1000) nM (.ref 153 :: as) (P d x m) = some (.inl (some (.int r)), P d x m')) ∧ Rel Z d x' m'
theorem OpS_ok {nX nM : Nat} {as : List Value} (h : OpS nX nM as) : OpOK nX nM as := by
  intro Z d x m hR k
  obtain ⟨r, x', m', e1, e2, h'⟩ := h Z d x m hR k
  exact ⟨r, Z, d, x', m', e1 m, e2 x', h', by omega, by omega⟩
