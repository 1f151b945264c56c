/-! calls -/
theorem HP_size {w : AW} {s : State} {h : AH} {H : Heap} {locs : List Loc} {p : Program} {l : Launch} {e : Env} {R : Room} {m : MethodId} {args : Array Value} {below : List Frame} {meth : Method} {c : Code} {T : State} {cells slots n0 : Nat}
    (XX : Stand p l e R s m args below meth c T locs cells slots) (hT : T.heap = H) (hsz : s.heap.size = w.2.1 + n0) (hn : h.1 = n0 + cells) (hP : HP w h H) (hS : va_S (aA w) s.heap H locs) : H.size = w.2.1 + h.1 := by
  have h1 : T.heap.size ≤ s.heap.size + cells := XX.heapSize
  rw [hT] at h1
  have h2 := hS.1
  by_cases hz : h.1 = 0
  · omega
  · have h3 : (wsl w h)[h.1 - 1]? = some (w.2.1 + (h.1 - 1), cz w (h.2.2 (h.1 - 1))) := by
      have : h.1 - 1 < h.1 := by omega
      simp [wsl, this]
    have := (hP _ _ h3).lt
    dsimp only at this
    omega
def PcA (w : AW) (h : AH) (as : List Value) : Array Value → State → Prop := va_Pc (as.map (cv w)) (fun U => U.heap.size = w.2.1 + h.1 ∧ HP w h U.heap ∧ AEnv w U)
theorem PcA_blind {w : AW} {h : AH} {as : List Value} : FrameBlind (PcA w h as) := fun a U g mk ⟨q0, q1, q2, q3⟩ => ⟨q0, q1, q2, q3.calling g mk a⟩
theorem PcA_here {w : AW} {s : State} {h : AH} {as : List Value} {H : Heap} {locs : List Loc} (hE : AEnv w s) (hS : va_S (aA w) s.heap H locs) (hP : HP w h H) (hsz : H.size = w.2.1 + h.1) : ∀ U : State, U.heap = H → s.WarmedH U.vm → PcA w h as (as.map (cv w)).toArray U :=
  fun U hU hW => ⟨rfl, by rw [hU]; exact hsz, by rw [hU]; exact hP, hE.go hW (fun a ha hna => by rw [hU]; exact hS.2.1 a ha hna)⟩
/-- behind a call that returns or throws -/
theorem a_call_run {w : AW} {p : Program} {e : Env} {R : Room} {s : State} {m : MethodId} {args : Array Value} {below : List Frame} {meth : Method} {c : Code} {Q : State → Prop} {H : Heap} {locs : List Loc} {cells slots mc ms pc : Nat} {ls : Array Slot} {st rest : List Value} {r : ARes} {a0 : Array Value}
    (hsz : s.heap.size ≤ H.size) (hr : vx_Run p w.1 e R s m args below meth c H locs cells slots mc ms (F0 m pc ls st) rest (QC w r a0) (XCa w r) (aA w)) (hS : va_S (aA w) s.heap H locs)
    (kr : ∀ v, r.1 = .inl v → ∀ (H1 : Heap) (locs1 : List Loc), HP w r.2 H1 → va_S (aA w) s.heap H1 locs1 → W p w.1 e R s m args below meth c H1 locs1 (cells + mc) (slots + ms) Q (F0 m (pc + 3) ls ((v.map (cv w)).toList ++ rest)))
    (kx : ∀ k, r.1 = .inr k → ∀ (H1 : Heap) (locs1 : List Loc) (ce : Cell), HP w r.2 H1 → va_S (aA w) s.heap H1 locs1 → H1[w.2.1 + k]? = some ce → ce.vm = .none → s.vm.findClass RX3 = some ce.cls → vx_W p w.1 e R s m args below meth c H1 locs1 (cells + mc) (slots + ms) Q (F0 m pc ls rest) (w.2.1 + k)) :
    W p w.1 e R s m args below meth c H locs cells slots Q (F0 m pc ls st) := by
  intro T hT XX
  rcases hr T hT XX with ⟨v, st₀, t, T', L, h0, X', hL, e1, e2, ⟨⟨v', hv, ho⟩, hP, hF⟩, sg⟩ | ⟨q, st₀, t, T', L, E, ce, h0, X', hL, e1, e2, ⟨⟨k, hk, hq⟩, hE, hP, hF⟩, hce, hcv, hcl, sg⟩
  · have ho := Outcome.returned.inj ho
    subst ho
    obtain ⟨k1, k2, k3⟩ := vx_keep h0 e1 hS (fun _ _ h => h) (fun _ h => h) hL hF
    obtain ⟨t2, a1, b1⟩ := kr v' hv T'.heap (locs ++ L) (by rw [e1]; exact hP) k3 T' rfl X'
    exact ⟨t2, sg t2 a1, b1⟩
  · subst hE
    subst hq
    obtain ⟨k1, k2, k3⟩ := vx_keep h0 e1 hS (fun _ _ h => h) (fun _ h => h) hL hF
    obtain ⟨t2, a1, b1⟩ := kx k hk T'.heap (locs ++ L) ce (by rw [e1]; exact hP) k3 (by rw [e1]; exact hce) hcv hcl T' rfl X'
    exact ⟨t2, sg.trans a1, b1⟩
/-- a kind of call, from X at pc, of Y with n arguments (the receiver counted) -/
def CallK (w : AW) (X Y : AMI) (d pc n : Nat) : Prop := ∀ (p : Program) (e : Env) (R : Room) (s : State) (m : MethodId) (args : Array Value) (below : List Frame) (meth : Method) (c : Code) (Q : State → Prop) (n0 s0 : Nat) (res : ARes), Ctx w X d p R s m args below meth c Q n0 s0 res →
  ∀ (S : List Value) (h : AH) (r : ARes) (mc ms : Nat), okW n S = true → aRc Y (S.take n).reverse h = true → CT w Y d (S.take n).reverse h r → r.2.1 = h.1 + mc → r.2.2.1 = h.2.1 + ms → r.2.1 ≤ n0 + R.cells → r.2.2.1 ≤ s0 + R.slots →
  ∀ (H : Heap) (locs : List Loc) (cells slots : Nat) (ls : Array Slot), HP w h H → va_S (aA w) s.heap H locs → h.1 = n0 + cells → h.2.1 = s0 + slots → ls.size = X.2.2.1 →
  vx_Run p w.1 e R s m args below meth c H locs cells slots mc ms (F0 m pc ls (S.map (cv w))) ((S.drop n).map (cv w)) (QC w r #[]) (XCa w r) (aA w)
def okw (n : Nat) (o : AOp) : AOp := fun E K J cf => bif okW n cf.2.1 then o E K J cf else none
theorem okw_loc {n : Nat} {o : AOp} (ho : ALoc o) : ALoc (okw n o) := by
  intro E K J cf r h
  unfold okw at h ⊢
  cases hb : okW n cf.2.1 with
  | false => rw [hb] at h; cases h
  | true =>
    rw [hb] at h
    exact ho E K J cf r h
/-- what the four ops of a call have in common -/
def CR (y n : Nat) (x : AX) (o : AOp) : Prop := ∀ E K J cf res, okw n o E K J cf = some res → okW n cf.2.1 = true ∧ ∃ rr : ARes, E y (cf.2.1.take n).reverse cf.2.2 = some rr ∧
  ((∃ v : Option Value, rr.1 = .inl v ∧ K (cf.1, v.toList ++ cf.2.1.drop n, rr.2) = some res) ∨ (∃ q, rr.1 = .inr q ∧ onx x J cf.1 q rr.2 = some res))
theorem ocI_CR (y n : Nat) (x : AX) : CR y n x (ocI y n x) := by
  intro E K J cf res h
  unfold okw at h
  cases hb : okW n cf.2.1 with
  | false => rw [hb] at h; cases h
  | true =>
    rw [hb] at h
    refine ⟨rfl, ?_⟩
    unfold ocI at h
    rcases hE : E y (cf.2.1.take n).reverse cf.2.2 with _ | ⟨(_ | (v | v | v | v | _ | v | v)) | q, h'⟩ <;> rw [hE] at h <;> try (simp [rI] at h; done)
    · exact ⟨_, rfl, Or.inl ⟨some (.int v), rfl, h⟩⟩
    · exact ⟨_, rfl, Or.inr ⟨q, rfl, h⟩⟩
theorem ocL_CR (y n : Nat) (x : AX) : CR y n x (ocL y n x) := by
  intro E K J cf res h
  unfold okw at h
  cases hb : okW n cf.2.1 with
  | false => rw [hb] at h; cases h
  | true =>
    rw [hb] at h
    refine ⟨rfl, ?_⟩
    unfold ocL at h
    rcases hE : E y (cf.2.1.take n).reverse cf.2.2 with _ | ⟨(_ | (v | v | v | v | _ | v | v)) | q, h'⟩ <;> rw [hE] at h <;> try (simp [rL] at h; done)
    · exact ⟨_, rfl, Or.inl ⟨some (.long v), rfl, h⟩⟩
    · exact ⟨_, rfl, Or.inr ⟨q, rfl, h⟩⟩
theorem ocR_CR (y n : Nat) (x : AX) : CR y n x (ocR y n x) := by
  intro E K J cf res h
  unfold okw at h
  cases hb : okW n cf.2.1 with
  | false => rw [hb] at h; cases h
  | true =>
    rw [hb] at h
    refine ⟨rfl, ?_⟩
    unfold ocR at h
    rcases hE : E y (cf.2.1.take n).reverse cf.2.2 with _ | ⟨(_ | (v | v | v | v | _ | v | v)) | q, h'⟩ <;> rw [hE] at h <;> try (simp [rR] at h; done)
    · exact ⟨_, rfl, Or.inl ⟨some (.ref v), rfl, h⟩⟩
    · exact ⟨_, rfl, Or.inr ⟨q, rfl, h⟩⟩
theorem ocV_CR (y n : Nat) (x : AX) : CR y n x (ocV y n x) := by
  intro E K J cf res h
  unfold okw at h
  cases hb : okW n cf.2.1 with
  | false => rw [hb] at h; cases h
  | true =>
    rw [hb] at h
    refine ⟨rfl, ?_⟩
    unfold ocV at h
    rcases hE : E y (cf.2.1.take n).reverse cf.2.2 with _ | ⟨(_ | (v | v | v | v | _ | v | v)) | q, h'⟩ <;> rw [hE] at h <;> try (simp [rV] at h; done)
    · exact ⟨_, rfl, Or.inl ⟨none, rfl, h⟩⟩
    · exact ⟨_, rfl, Or.inr ⟨q, rfl, h⟩⟩
section SNDC
variable {MI : Nat → AMI} {w : AW} {X : AMI} {d pc : Nat}
/-- how an exception at pc goes on: to the caller (no handler), to the handler hx, or it doesn't come -/
def XOK (w : AW) (X : AMI) (d pc : Nat) (x : AX) : Prop := ∀ (p : Program) (e : Env) (R : Room) (s : State) (m : MethodId) (args : Array Value) (below : List Frame) (meth : Method) (c : Code) (Q : State → Prop) (n0 s0 : Nat) (res : ARes), Ctx w X d p R s m args below meth c Q n0 s0 res →
  ∀ (J : Nat → ACf → Option ARes) (L : ALv) (k : Nat) (h : AH), onx x J L k h = some res → (∀ pc' cf', J pc' cf' = some res → GB w X p e R s m args below meth c Q n0 s0 res pc' cf') → h.1 ≤ res.2.1 ∧ h.2.1 ≤ res.2.2.1 ∧
  ∀ (H : Heap) (locs : List Loc) (cells slots : Nat) (ls : Array Slot) (ce : Cell) (rest : List Value), HP w h H → va_S (aA w) s.heap H locs → h.1 = n0 + cells → h.2.1 = s0 + slots → lv_has ls X.2.2.1 (L.map fun q => (q.1, cv w q.2)) →
    H[w.2.1 + k]? = some ce → ce.vm = .none → s.vm.findClass RX3 = some ce.cls → vx_W p w.1 e R s m args below meth c H locs cells slots Q (F0 m pc ls rest) (w.2.1 + k)
theorem xok_none (hlaw : X.2.2.2.2.2.1 = false) (hnoh : X.2.2.2.2.1 = none) : XOK w X d pc none := by
  intro p e R s m args below meth c Q n0 s0 res C J L k h hx hJ
  have hres : res = (.inr k, h) := (Option.some.inj hx).symm
  subst hres
  refine ⟨Nat.le_refl _, Nat.le_refl _, fun H locs cells slots ls ce rest hP hS hn hs hl hc hv hcl => ?_⟩
  obtain ⟨mc, ms, e1, e2, e3⟩ := C.2.2.2.2.2.2.2.2.2.2.2.2.2.2.1 hlaw
  have c1 : cells = mc := by
    have : h.1 = n0 + mc := e1
    omega
  have c2 : slots = ms := by
    have : h.2.1 = s0 + ms := e2
    omega
  subst c1
  subst c2
  rw [e3]
  have hxt : ∀ x ∈ c.exceptionTable.toList, covers x pc = false := by
    have := C.2.2.2.2.2.2.2.2.2.2.2.2.2.2.2
    rw [hnoh] at this
    intro x hx
    rw [this] at hx
    cases hx
  exact vx_out hxt C.2.2.2.2.2.1 hc hv hcl (fun t ht hA => ⟨⟨k, rfl, rfl⟩, rfl, by rw [ht]; exact hP, hS.F ht⟩) hS.2.2 (Nat.le_refl _) (Nat.le_refl _)
theorem xok_out {hh : List (Nat × Nat × Nat × Nat)} (hlaw : X.2.2.2.2.2.1 = false) (hX : X.2.2.2.2.1 = some hh) (hc : (tableOf hh).all (fun x => !covers x pc) = true) : XOK w X d pc none := by
  intro p e R s m args below meth c Q n0 s0 res C J L k h hx hJ
  have hres : res = (.inr k, h) := (Option.some.inj hx).symm
  subst hres
  refine ⟨Nat.le_refl _, Nat.le_refl _, fun H locs cells slots ls ce rest hP hS hn hs hl hc0 hv hcl => ?_⟩
  obtain ⟨mc, ms, e1, e2, e3⟩ := C.2.2.2.2.2.2.2.2.2.2.2.2.2.2.1 hlaw
  have c1 : cells = mc := by
    have : h.1 = n0 + mc := e1
    omega
  have c2 : slots = ms := by
    have : h.2.1 = s0 + ms := e2
    omega
  subst c1
  subst c2
  rw [e3]
  have hxt : ∀ x ∈ c.exceptionTable.toList, covers x pc = false := by
    have := C.2.2.2.2.2.2.2.2.2.2.2.2.2.2.2
    rw [hX] at this
    intro x hx
    rw [this] at hx
    have h9 : (!covers x pc) = true := List.all_eq_true.mp hc x hx
    cases hb : covers x pc with
    | false => rfl
    | true => rw [hb] at h9; cases h9
  exact vx_out hxt C.2.2.2.2.2.1 hc0 hv hcl (fun t ht hA => ⟨⟨k, rfl, rfl⟩, rfl, by rw [ht]; exact hP, hS.F ht⟩) hS.2.2 (Nat.le_refl _) (Nat.le_refl _)
theorem xok_law (ks : List Nat) : XOK w X d pc (some (0, ks)) := by
  intro p e R s m args below meth c Q n0 s0 res C J L k h hx hJ
  cases hx
theorem xok_catch {x0 : Nat × Nat × Nat × Nat} {suf : List (Nat × Nat × Nat × Nat)} {t : Nat} (ks : List Nat) (hX : X.2.2.2.2.1 = some (x0 :: suf)) (hpc : covers (⟨x0.1, x0.2.1, x0.2.2.1, x0.2.2.2⟩ : ExceptionTableEntry) pc = true) (ht : x0.2.2.1 = t + 1) (h0 : x0.2.2.2 ≠ 0)
    (hq : Cond.classLink X.1.cls x0.2.2.2 RX3 ∈ lw_all) : XOK w X d pc (some (t + 1, ks)) := by
  intro p e R s m args below meth c Q n0 s0 res C J L k h hx hJ
  obtain ⟨b1, b2, g⟩ := hJ _ _ hx
  refine ⟨b1, b2, fun H locs cells slots ls ce rest hP hS hn hs hl hc hv hcl => ?_⟩
  have htab := C.2.2.2.2.2.2.2.2.2.2.2.2.2.2.2
  rw [hX] at htab
  have g9 := g.kp H locs cells slots ls hP hS hn hs hl
  refine vx_catch (name := RX3) C.2.2.2.2.1 [] ⟨x0.1, x0.2.1, x0.2.2.1, x0.2.2.2⟩ (tableOf suf) (by rw [htab]; rfl) (fun z hz => nomatch hz) hpc h0 (C.2.2.2.2.2.2.1 _ hq) (va_Nw.use rfl (C.2.2.2.2.2.2.2.1.2.2.1 _ q282 rfl)) hc hv hcl ?_
  show W p w.1 e R s m args below meth c H locs cells slots Q (F0 m x0.2.2.1 ls [.ref (w.2.1 + k)])
  rw [ht]
  exact g9
theorem snd_call {y n : Nat} {x : AX} {o : AOp} (hC : CR y n x o) (hk : CallK w X (MI y) d pc n) (hx : XOK w X d pc x) : Snd MI w X d pc (pc + 3) (okw n o) := by
  intro p e R s m args below meth c Q n0 s0 res C E hE K J cf h hK hJ
  obtain ⟨hw, rr, hy, hcase⟩ := hC E K J cf res h
  obtain ⟨hrc, hct⟩ := hE y _ _ _ hy
  have hct0 := hct
  obtain ⟨m1, m2, -⟩ := hct
  obtain ⟨mc, hmc⟩ := Nat.exists_eq_add_of_le m1
  obtain ⟨ms, hms⟩ := Nat.exists_eq_add_of_le m2
  have hR1 := C.2.2.2.2.2.2.2.2.2.2.2.2.1
  have hR2 := C.2.2.2.2.2.2.2.2.2.2.2.2.2.1
  rcases hcase with ⟨v, hv, hk9⟩ | ⟨q, hq, hx9⟩
  · obtain ⟨b1, b2, g⟩ := hK _ hk9
    have b1 : rr.2.1 ≤ res.2.1 := b1
    have b2 : rr.2.2.1 ≤ res.2.2.1 := b2
    refine ⟨Nat.le_trans m1 b1, Nat.le_trans m2 b2, fun H locs cells slots ls hP hS hn hs hl => ?_⟩
    refine a_call_run (r := rr) (mc := mc) (ms := ms) hS.1 (hk p e R s m args below meth c Q n0 s0 res C cf.2.1 cf.2.2 rr mc ms hw hrc hct0 hmc hms (by omega) (by omega) H locs cells slots ls hP hS hn hs hl.1) hS (fun v' hv' H1 locs1 hP1 hS1 => ?_) (fun k hk' => by rw [hv] at hk'; cases hk')
    rw [hv] at hv'
    cases hv'
    have g9 := g H1 locs1 (cells + mc) (slots + ms) ls hP1 hS1 (by show rr.2.1 = _; omega) (by show rr.2.2.1 = _; omega) hl
    have hlist : (v.toList ++ cf.2.1.drop n).map (cv w) = (v.map (cv w)).toList ++ (cf.2.1.drop n).map (cv w) := by
      rw [List.map_append]
      cases v <;> rfl
    rw [← hlist]
    exact g9
  · obtain ⟨b1, b2, g⟩ := hx p e R s m args below meth c Q n0 s0 res C J cf.1 q rr.2 hx9 hJ
    refine ⟨Nat.le_trans m1 b1, Nat.le_trans m2 b2, fun H locs cells slots ls hP hS hn hs hl => ?_⟩
    refine a_call_run (r := rr) (mc := mc) (ms := ms) hS.1 (hk p e R s m args below meth c Q n0 s0 res C cf.2.1 cf.2.2 rr mc ms hw hrc hct0 hmc hms (by omega) (by omega) H locs cells slots ls hP hS hn hs hl.1) hS (fun v' hv' => by rw [hq] at hv'; cases hv') (fun k hk' H1 locs1 ce hP1 hS1 hc hv hcl => ?_)
    rw [hq] at hk'
    cases hk'
    exact g H1 locs1 (cells + mc) (slots + ms) ls ce _ hP1 hS1 (by omega) (by omega) hl hc hv hcl
/-! the kinds -/
theorem take_split {S : List Value} {n : Nat} {b : Value} {T : List Value} (h : (S.take n).reverse = b :: T) : S = T.reverse ++ b :: S.drop n := by
  have h1 : S.take n = (b :: T).reverse := by rw [← h, List.reverse_reverse]
  calc S = S.take n ++ S.drop n := (List.take_append_drop n S).symm
    _ = T.reverse ++ b :: S.drop n := by rw [h1]; simp
theorem take_len {S : List Value} {n : Nat} (h : n ≤ S.length) : (S.take n).reverse.length = n := by simp; omega
/-- a method's numbers: what a call of it asks -/
def YOK (Y : AMI) (n : Nat) : Prop := Y.2.2.2.2.1 = none ∧ Cond.initialized Y.1.cls ∈ lw_all ∧ Cond.code Y.1 Y.2.1 Y.2.2.1 Y.2.2.2.1 ∈ lw_all ∧ (Y.1.cls ≠ "java/lang/invoke/MethodHandle" ∧ Y.1.cls ≠ "java/lang/invoke/VarHandle" ∧ (parseMethodDescriptor Y.1.desc).map (fun z => z.parameters.length) = some n) ∧ Y.2.2.1 ≤ 45
/-- the receiver's class by its number; 99: String -/
def RcN (Y : AMI) (C : String) : Prop := ∃ ci : Nat, Y.2.2.2.2.2.2 = some ci ∧ ((∃ T N, aCl[ci]? = some (C, T, N)) ∨ (ci = 99 ∧ C = "java/lang/String"))
theorem rc_split {Y : AMI} {C : String} {S : List Value} {n : Nat} {h : AH} {s : State} {H : Heap} {locs : List Loc} (hN : RcN Y C) (hrc : aRc Y (S.take n).reverse h = true) (hE : AEnv w s) (hP : HP w h H) (hS : va_S (aA w) s.heap H locs) :
    ∃ (b : Value) (T : List Value) (a : Nat), (S.take n).reverse = b :: T ∧ cv w b = .ref a ∧ ∃ cellB : Cell, H[a]? = some cellB ∧ cellB.vm.isStatics = false ∧ s.vm.findClass C = some cellB.cls := by
  obtain ⟨ci, h1, h2⟩ := hN
  unfold aRc at hrc
  rw [h1] at hrc
  dsimp only at hrc
  split at hrc
  next a T e =>
    rcases h2 with ⟨T0, N, hc⟩ | ⟨h2, -⟩
    · have h98 : (ci == 98) = false := by
        cases hb : ci == 98 with
        | false => rfl
        | true =>
          have : ci = 98 := by simpa using hb
          subst this
          cases hc
      rw [h98] at hrc
      obtain ⟨fs, hg⟩ := isO_inv hrc
      exact ⟨.ref a, T, w.2.1 + a, e, rfl, va_recv hE.1 hP hc (wsl_get hg)⟩
    · exfalso
      subst h2
      obtain ⟨fs, hg⟩ := isO_inv hrc
      obtain ⟨r, g0, -⟩ := hP a _ (wsl_get hg)
      cases g0
  next i T e =>
    simp only [Bool.and_eq_true, beq_iff_eq, decide_eq_true_eq] at hrc
    obtain ⟨q, b, k1, k2, k3, k4, -⟩ := hE.2.2.2.2.1 i hrc.2
    rcases h2 with ⟨T0, N, hc⟩ | ⟨h2, h3⟩
    · exfalso
      rw [hrc.1] at hc
      cases hc
    · subst h3
      obtain ⟨cell, z1, z2, z3, -⟩ := k4.kept hS.2.1
      exact ⟨.retAddr i, T, q, e, k1, cell, z1, z2, z3⟩
  next => cases hrc
theorem rc_ref {Y : AMI} {S : List Value} {n ci : Nat} {h : AH} {s : State} (hN : Y.2.2.2.2.2.2 = some ci) (hrc : aRc Y (S.take n).reverse h = true) (hE : AEnv w s) : ∃ (b : Value) (T : List Value) (a : Nat), (S.take n).reverse = b :: T ∧ cv w b = .ref a := by
  unfold aRc at hrc
  rw [hN] at hrc
  dsimp only at hrc
  split at hrc
  next a T e => exact ⟨.ref a, T, w.2.1 + a, e, rfl⟩
  next i T e =>
    simp only [Bool.and_eq_true, beq_iff_eq, decide_eq_true_eq] at hrc
    obtain ⟨q, b, k1, -⟩ := hE.2.2.2.2.1 i hrc.2
    exact ⟨.retAddr i, T, q, e, k1⟩
  next => cases hrc
theorem callV_ok {Y : AMI} {C : String} {index n : Nat} (hY : YOK Y n) (hC : Y.1.cls = C) (hN : RcN Y C) (hl : Cond.methodLink X.1.cls index Y.1 ∈ lw_all) (hi : Cond.instanceMethod Y.1 ∈ lw_all) (hs : Cond.selects C Y.1 Y.1 ∈ lw_all) (hd : decode X.2.1 pc = .ok (.invokevirtual index, 3)) : CallK w X Y d pc (n + 1) := by
  intro p e R s m args below meth c Q n0 s0 res Cx S h r mc ms hw hrc hct hmc hms hr1 hr2 H locs cells slots ls hP hS hn hs0 hls
  obtain ⟨y0, y1, y2, y3, y4⟩ := hY
  have hE := Cx.2.2.2.2.2.2.2.1
  have hts := Cx.2.2.2.2.2.2.1
  obtain ⟨hlen, hsum⟩ := okW_inv (w := w) hE.2.1 hw
  obtain ⟨b, T9, a, e9, hb, hcell⟩ := rc_split hN hrc hE hP hS
  have hmet := hct.2.2 mc ms hmc hms
  have hws : mWs Y = ws_ Y.1 Y.2.1 Y.2.2.1 Y.2.2.2.1 := by unfold mWs; rw [y0]
  rw [hws, e9] at hmet
  have hTl : T9.length = n := by
    have := take_len hlen
    rw [e9] at this
    simpa using this
  intro T0 hT0 XX
  have hsz := HP_size XX hT0 Cx.2.2.2.2.2.2.2.2.1 hn hP hS
  have hf := Cx.2.2.2.2.2.2.2.2.2.2.1
  have hlo := Cx.2.2.2.2.2.2.2.2.2.2.2.1
  refine vx_runV (As := T9.map (cv w)) (b := a) (C := C) ⟨Cx.1, Cx.2.1, Cx.2.2.2.1, Cx.2.2.2.2.1, hts⟩ hmet (cwV n hts (lw_V hl hi hs (hC ▸ y1) y2) rfl rfl rfl ⟨hC, y3⟩ ⟨by show d + 1 ≤ _; omega, by show 8 + (_ + 11) + 64 * d ≤ _; omega⟩)
    ⟨PcA_blind, hcell, fun U hU hW => ?_⟩ rfl (by rw [List.length_map]; exact hTl) hls ?_ (lv_room hsum) hd ⟨by omega, by omega⟩ T0 hT0 XX
  · have := PcA_here (as := b :: T9) hE hS hP hsz U hU hW
    rw [List.map_cons, hb] at this
    exact this
  · show S.map (cv w) = _
    conv => lhs; rw [take_split e9]
    rw [List.map_append, List.map_reverse, List.map_cons, hb]
theorem callS_ok {Y : AMI} {index n : Nat} (hY : YOK Y n) (hl : Cond.methodLink X.1.cls index Y.1 ∈ lw_all) (hi : Cond.static Y.1 ∈ lw_all) (hd : decode X.2.1 pc = .ok (.invokestatic index, 3)) : CallK w X Y d pc n := by
  intro p e R s m args below meth c Q n0 s0 res Cx S h r mc ms hw hrc hct hmc hms hr1 hr2 H locs cells slots ls hP hS hn hs0 hls
  obtain ⟨y0, y1, y2, y3, y4⟩ := hY
  have hE := Cx.2.2.2.2.2.2.2.1
  have hts := Cx.2.2.2.2.2.2.1
  obtain ⟨hlen, hsum⟩ := okW_inv (w := w) hE.2.1 hw
  have hmet := hct.2.2 mc ms hmc hms
  have hws : mWs Y = ws_ Y.1 Y.2.1 Y.2.2.1 Y.2.2.2.1 := by unfold mWs; rw [y0]
  rw [hws] at hmet
  intro T0 hT0 XX
  have hsz := HP_size XX hT0 Cx.2.2.2.2.2.2.2.2.1 hn hP hS
  have hf := Cx.2.2.2.2.2.2.2.2.2.2.1
  have hlo := Cx.2.2.2.2.2.2.2.2.2.2.2.1
  refine vx_runS (As := (S.take n).reverse.map (cv w)) ⟨Cx.1, Cx.2.1, Cx.2.2.2.1, Cx.2.2.2.2.1, hts⟩ hmet (va_cwS n hts (lw_S hl hi y1 y2) rfl rfl rfl y3 ⟨by show d + 1 ≤ _; omega, by show 8 + (_ + 11) + 64 * d ≤ _; omega⟩)
    ⟨PcA_blind, fun U hU hW => PcA_here hE hS hP hsz U hU hW⟩ rfl (by rw [List.length_map]; exact take_len hlen) hls ?_ (lv_room hsum) hd ⟨by omega, by omega⟩ T0 hT0 XX
  show S.map (cv w) = _
  conv => lhs; rw [← List.take_append_drop n S]
  rw [List.map_append, List.map_reverse, List.reverse_reverse]
theorem callI_ok {Y : AMI} {index n ci : Nat} (hY : YOK Y n) (hN : Y.2.2.2.2.2.2 = some ci) (hret : Y.2.2.2.1 = none) (hy1 : Y.1.name = "<init>") (hl : Cond.methodLink X.1.cls index Y.1 ∈ lw_all) (hi : Cond.instanceMethod Y.1 ∈ lw_all) (hd : decode X.2.1 pc = .ok (.invokespecial index, 3)) : CallK w X Y d pc (n + 1) := by
  intro p e R s m args below meth c Q n0 s0 res Cx S h r mc ms hw hrc hct hmc hms hr1 hr2 H locs cells slots ls hP hS hn hs0 hls
  obtain ⟨y0, y1, y2, y3, y4⟩ := hY
  have hE := Cx.2.2.2.2.2.2.2.1
  have hts := Cx.2.2.2.2.2.2.1
  obtain ⟨hlen, hsum⟩ := okW_inv (w := w) hE.2.1 hw
  obtain ⟨b, T9, a, e9, hb⟩ := rc_ref hN hrc hE
  have hmet := hct.2.2 mc ms hmc hms
  have hws : mWs Y = ws_ Y.1 Y.2.1 Y.2.2.1 none := by unfold mWs; rw [y0, hret]
  rw [hws, e9] at hmet
  rw [hret] at y2
  have hTl : T9.length = n := by
    have := take_len hlen
    rw [e9] at this
    simpa using this
  intro T0 hT0 XX
  have hsz := HP_size XX hT0 Cx.2.2.2.2.2.2.2.2.1 hn hP hS
  have hf := Cx.2.2.2.2.2.2.2.2.2.2.1
  have hlo := Cx.2.2.2.2.2.2.2.2.2.2.2.1
  refine vx_runI (As := T9.map (cv w)) (b := a) ⟨Cx.1, Cx.2.1, Cx.2.2.2.1, Cx.2.2.2.2.1, hts⟩ hmet (cwI n hts (lw_meth y2) rfl rfl rfl (hts _ y1) (hts _ hl) (hts _ hi) hy1 y3 ⟨by show d + 1 ≤ _; omega, by show 8 + (_ + 11) + 64 * d ≤ _; omega⟩)
    ⟨PcA_blind, fun U hU hW => ?_⟩ rfl (by rw [List.length_map]; exact hTl) hls ?_ (lv_room hsum) hd ⟨by omega, by omega⟩ T0 hT0 XX
  · have := PcA_here (as := b :: T9) hE hS hP hsz U hU hW
    rw [List.map_cons, hb] at this
    exact this
  · show S.map (cv w) = _
    conv => lhs; rw [take_split e9]
    rw [List.map_append, List.map_reverse, List.map_cons, hb]
theorem callVN_ok {Y : AMI} {C host : String} {index n : Nat} (hY : YOK Y n) (hN : RcN Y C) (hl : Cond.methodLinkNest X.1.cls index Y.1 host ∈ lw_tbl) (hi : Cond.instanceMethod Y.1 ∈ lw_all) (hs : Cond.selects C Y.1 Y.1 ∈ lw_all) (hd : decode X.2.1 pc = .ok (.invokevirtual index, 3)) : CallK w X Y d pc (n + 1) := by
  intro p e R s m args below meth c Q n0 s0 res Cx S h r mc ms hw hrc hct hmc hms hr1 hr2 H locs cells slots ls hP hS hn hs0 hls
  obtain ⟨y0, y1, y2, y3, y4⟩ := hY
  have hE := Cx.2.2.2.2.2.2.2.1
  have hts := Cx.2.2.2.2.2.2.1
  obtain ⟨hlen, hsum⟩ := okW_inv (w := w) hE.2.1 hw
  obtain ⟨b, T9, a, e9, hb, hcell⟩ := rc_split hN hrc hE hP hS
  have hmet := hct.2.2 mc ms hmc hms
  have hws : mWs Y = ws_ Y.1 Y.2.1 Y.2.2.1 Y.2.2.2.1 := by unfold mWs; rw [y0]
  rw [hws, e9] at hmet
  have hTl : T9.length = n := by
    have := take_len hlen
    rw [e9] at this
    simpa using this
  intro T0 hT0 XX
  have hsz := HP_size XX hT0 Cx.2.2.2.2.2.2.2.2.1 hn hP hS
  have hf := Cx.2.2.2.2.2.2.2.2.2.2.1
  have hlo := Cx.2.2.2.2.2.2.2.2.2.2.2.1
  refine vx_runVN (As := T9.map (cv w)) (b := a) (C := C) ⟨Cx.1, Cx.2.1, Cx.2.2.2.1, Cx.2.2.2.2.1, hts⟩ hmet ⟨va_cnB n hts (lw_meth y2) rfl rfl rfl (hE.2.2.1 _ hl rfl) (hts _ y1) y3 ⟨by show d + 1 ≤ _; omega, by show 8 + (_ + 11) + 64 * d ≤ _; omega⟩, hts _ hi, hts _ hs⟩
    ⟨PcA_blind, hcell, fun U hU hW => ?_⟩ rfl (by rw [List.length_map]; exact hTl) hls ?_ (lv_room hsum) hd ⟨by omega, by omega⟩ T0 hT0 XX
  · have := PcA_here (as := b :: T9) hE hS hP hsz U hU hW
    rw [List.map_cons, hb] at this
    exact this
  · show S.map (cv w) = _
    conv => lhs; rw [take_split e9]
    rw [List.map_append, List.map_reverse, List.map_cons, hb]
theorem callSN_ok {Y : AMI} {host : String} {index n : Nat} (hY : YOK Y n) (hl : Cond.methodLinkNest X.1.cls index Y.1 host ∈ lw_tbl) (hi : Cond.static Y.1 ∈ lw_all) (hd : decode X.2.1 pc = .ok (.invokestatic index, 3)) : CallK w X Y d pc n := by
  intro p e R s m args below meth c Q n0 s0 res Cx S h r mc ms hw hrc hct hmc hms hr1 hr2 H locs cells slots ls hP hS hn hs0 hls
  obtain ⟨y0, y1, y2, y3, y4⟩ := hY
  have hE := Cx.2.2.2.2.2.2.2.1
  have hts := Cx.2.2.2.2.2.2.1
  obtain ⟨hlen, hsum⟩ := okW_inv (w := w) hE.2.1 hw
  have hmet := hct.2.2 mc ms hmc hms
  have hws : mWs Y = ws_ Y.1 Y.2.1 Y.2.2.1 Y.2.2.2.1 := by unfold mWs; rw [y0]
  rw [hws] at hmet
  intro T0 hT0 XX
  have hsz := HP_size XX hT0 Cx.2.2.2.2.2.2.2.2.1 hn hP hS
  have hf := Cx.2.2.2.2.2.2.2.2.2.2.1
  have hlo := Cx.2.2.2.2.2.2.2.2.2.2.2.1
  refine vx_runSN (As := (S.take n).reverse.map (cv w)) ⟨Cx.1, Cx.2.1, Cx.2.2.2.1, Cx.2.2.2.2.1, hts⟩ hmet ⟨va_cnB n hts (lw_meth y2) rfl rfl rfl (hE.2.2.1 _ hl rfl) (hts _ y1) y3 ⟨by show d + 1 ≤ _; omega, by show 8 + (_ + 11) + 64 * d ≤ _; omega⟩, hts _ hi, trivial⟩
    ⟨PcA_blind, fun U hU hW => PcA_here hE hS hP hsz U hU hW⟩ rfl (by rw [List.length_map]; exact take_len hlen) hls ?_ (lv_room hsum) hd ⟨by omega, by omega⟩ T0 hT0 XX
  show S.map (cv w) = _
  conv => lhs; rw [← List.take_append_drop n S]
  rw [List.map_append, List.map_reverse, List.reverse_reverse]
theorem callIN_ok {Y : AMI} {host : String} {index n ci : Nat} (hY : YOK Y n) (hN : Y.2.2.2.2.2.2 = some ci) (hret : Y.2.2.2.1 = none) (hy1 : Y.1.name = "<init>") (hl : Cond.methodLinkNest X.1.cls index Y.1 host ∈ lw_tbl) (hi : Cond.instanceMethod Y.1 ∈ lw_all) (hd : decode X.2.1 pc = .ok (.invokespecial index, 3)) : CallK w X Y d pc (n + 1) := by
  intro p e R s m args below meth c Q n0 s0 res Cx S h r mc ms hw hrc hct hmc hms hr1 hr2 H locs cells slots ls hP hS hn hs0 hls
  obtain ⟨y0, y1, y2, y3, y4⟩ := hY
  have hE := Cx.2.2.2.2.2.2.2.1
  have hts := Cx.2.2.2.2.2.2.1
  obtain ⟨hlen, hsum⟩ := okW_inv (w := w) hE.2.1 hw
  obtain ⟨b, T9, a, e9, hb⟩ := rc_ref hN hrc hE
  have hmet := hct.2.2 mc ms hmc hms
  have hws : mWs Y = ws_ Y.1 Y.2.1 Y.2.2.1 none := by unfold mWs; rw [y0, hret]
  rw [hws, e9] at hmet
  rw [hret] at y2
  have hTl : T9.length = n := by
    have := take_len hlen
    rw [e9] at this
    simpa using this
  intro T0 hT0 XX
  have hsz := HP_size XX hT0 Cx.2.2.2.2.2.2.2.2.1 hn hP hS
  have hf := Cx.2.2.2.2.2.2.2.2.2.2.1
  have hlo := Cx.2.2.2.2.2.2.2.2.2.2.2.1
  refine vx_runIN (As := T9.map (cv w)) (b := a) ⟨Cx.1, Cx.2.1, Cx.2.2.2.1, Cx.2.2.2.2.1, hts⟩ hmet ⟨va_cnB n hts (lw_meth y2) rfl rfl rfl (hE.2.2.1 _ hl rfl) (hts _ y1) y3 ⟨by show d + 1 ≤ _; omega, by show 8 + (_ + 11) + 64 * d ≤ _; omega⟩, hy1, hts _ hi⟩
    ⟨PcA_blind, fun U hU hW => ?_⟩ rfl (by rw [List.length_map]; exact hTl) hls ?_ (lv_room hsum) hd ⟨by omega, by omega⟩ T0 hT0 XX
  · have := PcA_here (as := b :: T9) hE hS hP hsz U hU hW
    rw [List.map_cons, hb] at this
    exact this
  · show S.map (cv w) = _
    conv => lhs; rw [take_split e9]
    rw [List.map_append, List.map_reverse, List.map_cons, hb]
end SNDC
