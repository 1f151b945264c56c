/-! sets of houses as numbers -/
def bm (p : Nat → Bool) : Nat → Nat
  | 0 => 0
  | n + 1 => bm p n + (if p n = true then 2 ^ n else 0)
theorem bm_lt (p : Nat → Bool) : ∀ n, bm p n < 2 ^ n
  | 0 => Nat.one_pos
  | n + 1 => by
    have := bm_lt p n
    unfold bm
    rw [Nat.pow_succ]
    split <;> omega
theorem bm_inj {p q : Nat → Bool} : ∀ n, bm p n = bm q n → ∀ h, h < n → p h = q h
  | 0, _, h, hh => absurd hh (by omega)
  | n + 1, e, h, hh => by
    have h1 := bm_lt p n
    have h2 := bm_lt q n
    unfold bm at e
    have hpq : p n = q n ∧ bm p n = bm q n := by
      cases hp : p n <;> cases hq : q n <;> rw [hp, hq] at e <;> simp at e ⊢ <;> omega
    by_cases c : h = n
    · rw [c]; exact hpq.1
    · exact bm_inj n hpq.2 h (by omega)
theorem bm_c {p q : Nat → Bool} : ∀ n, (∀ h, h < n → p h = q h) → bm p n = bm q n
  | 0, _ => rfl
  | n + 1, e => by
    unfold bm
    rw [bm_c n fun h hh => e h (by omega), e n (by omega)]
theorem or_bit : ∀ h, h < 6 → ∀ a, a < 64 → a < 2 ^ h → nI a ||| nI (2 ^ h) = nI (a + 2 ^ h) := by decide
theorem hot_bm (f : Nat → Int32) : ∀ n, n ≤ 6 → orI (hotB f) n = nI (bm (fun h => decide (0 < f h)) n)
  | 0, _ => rfl
  | n + 1, hn => by
    have hl := bm_lt (fun h => decide (0 < f h)) n
    have h2 : 2 ^ n ≤ 2 ^ 5 := Nat.pow_le_pow_right (by omega) (by omega)
    show orI (hotB f) n ||| hotB f n = nI (bm (fun h => decide (0 < f h)) n + (if decide (0 < f n) = true then 2 ^ n else 0))
    rw [hot_bm f n (by omega)]
    unfold hotB
    by_cases c : 0 < f n
    · rw [if_pos c, if_pos (decide_eq_true c), bit6 n (by omega), or_bit n (by omega) _ (by omega) hl]
    · rw [if_neg c, if_neg (by simpa using c), Nat.add_zero, Int32.or_zero]
theorem nla_all {f g : Nat → Int32} : ∀ n, nlaB f g n = true ↔ ∀ h, h < n → ¬ (0 < f h ∧ g h = 0)
  | 0 => ⟨fun _ h hh => absurd hh (by omega), fun _ => rfl⟩
  | n + 1 => by
    show (nlaB f g n && !(decide (0 < f n) && decide (g n = 0))) = true ↔ _
    rw [Bool.and_eq_true, nla_all n]
    constructor
    · rintro ⟨h1, h2⟩ h hh
      by_cases e : h = n
      · subst e
        intro c
        rw [decide_eq_true c.1, decide_eq_true c.2] at h2
        exact absurd h2 (by decide)
      · exact h1 h (by omega)
    · intro h
      refine ⟨fun i hi => h i (by omega), ?_⟩
      have := h n (by omega)
      by_cases c1 : 0 < f n
      · have c2 : ¬ g n = 0 := fun c => this ⟨c1, c⟩
        simp [c2]
      · simp [c1]
/-- worth only falls: the same have worth, just when nobody loses all -/
theorem worth_nla {f g : Nat → Int32} (n : Nat) (hn : n ≤ 6) (h0 : ∀ h, h < n → 0 ≤ g h ∧ (0 < g h → 0 < f h)) : (orI (hotB g) n = orI (hotB f) n) = (nlaB f g n = true) := by
  have l1 := bm_lt (fun h => decide (0 < f h)) n
  have l2 := bm_lt (fun h => decide (0 < g h)) n
  have hp : 2 ^ n ≤ 2 ^ 6 := Nat.pow_le_pow_right (by omega) hn
  rw [hot_bm f n hn, hot_bm g n hn, nI_eqP (by omega) (by omega)]
  apply propext
  rw [nla_all]
  constructor
  · intro e h hh c
    have := bm_inj n e h hh
    rw [decide_eq_true c.1, c.2] at this
    exact absurd this (by decide)
  · intro h
    apply bm_c
    intro i hi
    have h2 := h i hi
    by_cases c : 0 < f i
    · have c2 : ¬ g i = 0 := fun e => h2 ⟨c, e⟩
      have c3 : 0 < g i := by
        by_cases c3 : 0 < g i
        · exact c3
        · exact absurd (by rw [i_ne0 (h0 i hi).1]; exact c3) c2
      rw [decide_eq_true c, decide_eq_true c3]
    · have c3 : ¬ 0 < g i := fun e => c ((h0 i hi).2 e)
      rw [decide_eq_false c, decide_eq_false c3]
