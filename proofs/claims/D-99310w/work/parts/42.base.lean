/-! words of simp -/
theorem li_2 : (2 : Int32) = nI 2 := rfl
theorem li_3 : (3 : Int32) = nI 3 := rfl
theorem li_4 : (4 : Int32) = nI 4 := rfl
theorem li_5 : (5 : Int32) = nI 5 := rfl
theorem li_6 : (6 : Int32) = nI 6 := rfl
theorem li_7 : (7 : Int32) = nI 7 := rfl
theorem li_8 : (8 : Int32) = nI 8 := rfl
theorem li_9 : (9 : Int32) = nI 9 := rfl
theorem li_10 : (10 : Int32) = nI 10 := rfl
theorem li_11 : (11 : Int32) = nI 11 := rfl
theorem li_12 : (12 : Int32) = nI 12 := rfl
theorem li_13 : (13 : Int32) = nI 13 := rfl
theorem li_14 : (14 : Int32) = nI 14 := rfl
theorem li_15 : (15 : Int32) = nI 15 := rfl
theorem li_16 : (16 : Int32) = nI 16 := rfl
theorem li_18 : (18 : Int32) = nI 18 := rfl
theorem li_20 : (20 : Int32) = nI 20 := rfl
theorem li_22 : (22 : Int32) = nI 22 := rfl
theorem li_24 : (24 : Int32) = nI 24 := rfl
theorem li_25 : (25 : Int32) = nI 25 := rfl
theorem li_26 : (26 : Int32) = nI 26 := rfl
theorem li_28 : (28 : Int32) = nI 28 := rfl
theorem li_32 : (32 : Int32) = nI 32 := rfl
theorem li_38 : (38 : Int32) = nI 38 := rfl
theorem li_40 : (40 : Int32) = nI 40 := rfl
theorem li_43 : (43 : Int32) = nI 43 := rfl
theorem li_44 : (44 : Int32) = nI 44 := rfl
theorem li_45 : (45 : Int32) = nI 45 := rfl
theorem li_46 : (46 : Int32) = nI 46 := rfl
theorem li_47 : (47 : Int32) = nI 47 := rfl
theorem li_48 : (48 : Int32) = nI 48 := rfl
theorem li_49 : (49 : Int32) = nI 49 := rfl
theorem li_50 : (50 : Int32) = nI 50 := rfl
theorem li_54 : (54 : Int32) = nI 54 := rfl
theorem li_56 : (56 : Int32) = nI 56 := rfl
theorem li_59 : (59 : Int32) = nI 59 := rfl
theorem li_60 : (60 : Int32) = nI 60 := rfl
theorem li_61 : (61 : Int32) = nI 61 := rfl
theorem li_64 : (64 : Int32) = nI 64 := rfl
theorem li_91 : (91 : Int32) = nI 91 := rfl
theorem li_93 : (93 : Int32) = nI 93 := rfl
theorem li_99 : (99 : Int32) = nI 99 := rfl
theorem li_100 : (100 : Int32) = nI 100 := rfl
theorem li_111 : (111 : Int32) = nI 111 := rfl
theorem li_112 : (112 : Int32) = nI 112 := rfl
theorem li_117 : (117 : Int32) = nI 117 := rfl
theorem li_122 : (122 : Int32) = nI 122 := rfl
theorem li_123 : (123 : Int32) = nI 123 := rfl
theorem li_131 : (131 : Int32) = nI 131 := rfl
theorem li_132 : (132 : Int32) = nI 132 := rfl
theorem li_200 : (200 : Int32) = nI 200 := rfl
theorem li_255 : (255 : Int32) = nI 255 := rfl
theorem li_256 : (256 : Int32) = nI 256 := rfl
theorem li_400 : (400 : Int32) = nI 400 := rfl
theorem li_560 : (560 : Int32) = nI 560 := rfl
theorem li_9999 : (9999 : Int32) = nI 9999 := rfl
theorem li_10000 : (10000 : Int32) = nI 10000 := rfl
theorem li_99999 : (99999 : Int32) = nI 99999 := rfl
theorem li_65536 : (65536 : Int32) = nI 65536 := rfl
theorem rI_s (i : Int32) (h : AH) (k : Int32 → AH → Option ARes) (kx) : rI (some (.inl (some (.int i)), h)) k kx = k i h := rfl
theorem rL_s (i : Int64) (h : AH) (k : Int64 → AH → Option ARes) (kx) : rL (some (.inl (some (.long i)), h)) k kx = k i h := rfl
theorem rR_s (i : Nat) (h : AH) (k : Nat → AH → Option ARes) (kx) : rR (some (.inl (some (.ref i)), h)) k kx = k i h := rfl
theorem rV_s (h : AH) (k : AH → Option ARes) (kx) : rV (some (.inl none, h)) k kx = k h := rfl
theorem rI_t (q : Nat) (h : AH) (k : Int32 → AH → Option ARes) (kx) : rI (some (.inr q, h)) k kx = kx q h := rfl
theorem rL_t (q : Nat) (h : AH) (k : Int64 → AH → Option ARes) (kx) : rL (some (.inr q, h)) k kx = kx q h := rfl
theorem rR_t (q : Nat) (h : AH) (k : Nat → AH → Option ARes) (kx) : rR (some (.inr q, h)) k kx = kx q h := rfl
theorem rV_t (q : Nat) (h : AH) (k : AH → Option ARes) (kx) : rV (some (.inr q, h)) k kx = kx q h := rfl
theorem cnd_d {α : Type} (p : Prop) [Decidable p] (a b : α) : (bif decide p then a else b) = if p then a else b := by
  by_cases h : p <;> simp [h]
theorem cnd_ne {α : Type} (i j : Int32) (a b : α) : (bif !(i == j) then a else b) = if i = j then b else a := by
  by_cases h : i = j
  · simp [h]
  · rw [beq_false_of_ne h, if_neg h]; rfl
theorem cnd_eq {α : Type} (i j : Int32) (a b : α) : (bif i == j then a else b) = if i = j then a else b := by
  by_cases h : i = j
  · simp [h]
  · rw [beq_false_of_ne h, if_neg h]; rfl
def bI (b : Bool) : Int32 := bif b then 1 else 0
theorem cb_eq {α : Type} (t : Bool) (a b : α) : (bif bI t == 0 then a else b) = bif t then b else a := by cases t <;> rfl
theorem cb_ne {α : Type} (t : Bool) (a b : α) : (bif !(bI t == 0) then a else b) = bif t then a else b := by cases t <;> rfl
theorem okb_1 : (bif (1 : Int32) == 0 || (1 : Int32) == 1 then some (1 : Int32) else none) = some 1 := rfl
theorem okb_0 : (bif (0 : Int32) == 0 || (0 : Int32) == 1 then some (0 : Int32) else none) = some 0 := rfl
theorem okb_b (t : Bool) : (bif bI t == 0 || bI t == 1 then some (bI t) else none) = some (bI t) := by cases t <;> rfl
theorem bI_ite (p : Prop) [Decidable p] {α : Type} (f : Int32 → α) : (if p then f 1 else f 0) = f (bI (decide p)) := by
  by_cases h : p <;> simp [h, bI]
theorem bI_itn (p : Prop) [Decidable p] {α : Type} (f : Int32 → α) : (if p then f 0 else f 1) = f (bI (!decide p)) := by
  by_cases h : p <;> simp [h, bI]
theorem neg_lt0 : ((-1 : Int32) < 0) = True := by decide
theorem neg_le0 : ((0 : Int32) ≤ -1) = False := by decide
theorem nI_nn (n : Nat) (h : n < 2 ^ 31) : (0 ≤ nI n) = True := eq_true (nI_pos' h)
theorem nI_nlt0 (n : Nat) (h : n < 2 ^ 31) : (nI n < 0) = False := eq_false (nI_pos h)
theorem nI_leP {a b : Nat} (ha : a < 2 ^ 31) (hb : b < 2 ^ 31) : (nI a ≤ nI b) = (a ≤ b) := propext (nI_leI ha hb)
theorem nI_ltP {a b : Nat} (ha : a < 2 ^ 31) (hb : b < 2 ^ 31) : (nI a < nI b) = (a < b) := propext (nI_ltI ha hb)
theorem nI_eqP {a b : Nat} (ha : a < 2 ^ 31) (hb : b < 2 ^ 31) : (nI a = nI b) = (a = b) := propext (nI_eq ha hb)
theorem le_rT (a : Int32) : (a ≤ a) = True := eq_true (Int32.le_refl a)
theorem bI_d0 (p : Prop) [Decidable p] : (bI (decide p) = 0) = ¬ p := by
  by_cases h : p <;> simp [h, bI]
theorem bI_t0 (t : Bool) : (bI t = 0) = (t = false) := by cases t <;> simp [bI]
theorem va_up_id {α : Type} (f : Nat → α) (k : Nat) : va_up f k (f k) = f := by
  funext j
  unfold va_up
  by_cases h : j = k
  · rw [if_pos h, h]
  · rw [if_neg h]
def sumI (f : Nat → Int32) : Nat → Int32
  | 0 => 0
  | n + 1 => sumI f n + f n
def orI (f : Nat → Int32) : Nat → Int32
  | 0 => 0
  | n + 1 => orI f n ||| f n
theorem sumI_c {f g : Nat → Int32} : ∀ {n : Nat}, (∀ i, i < n → f i = g i) → sumI f n = sumI g n
  | 0, _ => rfl
  | n + 1, h => by
    show sumI f n + f n = sumI g n + g n
    rw [sumI_c (fun i hi => h i (by omega)), h n (by omega)]
theorem orI_c {f g : Nat → Int32} : ∀ {n : Nat}, (∀ i, i < n → f i = g i) → orI f n = orI g n
  | 0, _ => rfl
  | n + 1, h => by
    show orI f n ||| f n = orI g n ||| g n
    rw [orI_c (fun i hi => h i (by omega)), h n (by omega)]
