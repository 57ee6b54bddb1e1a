set_option maxRecDepth 100000
/-! ===== numbers as text; the model's card, its history ===== -/
theorem i2cN {c : Nat} (h : c < 65536) : ((nI c).toUInt32 % 65536).toInt32 = nI c := by
  rw [pk_char, pk_tn (by omega), Nat.mod_eq_of_lt h]
/-- the k lowest digits of v, as characters -/
def dg (v : Nat) : Nat → List Nat
  | 0 => []
  | k + 1 => (48 + v / 10 ^ k % 10) :: dg v k
/-- the place of the highest digit -/
def ndF (v : Nat) : Nat → Nat
  | 0 => 0
  | k + 1 => if v < 10 ^ (k + 1) then ndF v k else k + 1
def num (v : Nat) : List Nat := dg v (ndF v 8 + 1)
theorem dg_len (v : Nat) : ∀ k, (dg v k).length = k
  | 0 => rfl
  | k + 1 => congrArg (· + 1) (dg_len v k)
theorem ndF_le (v : Nat) : ∀ k, ndF v k ≤ k
  | 0 => Nat.le_refl _
  | k + 1 => by
    have := ndF_le v k
    rw [ndF]
    split <;> omega
theorem num_len (v : Nat) : (num v).length ≤ 9 := by
  have := ndF_le v 8
  rw [num, dg_len]
  omega
/-- characters written from place n on -/
def wr (A : Nat → Nat) : Nat → List Nat → Nat → Nat
  | _, [] => A
  | n, c :: l => wr (va_up A n c) (n + 1) l
theorem wr_app (A : Nat → Nat) : ∀ (l m : List Nat) (n : Nat), wr A n (l ++ m) = wr (wr A n l) (n + l.length) m
  | [], m, n => rfl
  | c :: l, m, n => by
    show wr (va_up A n c) (n + 1) (l ++ m) = wr (wr (va_up A n c) (n + 1) l) (n + (l.length + 1)) m
    rw [wr_app _ l m (n + 1), show n + 1 + l.length = n + (l.length + 1) by omega]
theorem wr_low (A : Nat → Nat) : ∀ (l : List Nat) (n j : Nat), j < n → wr A n l j = A j
  | [], _, _, _ => rfl
  | c :: l, n, j, h => by
    show wr (va_up A n c) (n + 1) l j = _
    rw [wr_low _ l (n + 1) j (by omega), up_ne _ _ (by omega)]
theorem wr_at (A : Nat → Nat) : ∀ (l : List Nat) (n i : Nat) (h : i < l.length), wr A n l (n + i) = l[i]
  | [], _, _, h => absurd h (Nat.not_lt_zero _)
  | c :: l, n, 0, h => by
    show wr (va_up A n c) (n + 1) l n = c
    rw [wr_low _ l (n + 1) n (by omega), up_same]
  | c :: l, n, i + 1, h => by
    show wr (va_up A n c) (n + 1) l (n + (i + 1)) = l[i]'(Nat.lt_of_succ_lt_succ h)
    rw [show n + (i + 1) = n + 1 + i by omega]
    exact wr_at _ l (n + 1) i (Nat.lt_of_succ_lt_succ h)
/-- the model's state with a card written -/
def CDL (S : MS) (l : List Nat) : MS := ss (sa S 5 (wr (S.2 5) 0 l)) 11 (nI l.length)
theorem CDL_s (S : MS) (l : List Nat) (c : Nat) : ss (sa (CDL S l) 5 (va_up ((CDL S l).2 5) l.length c)) 11 (nI (l.length + 1)) = CDL S (l ++ [c]) := by
  refine Prod.ext (funext fun k => ?_) (funext fun i => ?_)
  · by_cases e : k = 11 <;> simp [CDL, ss, sa, va_up, e]
  · by_cases e : i = 5
    · subst e
      have e1 : (ss (sa (CDL S l) 5 (va_up ((CDL S l).2 5) l.length c)) 11 (nI (l.length + 1))).2 5 = va_up (wr (S.2 5) 0 l) l.length c := by
        rw [ss_2, sa_at]
        show va_up ((sa S 5 (wr (S.2 5) 0 l)).2 5) l.length c = _
        rw [sa_at]
      have e2 : (CDL S (l ++ [c])).2 5 = wr (S.2 5) 0 (l ++ [c])  := by simp [CDL, ss, sa, va_up]
      rw [e1, e2, wr_app, Nat.zero_add]
      rfl
    · simp [CDL, ss, sa, va_up, e]
theorem CDL_0 (S : MS) : ss S 11 (nI 0) = CDL S [] := by
  show _ = ss (sa S 5 (S.2 5)) 11 (nI 0)
  rw [sa_self]
theorem CDL_11 (S : MS) (l : List Nat) : (CDL S l).1 11 = nI l.length := ss_at _ _ _
/-- the card of pendulum p -/
def crd (G : Nat → Nat) (p : Nat) : List Nat :=
  num p ++ [58] ++ num (G (4 + p)) ++ [99] ++ [109] ++ [32] ++ (if G (12 + p) = 0 then [114] ++ [101] ++ [115] ++ [116] else num (G (12 + p)) ++ [64] ++ num (G (20 + p))) ++ (if 0 < G (36 + knd (G (4 + p))) ∧ G (39 + knd (G (4 + p))) = p then [42] else [])
theorem JG_p0 (S : MS) (G A : Nat → Nat) (r : MH) : ph (JG S G r) 411 (.inl (0, 48, .inl fun j => nI (A j))) = JG S A r := by
  unfold JG
  rw [J_ar _ r 0 A 411 0 48 (by omega), sa_sa]
theorem JG_p1 (S : MS) (G A : Nat → Nat) (r : MH) : ph (JG S G r) 412 (.inl (0, 48, .inl fun j => nI (A j))) = JG (sa S 1 A) G r := by
  unfold JG
  rw [J_ar _ r 1 A 412 0 48 (by omega), sa_comm _ _ _ (by decide)]
theorem JG_p2 (S : MS) (G A : Nat → Nat) (r : MH) : ph (JG S G r) 413 (.inl (0, 384, .inl fun j => nI (A j))) = JG (sa S 2 A) G r := by
  unfold JG
  rw [J_ar _ r 2 A 413 0 384 (by omega), sa_comm _ _ _ (by decide)]
theorem JG_p3 (S : MS) (G A : Nat → Nat) (r : MH) : ph (JG S G r) 414 (.inl (0, 48, .inl fun j => nI (A j))) = JG (sa S 3 A) G r := by
  unfold JG
  rw [J_ar _ r 3 A 414 0 48 (by omega), sa_comm _ _ _ (by decide)]
/-- alike as gymnasiums -/
def eq48 (A B : Nat → Nat) : Prop := ∀ j, j < 48 → A j = B j
theorem eq48_cpy (f g : Nat → Nat) : eq48 (va_cpy f g 0 0 48) f := fun j hj => by
  rw [pk_cpy_in (Nat.zero_le _) (by omega)]
  congr 1
  omega
def ncn (c : Nat) : Nat := if c = 8 then 8 else c + 1
/-- the history H0 of c states with one more -/
def hpu (c : Nat) (H0 G H : Nat → Nat) : Prop := (∀ j, j < 48 → H ((ncn c - 1) * 48 + j) = G j) ∧ ∀ i j, j < 48 → i + 1 < ncn c → H (i * 48 + j) = H0 ((i + if c = 8 then 1 else 0) * 48 + j)
/-- what a change leaves behind -/
def KP (S : MS) (c : Nat) (G : Nat → Nat) (r : MH) (sp : Nat × Int32 × (Nat → Nat)) (o : Option Value) (h' : MH) : Prop := o = some (.int sp.2.1) ∧
  ((sp.1 = 0 ∧ ∃ bf H, hpu c (S.2 2) G H ∧ h' = JG (ss (ss (sa (sa S 1 bf) 2 H) 12 (nI 0)) 3 (nI (ncn c))) sp.2.2 r) ∨ (¬ sp.1 = 0 ∧ ∃ bf G2, eq48 G2 G ∧ h' = JG (ss (sa S 1 bf) 12 (nI sp.1)) G2 r))
