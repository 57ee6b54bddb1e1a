set_option maxRecDepth 100000
/-! ===== the text of a program; the model's parser ===== -/
abbrev isd (B : Nat → Nat) (t p : Nat) : Prop := p < t ∧ 48 ≤ B p ∧ B p ≤ 57
def pkv (B : Nat → Nat) (t p : Nat) : Int32 := if p < t then nI (B p) else (-1)
theorem nI_inj' {a b : Nat} (ha : a < 2 ^ 31) (hb : b < 2 ^ 31) : nI a = nI b ↔ a = b := nI_eq ha hb
theorem pkv_eq {B : Nat → Nat} {t p c : Nat} (hB : ∀ i, i < t → B i < 128) (hc : c < 2 ^ 31) : pkv B t p = nI c ↔ p < t ∧ B p = c := by
  unfold pkv
  by_cases e : p < t
  · rw [if_pos e, nI_eq (Nat.lt_trans (hB p e) (by decide)) hc]
    exact ⟨fun h => ⟨e, h⟩, fun h => h.2⟩
  · rw [if_neg e]
    exact ⟨fun h => (nI_m1 hc h.symm).elim, fun h => absurd h.1 e⟩
theorem pkv_d {B : Nat → Nat} {t p : Nat} (hB : ∀ i, i < t → B i < 128) : (nI 48 ≤ pkv B t p ∧ pkv B t p ≤ nI 57) ↔ isd B t p := by
  unfold pkv
  by_cases e : p < t
  · have := hB p e
    rw [if_pos e, nI_leI (by decide) (by omega), nI_leI (by omega) (by decide)]
    exact ⟨fun h => ⟨e, h⟩, fun h => h.2⟩
  · rw [if_neg e]
    exact ⟨fun h => absurd h.1 (by decide), fun h => absurd h.1 e⟩
theorem pkv_in {B : Nat → Nat} {t p : Nat} (h : p < t) : pkv B t p = nI (B p) := if_pos h
theorem pkv_out {B : Nat → Nat} {t p : Nat} (h : ¬ p < t) : pkv B t p = (-1) := if_neg h
/-- one character wanted; the state is (place, 0 or 1 if wrong) -/
def nd (B : Nat → Nat) (t c : Nat) (s : Nat × Nat) : Nat × Nat := if s.2 = 0 ∧ s.1 < t ∧ B s.1 = c then (s.1 + 1, 0) else (s.1, 1)
/-- at most n digits from place p on -/
def dgv (B : Nat → Nat) (t : Nat) : Nat → Nat → Nat → Nat × Nat
  | 0, p, v => (p, v)
  | n + 1, p, v => if isd B t p then dgv B t n (p + 1) (10 * v + B p - 48) else (p, v)
def dgs (B : Nat → Nat) (t m : Nat) (s : Nat × Nat) : (Nat × Nat) × Nat :=
  if (nd B t 32 s).2 = 0 ∧ isd B t (nd B t 32 s).1 then (((dgv B t m (nd B t 32 s).1 0).1, 0), (dgv B t m (nd B t 32 s).1 0).2) else (((nd B t 32 s).1, 1), 0)
def nds (B : Nat → Nat) (t : Nat) : List Nat → Nat × Nat → Nat × Nat
  | [], s => s
  | c :: l, s => nds B t l (nd B t c s)
theorem nd_w (B : Nat → Nat) (t c : Nat) (s : Nat × Nat) : (nd B t c s).2 ≤ 1 := by unfold nd; split <;> simp
theorem nd_p {B : Nat → Nat} {t c : Nat} {s : Nat × Nat} (h : s.1 ≤ t) : (nd B t c s).1 ≤ t ∧ s.1 ≤ (nd B t c s).1 := by unfold nd; split <;> (dsimp only; omega)
theorem nds_p {B : Nat → Nat} {t : Nat} : ∀ {l : List Nat} {s : Nat × Nat}, s.1 ≤ t → (nds B t l s).1 ≤ t ∧ s.1 ≤ (nds B t l s).1
  | [], _, h => ⟨h, Nat.le_refl _⟩
  | c :: l, s, h => by
    have h1 := nd_p (B := B) (c := c) h
    have h2 := nds_p (B := B) (l := l) h1.1
    exact ⟨h2.1, Nat.le_trans h1.2 h2.2⟩
theorem nds_w {B : Nat → Nat} {t : Nat} : ∀ {l : List Nat} {s : Nat × Nat}, s.2 ≤ 1 → (nds B t l s).2 ≤ 1
  | [], _, h => h
  | c :: l, s, _ => nds_w (l := l) (nd_w B t c s)
theorem dgv_p {B : Nat → Nat} {t : Nat} : ∀ {n p v : Nat}, p ≤ t → (dgv B t n p v).1 ≤ t ∧ p ≤ (dgv B t n p v).1
  | 0, _, _, h => ⟨h, Nat.le_refl _⟩
  | n + 1, p, v, h => by
    rw [dgv]
    split
    · rename_i e
      have h2 := dgv_p (B := B) (t := t) (n := n) (p := p + 1) (v := 10 * v + B p - 48) e.1
      exact ⟨h2.1, by omega⟩
    · exact ⟨h, Nat.le_refl _⟩
theorem dgv_v {B : Nat → Nat} {t : Nat} : ∀ {n p v b : Nat}, v < b → (dgv B t n p v).2 < b * 10 ^ n
  | 0, p, v, b, h => by
    show v < b * 1
    omega
  | n + 1, p, v, b, h => by
    rw [dgv]
    split
    · rename_i e
      have h2 := dgv_v (B := B) (t := t) (n := n) (p := p + 1) (v := 10 * v + B p - 48) (b := b * 10) (by omega)
      rw [Nat.mul_assoc, ← Nat.pow_succ'] at h2
      exact h2
    · exact Nat.lt_of_lt_of_le h (Nat.le_mul_of_pos_right _ (Nat.pow_pos (by decide)))
theorem dgs_p {B : Nat → Nat} {t m : Nat} {s : Nat × Nat} (h : s.1 ≤ t) : (dgs B t m s).1.1 ≤ t ∧ s.1 ≤ (dgs B t m s).1.1 := by
  have h1 := nd_p (B := B) (c := 32) h
  unfold dgs
  split
  · have h2 := dgv_p (B := B) (t := t) (n := m) (v := 0) h1.1
    exact ⟨h2.1, Nat.le_trans h1.2 h2.2⟩
  · exact h1
theorem dgs_w {B : Nat → Nat} {t m : Nat} {s : Nat × Nat} : (dgs B t m s).1.2 ≤ 1 := by unfold dgs; split <;> simp
theorem dgs_v {B : Nat → Nat} {t m : Nat} {s : Nat × Nat} : (dgs B t m s).2 < 10 ^ m := by
  unfold dgs
  split
  · have := dgv_v (B := B) (t := t) (n := m) (p := (nd B t 32 s).1) (v := 0) (b := 1) (by decide)
    rw [Nat.one_mul] at this
    exact this
  · exact Nat.pow_pos (by decide)
/-- a command: the state behind it, its letter and its two numbers -/
def mcm (B : Nat → Nat) (t p : Nat) : (Nat × Nat) × Nat × Nat × Nat :=
  if p < t ∧ B p = 104 then ((dgs B t 3 (nds B t [97, 110, 103] (p + 1, 0))).1, 104, (dgs B t 3 (nds B t [97, 110, 103] (p + 1, 0))).2, 0)
  else if p < t ∧ B p = 112 then ((dgs B t 3 (dgs B t 1 (nds B t [117, 115, 104] (p + 1, 0))).1).1, 112, (dgs B t 1 (nds B t [117, 115, 104] (p + 1, 0))).2, (dgs B t 3 (dgs B t 1 (nds B t [117, 115, 104] (p + 1, 0))).1).2)
  else if p < t ∧ B p = 99 then (if p + 1 < t ∧ B (p + 1) = 117 then ((dgs B t 1 (nds B t [117, 116] (p + 1, 0))).1, 117, (dgs B t 1 (nds B t [117, 116] (p + 1, 0))).2, 0)
    else ((dgs B t 1 (nds B t [97, 116, 99, 104] (p + 1, 0))).1, 99, (dgs B t 1 (nds B t [97, 116, 99, 104] (p + 1, 0))).2, 0))
  else if p < t ∧ B p = 102 then ((dgs B t 3 (nds B t [114, 105, 99, 116, 105, 111, 110] (p + 1, 0))).1, 102, (dgs B t 3 (nds B t [114, 105, 99, 116, 105, 111, 110] (p + 1, 0))).2, 0)
  else if p < t ∧ B p = 108 then ((dgs B t 3 (nds B t [101, 103] (p + 1, 0))).1, 108, (dgs B t 3 (nds B t [101, 103] (p + 1, 0))).2, 0)
  else if p < t ∧ B p = 116 then ((dgs B t 3 (nds B t [105, 99, 107] (p + 1, 0))).1, 116, (dgs B t 3 (nds B t [105, 99, 107] (p + 1, 0))).2, 0)
  else ((p, 1), 0, 0, 0)
/-- the model's state while it parses -/
def PS (S : MS) (Q : Nat → Nat) (s : Nat × Nat) : MS := ss (ss (sa S 7 Q) 14 (nI s.1)) 15 (nI s.2)
theorem PS_15 (S : MS) (Q : Nat → Nat) (p w z : Nat) : ss (PS S Q (p, w)) 15 (nI z) = PS S Q (p, z) := ss_ss _ _ _ _
theorem PS_14 (S : MS) (Q : Nat → Nat) (p w z : Nat) : ss (PS S Q (p, w)) 14 (nI z) = PS S Q (z, w) := by
  unfold PS
  refine Prod.ext (funext fun k => ?_) rfl
  by_cases e : k = 14
  · subst e; simp [ss, va_up]
  · by_cases e2 : k = 15 <;> simp [ss, va_up, e, e2]
theorem PS_a15 (S : MS) (Q : Nat → Nat) (s : Nat × Nat) : (PS S Q s).1 15 = nI s.2 := ss_at _ _ _
theorem PS_a14 (S : MS) (Q : Nat → Nat) (s : Nat × Nat) : (PS S Q s).1 14 = nI s.1 := by
  unfold PS
  rw [ss_ne _ _ (by decide), ss_at]
theorem PS_a7 (S : MS) (Q : Nat → Nat) (s : Nat × Nat) : (PS S Q s).1 7 = S.1 7 := by
  unfold PS
  rw [ss_ne _ _ (by decide), ss_ne _ _ (by decide), sa_1]
theorem PS_A4 (S : MS) (Q : Nat → Nat) (s : Nat × Nat) : (PS S Q s).2 4 = S.2 4 := sa_ne S Q (i := 7) (j := 4) (by decide)
theorem PS_A7 (S : MS) (Q : Nat → Nat) (s : Nat × Nat) : (PS S Q s).2 7 = Q := sa_at S 7 Q
theorem PS_q (S : MS) (Q Q' : Nat → Nat) (s : Nat × Nat) : sa (PS S Q s) 7 Q' = PS S Q' s := by
  unfold PS
  rw [ss_sa, ss_sa, ss_sa, ss_sa, sa_sa]
theorem nzz {z : Nat} (h : z ≤ 1) : narrow .boolean (.int (nI z)) = .int (nI z) := by
  rcases Nat.le_one_iff_eq_zero_or_eq_one.mp h with e | e <;> subst e
  · exact nz0
  · exact nz1
theorem ftz {z : Nat} (h : z ≤ 1) : fits .boolean (.int (nI z)) = true := by
  rcases Nat.le_one_iff_eq_zero_or_eq_one.mp h with e | e <;> subst e <;> decide
