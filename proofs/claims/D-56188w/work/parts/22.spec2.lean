set_option maxRecDepth 100000
/-! ===== what the questions answer ===== -/
theorem dgt {a b : Nat} (ha : a < 2 ^ 30) (hb : b < 2 ^ 30) : (0 < nI a - nI b) ↔ b < a := by
  rw [Int32.lt_iff_toInt_lt, pk_sub_toInt ha hb, Int32.toInt_zero]
  omega
theorem deq {a b : Nat} (ha : a < 2 ^ 30) (hb : b < 2 ^ 30) : (nI a - nI b = 0) ↔ a = b := by
  rw [← Int32.toInt_inj, pk_sub_toInt ha hb, Int32.toInt_zero]
  omega
theorem dge {a b : Nat} (ha : a < 2 ^ 30) (hb : b < 2 ^ 30) : (0 ≤ nI a - nI b) ↔ b ≤ a := by
  rw [Int32.le_iff_toInt_le, pk_sub_toInt ha hb, Int32.toInt_zero]
  omega
theorem dneg {a b : Nat} : -(nI a - nI b) = nI b - nI a := by rw [Int32.neg_sub]
/-- the least number below n that has p -/
def fst1 (p : Nat → Bool) : Nat → Option Nat
  | 0 => none
  | n + 1 => match fst1 p n with
    | some k => some k
    | none => if p n then some n else none
theorem fst1_none {p : Nat → Bool} : ∀ {n : Nat}, (∀ j, j < n → p j = false) → fst1 p n = none
  | 0, _ => rfl
  | n + 1, h => by
    show (match fst1 p n with | some k => some k | none => if p n then some n else none) = none
    rw [fst1_none fun j hj => h j (Nat.lt_succ_of_lt hj)]
    simp only [h n (Nat.lt_succ_self n), Bool.false_eq_true, if_false]
theorem fst1_some {p : Nat → Bool} {k : Nat} (hp : p k = true) (h : ∀ j, j < k → p j = false) : ∀ {n : Nat}, k < n → fst1 p n = some k
  | 0, q => absurd q (Nat.not_lt_zero _)
  | n + 1, q => by
    show (match fst1 p n with | some k => some k | none => if p n then some n else none) = some k
    rcases Nat.lt_or_ge k n with e | e
    · rw [fst1_some hp h e]
    · have e : k = n := by omega
      subst e
      rw [fst1_none h]
      simp only [hp, if_true]
theorem fst1_lt {p : Nat → Bool} : ∀ {n k : Nat}, fst1 p n = some k → k < n
  | 0, _, h => by cases h
  | n + 1, k, h => by
    rw [fst1] at h
    split at h
    · rename_i j hj
      cases h
      exact Nat.lt_succ_of_lt (fst1_lt hj)
    · split at h
      · cases h
        exact Nat.lt_succ_self _
      · cases h
def cnt (p : Nat → Bool) : Nat → Nat
  | 0 => 0
  | n + 1 => cnt p n + if p n = true then 1 else 0
theorem cnt_le (p : Nat → Bool) : ∀ n, cnt p n ≤ n
  | 0 => Nat.le_refl _
  | n + 1 => by
    have := cnt_le p n
    show cnt p n + (if p n = true then 1 else 0) ≤ n + 1
    split <;> omega
theorem cnt_t {p : Nat → Bool} {n : Nat} (h : p n = true) : cnt p (n + 1) = cnt p n + 1 := by rw [cnt, if_pos h]
theorem cnt_f {p : Nat → Bool} {n : Nat} (h : p n = false) : cnt p (n + 1) = cnt p n + 0 := by rw [cnt, if_neg (by rw [h]; decide)]
theorem ifd {p : Prop} [Decidable p] : (if decide p = true then 1 else 0) = if p then 1 else (0 : Nat) := by
  by_cases e : p <;> simp [e]
def sm (f : Nat → Nat) : Nat → Nat
  | 0 => 0
  | n + 1 => sm f n + f n
theorem sm_le {f : Nat → Nat} {b : Nat} : ∀ n, (∀ k, k < n → f k ≤ b) → sm f n ≤ n * b
  | 0, _ => Nat.zero_le _
  | n + 1, h => by
    have := sm_le n fun k hk => h k (Nat.lt_succ_of_lt hk)
    have := h n (Nat.lt_succ_self n)
    show sm f n + f n ≤ (n + 1) * b
    rw [Nat.succ_mul]
    omega
/-- is o ahead of k -/
abbrev ahd (G : Nat → Nat) (o k : Nat) : Prop := G (12 + k) < G (12 + o) ∨ (G (12 + o) = G (12 + k) ∧ (G (28 + k) < G (28 + o) ∨ (G (28 + o) = G (28 + k) ∧ o < k)))
def rk (G : Nat → Nat) (k : Nat) : Nat := cnt (fun o => decide (ahd G o k)) (G 2)
def sp_rank (G : Nat → Nat) (x : Int32) : Nat × Int32 := match fst1 (fun k => decide (nI (rk G k) = x)) (G 2) with
  | some k => (0, nI k)
  | none => (1, nI 0)
/-- how many swings to rest -/
def swl (f : Nat) : Nat → Nat → Nat
  | 0, _ => 0
  | n + 1, a => if a = 0 then 0 else swl f n (beh a f) + 1
theorem swl_fuel (f : Nat) : ∀ n m a, a < n → a < m → swl f n a = swl f m a
  | 0, _, _, h, _ => absurd h (Nat.not_lt_zero _)
  | _ + 1, 0, _, _, h => absurd h (Nat.not_lt_zero _)
  | n + 1, m + 1, a, h1, h2 => by
    rw [swl, swl]
    split
    · rfl
    · have := beh_lt (a := a) (f := f) (by omega)
      rw [swl_fuel f n m (beh a f) (by omega) (by omega)]
theorem swl_le (f : Nat) : ∀ n a, swl f n a ≤ a
  | 0, _ => Nat.zero_le _
  | n + 1, a => by
    rw [swl]
    split
    · exact Nat.zero_le _
    · have := beh_lt (a := a) (f := f) (by omega)
      have := swl_le f n (beh a f)
      omega
theorem swl_0 (f : Nat) : ∀ n, swl f n 0 = 0
  | 0 => rfl
  | n + 1 => by rw [swl, if_pos rfl]
def sp_left (G : Nat → Nat) (x : Int32) : Nat × Int32 := if ix x (G 2) then (0, nI (swl (G 1) 61 (G (12 + x.toNatClampNeg)))) else (1, nI 0)
def unt (G : Nat → Nat) (p t : Nat) : Nat := (t - G (20 + p)) / per (G (4 + p))
def sp_rest (G : Nat → Nat) (x : Int32) : Nat × Int32 := if ix x (G 2) then (if G (12 + x.toNatClampNeg) = 0 then (2, nI 0) else
  (0, nI (G (20 + x.toNatClampNeg) + (unt G x.toNatClampNeg (G 0) + swl (G 1) 61 (G (12 + x.toNatClampNeg))) * per (G (4 + x.toNatClampNeg))))) else (1, nI 0)
def behN (f : Nat) : Nat → Nat → Nat
  | 0, a => a
  | n + 1, a => behN f n (beh a f)
theorem behN_0 (f : Nat) : ∀ n, behN f n 0 = 0
  | 0 => rfl
  | n + 1 => by rw [behN, show beh 0 f = 0 from Nat.zero_sub _, behN_0 f n]
theorem behN_le (f : Nat) : ∀ n a, behN f n a ≤ a
  | 0, _ => Nat.le_refl _
  | n + 1, a => Nat.le_trans (behN_le f n _) (beh_le a f)
theorem behN_s (f : Nat) : ∀ n a, behN f (n + 1) a = beh (behN f n a) f
  | 0, _ => rfl
  | n + 1, a => by
    show behN f (n + 1) (beh a f) = _
    rw [behN_s f n (beh a f)]
    rfl
def sp_after (G : Nat → Nat) (x z : Int32) : Nat × Int32 := if ix x (G 2) then (if nI 0 ≤ z ∧ z ≤ nI 500 then
  (0, nI (behN (G 1) (unt G x.toNatClampNeg (G 0 + z.toNatClampNeg) - unt G x.toNatClampNeg (G 0)) (G (12 + x.toNatClampNeg)))) else (2, nI 0)) else (1, nI 0)
def cyc (G : Nat → Nat) (a b : Nat) : Nat := per (G (4 + a)) / Nat.gcd (per (G (4 + a))) (per (G (4 + b))) * per (G (4 + b))
theorem cyc_le {G : Nat → Nat} {a b : Nat} : cyc G a b ≤ 3600 := by
  have h1 := per_le (G (4 + a))
  have h2 := per_le (G (4 + b))
  have h3 : per (G (4 + a)) / Nat.gcd (per (G (4 + a))) (per (G (4 + b))) ≤ 60 := Nat.le_trans (Nat.div_le_self _ _) h1
  exact Nat.mul_le_mul h3 h2
abbrev mts (G : Nat → Nat) (a b t : Nat) : Prop := (t - G (20 + a)) % per (G (4 + a)) = 0 ∧ (t - G (20 + b)) % per (G (4 + b)) = 0
def meet (G : Nat → Nat) (a b : Nat) : Option Nat := fst1 (fun k => decide (mts G a b (G 0 + 1 + k))) (cyc G a b)
def sp_meet (G : Nat → Nat) (x z : Int32) : Nat × Int32 := if ix x (G 2) ∧ ix z (G 2) then (if G (12 + x.toNatClampNeg) = 0 ∨ G (12 + z.toNatClampNeg) = 0 then (2, nI 0) else
  match meet G x.toNatClampNeg z.toNatClampNeg with
  | some k => (0, nI (G 0 + 1 + k))
  | none => (3, nI 0)) else (1, nI 0)
def dst (a b : Nat) : Nat := (a - b) + (b - a)
abbrev pair (G : Nat → Nat) (a b : Nat) : Prop := (¬ G (12 + a) = 0 ∧ ¬ G (12 + b) = 0) ∧ dst (G (20 + a)) (G (20 + b)) % Nat.gcd (per (G (4 + a))) (per (G (4 + b))) = 0
def sp_pairs (G : Nat → Nat) : Nat := sm (fun b => cnt (fun a => decide (pair G a b)) b) (G 2)
def sp_cycle (G : Nat → Nat) (x z : Int32) : Nat × Int32 := if ix x (G 2) ∧ ix z (G 2) then (0, nI (cyc G x.toNatClampNeg z.toNatClampNeg)) else (1, nI 0)
def wnr (G : Nat → Nat) (x : Int32) : Nat := if nI 0 ≤ x ∧ x ≤ nI 2 then (if G (36 + x.toNatClampNeg) = 0 then 2 else 0) else 1
theorem wnr_lt (G : Nat → Nat) (x : Int32) : wnr G x < 3 := by unfold wnr; split <;> (try split) <;> omega
theorem wnr_0 {G : Nat → Nat} {x : Int32} (h : wnr G x = 0) (a : Nat) : ∃ k, k ≤ 2 ∧ x = nI k ∧ sp_rec G a x = (0, nI (G (a + k))) := by
  unfold wnr at h
  split at h
  · rename_i h1
    split at h
    · cases h
    · rename_i h2
      obtain ⟨k, -, hk, rfl⟩ := rg_of (by decide) h1.1 h1.2 (by decide)
      refine ⟨k, hk, rfl, ?_⟩
      rw [sp_rec, if_pos h1, if_neg h2, nI_clamp (by omega)]
  · cases h
theorem wnr_1 {G : Nat → Nat} {x : Int32} (h : 0 < wnr G x) (a : Nat) : sp_rec G a x = (wnr G x, nI 0) := by
  unfold wnr at h ⊢
  unfold sp_rec
  split at h
  · rename_i h1
    rw [if_pos h1, if_pos h1]
    split at h
    · rename_i h2
      rw [if_pos h2, if_pos h2]
    · cases h
  · rename_i h1
    rw [if_neg h1, if_neg h1]
theorem nI_m1 {t : Nat} (h : t < 2 ^ 31) (e : nI t = (-1)) : False := by
  have e2 := congrArg Int32.toInt e
  rw [nI_toInt h] at e2
  have e3 : (-1 : Int32).toInt = -1 := by decide
  omega
