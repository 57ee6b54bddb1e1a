set_option maxRecDepth 100000
/-! ===== the mini heap's laws; booleans; what the operations do, on one array of numbers ===== -/
theorem ph_same (h : MH) (a : Nat) (c : MC) : (ph h a c).2 a = some c := by simp [ph]
theorem ph_ne (h : MH) {a b : Nat} (c : MC) (e : b ≠ a) : (ph h a c).2 b = h.2 b := by simp [ph, e]
theorem ph_ph (h : MH) (a : Nat) (c c' : MC) : ph (ph h a c) a c' = ph h a c' := by
  refine Prod.ext rfl (funext fun k => ?_)
  by_cases e : k = a <;> simp [ph, e]
theorem ph_self (h : MH) {a : Nat} {c : MC} (e : h.2 a = some c) : ph h a c = h := by
  refine Prod.ext rfl (funext fun k => ?_)
  by_cases q : k = a
  · subst q; simp [ph, e]
  · simp [ph, q]
theorem nh_same (h : MH) (c : MC) : (nh h c).2 h.1 = some c := by simp [nh]
theorem nh_ne (h : MH) {b : Nat} (c : MC) (e : b ≠ h.1) : (nh h c).2 b = h.2 b := by simp [nh, e]
/-- a boolean as the machine has it -/
def bi (c : Prop) [Decidable c] : Int32 := if c then nI 1 else nI 0
theorem bi_t {c : Prop} [Decidable c] (h : c) : bi c = nI 1 := if_pos h
theorem bi_f {c : Prop} [Decidable c] (h : ¬ c) : bi c = nI 0 := if_neg h
theorem bi_cg {c c' : Prop} [Decidable c] [Decidable c'] (h : c ↔ c') : bi c = bi c' := by
  by_cases e : c
  · rw [bi_t e, bi_t (h.mp e)]
  · rw [bi_f e, bi_f (fun z => e (h.mpr z))]
theorem nz1 : narrow .boolean (.int (nI 1)) = .int (nI 1) := by decide
theorem nz0 : narrow .boolean (.int (nI 0)) = .int (nI 0) := by decide
theorem nzb (c : Prop) [Decidable c] : narrow .boolean (.int (bi c)) = .int (bi c) := by
  by_cases e : c
  · rw [bi_t e]; exact nz1
  · rw [bi_f e]; exact nz0
theorem ftb (c : Prop) [Decidable c] : fits .boolean (.int (bi c)) = true := by
  by_cases e : c
  · rw [bi_t e]; decide
  · rw [bi_f e]; decide
section RB
variable {E : EV} {y : MethodName} {cc : ByteArray} {nL : Nat} {ret : Option FieldType} {hh : List (Nat × Nat × Nat × Nat)} {QR : Option Value → MH → Prop} {QX : Nat → MH → Prop} {d kc ks : Nat} {h : MH} {pc : Nat} {ls : List (Nat × Value)} {st : List Value}
theorem rb_if_ne {c : Prop} [Decidable c] {off : Int} {tgt : Nat} (hd : decode cc pc = .ok (.ifCond .ne off, 3)) (ht : (pc : Int) + off = (tgt : Int)) (kt : c → SW E y cc nL ret hh QR QX d kc ks h tgt ls st) (kf : ¬ c → SW E y cc nL ret hh QR QX d kc ks h (pc + 3) ls st) : SW E y cc nL ret hh QR QX d kc ks h pc ls (.int (bi c) :: st) := by
  by_cases e : c
  · rw [bi_t e]; exact rn_if_ne hd ht (by decide) (fun _ => kt e) (fun z => by cases z)
  · rw [bi_f e]; exact rn_if_ne hd ht (by decide) (fun z => absurd rfl z) (fun _ => kf e)
theorem rb_if_eq {c : Prop} [Decidable c] {off : Int} {tgt : Nat} (hd : decode cc pc = .ok (.ifCond .eq off, 3)) (ht : (pc : Int) + off = (tgt : Int)) (kt : ¬ c → SW E y cc nL ret hh QR QX d kc ks h tgt ls st) (kf : c → SW E y cc nL ret hh QR QX d kc ks h (pc + 3) ls st) : SW E y cc nL ret hh QR QX d kc ks h pc ls (.int (bi c) :: st) := by
  by_cases e : c
  · rw [bi_t e]; exact rn_if_eq hd ht (by decide) (fun z => by cases z) (fun _ => kf e)
  · rw [bi_f e]; exact rn_if_eq hd ht (by decide) (fun _ => kt e) (fun z => absurd rfl z)
theorem r_heap {h' : MH} (e : h = h') (k : SW E y cc nL ret hh QR QX d kc ks h' pc ls st) : SW E y cc nL ret hh QR QX d kc ks h pc ls st := e ▸ k
theorem r_stk {st' : List Value} (e : st = st') (k : SW E y cc nL ret hh QR QX d kc ks h pc ls st') : SW E y cc nL ret hh QR QX d kc ks h pc ls st := e ▸ k
theorem r_ls {ls' : List (Nat × Value)} (e : ls = ls') (k : SW E y cc nL ret hh QR QX d kc ks h pc ls' st) : SW E y cc nL ret hh QR QX d kc ks h pc ls st := e ▸ k
theorem r_ti {v w : Int32} (e : w = v) (k : SW E y cc nL ret hh QR QX d kc ks h pc ls (.int v :: st)) : SW E y cc nL ret hh QR QX d kc ks h pc ls (.int w :: st) := e ▸ k
theorem r_drop {a b : List (Nat × Value)} (k : SW E y cc nL ret hh QR QX d kc ks h pc a st) : SW E y cc nL ret hh QR QX d kc ks h pc (a ++ b) st := r_sub (fun _ hq => List.mem_append_left b hq) k
end RB
/-- an int of the script that lies in a range -/
theorem rg_of {a b : Nat} {x : Int32} (hb : b < 2 ^ 31) (h1 : nI a ≤ x) (h2 : x ≤ nI b) (hab : a < 2 ^ 31) : ∃ k, a ≤ k ∧ k ≤ b ∧ x = nI k := by
  rw [Int32.le_iff_toInt_le, nI_toInt hab] at h1
  rw [Int32.le_iff_toInt_le, nI_toInt hb] at h2
  have h3 : ¬ x < 0 := fun q => by
    rw [Int32.lt_iff_toInt_lt, Int32.toInt_zero] at q
    omega
  obtain ⟨j, hj, rfl⟩ := nI_of h3
  rw [nI_toInt hj] at h1 h2
  exact ⟨j, by omega, by omega, rfl⟩
/-- 0 ≤ x < n -/
abbrev ix (x : Int32) (n : Nat) : Prop := 0 ≤ x.toInt ∧ x.toInt < n
theorem ix_in {x : Int32} {n : Nat} (hn : n < 2 ^ 30) : (nI 0 ≤ x ∧ x ≤ nI n - nI 1) ↔ ix x n := by
  have e1 : (nI n - nI 1).toInt = (n : Int) - 1 := pk_sub_toInt hn (by decide)
  rw [Int32.le_iff_toInt_le, Int32.le_iff_toInt_le, e1, nI_toInt (by decide)]
  unfold ix
  omega
theorem ix_of {x : Int32} {n : Nat} (hn : n < 2 ^ 31) (h : ix x n) : ∃ k, k < n ∧ x = nI k := vp_in_of (vp_in_iff.mpr h) hn
theorem ix_n {k n : Nat} (hk : k < 2 ^ 31) : ix (nI k) n ↔ k < n := by
  unfold ix
  rw [nI_toInt hk]
  omega
theorem sa_self (S : MS) (i : Nat) : sa S i (S.2 i) = S := by
  refine Prod.ext rfl (funext fun k => ?_)
  by_cases e : k = i <;> simp [sa, va_up, e]
theorem sa_sa (S : MS) (i : Nat) (A B : Nat → Nat) : sa (sa S i A) i B = sa S i B := by
  refine Prod.ext rfl (funext fun k => ?_)
  by_cases e : k = i <;> simp [sa, va_up, e]
theorem ss_ss (S : MS) (i : Nat) (x z : Int32) : ss (ss S i x) i z = ss S i z := by
  refine Prod.ext (funext fun k => ?_) rfl
  by_cases e : k = i <;> simp [ss, va_up, e]
theorem sa_at (S : MS) (i : Nat) (A : Nat → Nat) : (sa S i A).2 i = A := by simp [sa, va_up]
theorem ss_at (S : MS) (i : Nat) (x : Int32) : (ss S i x).1 i = x := by simp [ss, va_up]
theorem sa_ne (S : MS) {i j : Nat} (A : Nat → Nat) (h : j ≠ i) : (sa S i A).2 j = S.2 j := by simp [sa, va_up, h]
theorem ss_ne (S : MS) {i j : Nat} (x : Int32) (h : j ≠ i) : (ss S i x).1 j = S.1 j := by simp [ss, va_up, h]
theorem sa_1 (S : MS) (i : Nat) (A : Nat → Nat) : (sa S i A).1 = S.1 := rfl
theorem ss_2 (S : MS) (i : Nat) (x : Int32) : (ss S i x).2 = S.2 := rfl
theorem ss_sa (S : MS) (i j : Nat) (A : Nat → Nat) (x : Int32) : ss (sa S i A) j x = sa (ss S j x) i A := rfl
/-- the greatest k up to the bound with k * k ≤ n -/
def sq (n : Nat) : Nat → Nat
  | 0 => 0
  | k + 1 => if (k + 1) * (k + 1) ≤ n then k + 1 else sq n k
theorem sq_le (n : Nat) : ∀ k, sq n k * sq n k ≤ n
  | 0 => Nat.zero_le _
  | k + 1 => by
    rw [sq]
    split
    · assumption
    · exact sq_le n k
theorem sq_uniq {n r : Nat} (h1 : r * r ≤ n) (h2 : n < (r + 1) * (r + 1)) : ∀ k, r ≤ k → sq n k = r
  | 0, hk => by rw [sq]; omega
  | k + 1, hk => by
    rw [sq]
    split
    · rename_i h3
      rcases Nat.lt_or_ge r (k + 1) with g | g
      · have := Nat.mul_le_mul (show r + 1 ≤ k + 1 by omega) (show r + 1 ≤ k + 1 by omega)
        omega
      · omega
    · rename_i h3
      refine sq_uniq h1 h2 k ?_
      rcases Nat.lt_or_ge r (k + 1) with g | g
      · omega
      · have e : r = k + 1 := by omega
        rw [← e] at h3
        omega
/-- the period of a pendulum of length L -/
def per (L : Nat) : Nat := sq (36 * L) 60
/-- its class -/
def knd (L : Nat) : Nat := if L < 30 then 0 else if L < 60 then 1 else 2
/-- the amplitude behind a swing -/
def beh (a f : Nat) : Nat := a - (if a * f / 100 < 1 then 1 else a * f / 100)
/-- the numbers of a gymnasium: 0 clock, 1 friction, 2 how many pendulums, 3 legs, 4.. lengths, 12.. amplitudes, 20.. starts, 28.. swings, 36.. records, 39.. holders, 42.. wishes -/
def gOK (G : Nat → Nat) : Prop := G 0 < 8388608 ∧ G 1 ≤ 30 ∧ G 2 ≤ 8 ∧ G 3 ≤ 6 ∧ (∀ k, k < 8 → G (4 + k) ≤ 99 ∧ G (12 + k) ≤ 60 ∧ G (20 + k) ≤ G 0 ∧ G (28 + k) ≤ G 0 ∧ (k < G 2 → 1 ≤ G (4 + k)) ∧ (G 2 ≤ k → G (12 + k) = 0 ∧ G (28 + k) = 0)) ∧ (∀ k, k < 3 → G (36 + k) ≤ 60 ∧ G (39 + k) < 8) ∧ ∀ k, k < 6 → G (42 + k) ≤ 60 ∧ (k < G 3 → 1 ≤ G (42 + k))
def sp_num (G : Nat → Nat) (at0 : Nat) (x : Int32) : Nat × Int32 := if ix x (G 2) then (0, nI (G (at0 + x.toNatClampNeg))) else (1, nI 0)
def sp_adds (G : Nat → Nat) (x : Int32) : Nat × Int32 × (Nat → Nat) :=
  if nI 1 ≤ x ∧ x ≤ nI 99 then (if G 2 = 8 then (2, nI 0, G) else (0, nI (G 2), va_up (va_up G (4 + G 2) x.toNatClampNeg) 2 (G 2 + 1))) else (1, nI 0, G)
def sp_push1 (G : Nat → Nat) (p a : Nat) : Nat → Nat := va_up (if G (12 + p) = 0 then va_up G (20 + p) (G 0) else G) (12 + p) a
def sp_push2 (G : Nat → Nat) (p a : Nat) : Nat → Nat := if G (36 + knd (G (4 + p))) < a then va_up (va_up (sp_push1 G p a) (36 + knd (G (4 + p))) a) (39 + knd (G (4 + p))) p else sp_push1 G p a
def sp_pushes (G : Nat → Nat) (x z : Int32) : Nat × Int32 × (Nat → Nat) :=
  if ix x (G 2) then (if nI 1 ≤ z ∧ z ≤ nI 60 then (if 60 < G (12 + x.toNatClampNeg) + z.toNatClampNeg then (3, nI 0, G) else
    (0, nI (G (12 + x.toNatClampNeg) + z.toNatClampNeg), sp_push2 G x.toNatClampNeg (G (12 + x.toNatClampNeg) + z.toNatClampNeg))) else (2, nI 0, G)) else (1, nI 0, G)
def sp_catches (G : Nat → Nat) (x : Int32) : Nat × Int32 × (Nat → Nat) :=
  if ix x (G 2) then (if G (12 + x.toNatClampNeg) = 0 then (2, nI 0, G) else (0, nI (G (12 + x.toNatClampNeg)), va_up G (12 + x.toNatClampNeg) 0)) else (1, nI 0, G)
def sp_rubs (G : Nat → Nat) (x : Int32) : Nat × Int32 × (Nat → Nat) := if nI 0 ≤ x ∧ x ≤ nI 30 then (0, nI (G 1), va_up G 1 x.toNatClampNeg) else (1, nI 0, G)
/-- one pendulum in a tick -/
def tk1 (G : Nat → Nat) (k : Nat) : Bool := decide (¬ G (12 + k) = 0 ∧ (G 0 - G (20 + k)) % per (G (4 + k)) = 0)
def tkG (G : Nat → Nat) (k : Nat) : Nat → Nat := if tk1 G k = true then va_up (va_up G (12 + k) (beh (G (12 + k)) (G 1))) (28 + k) (G (28 + k) + 1) else G
/-- the first k pendulums in a tick, with how many swings -/
def tkN (G : Nat → Nat) : Nat → (Nat → Nat) × Nat
  | 0 => (G, 0)
  | k + 1 => (tkG (tkN G k).1 k, (tkN G k).2 + if tk1 (tkN G k).1 k = true then 1 else 0)
def tick1 (G : Nat → Nat) : (Nat → Nat) × Nat := tkN (va_up G 0 (G 0 + 1)) (G 2)
def ticks (G : Nat → Nat) : Nat → (Nat → Nat) × Nat
  | 0 => (G, 0)
  | n + 1 => ((tick1 (ticks G n).1).1, (ticks G n).2 + (tick1 (ticks G n).1).2)
def sp_passes (G : Nat → Nat) (x : Int32) : Nat × Int32 × (Nat → Nat) := if nI 1 ≤ x ∧ x ≤ nI 500 then (0, nI (ticks G x.toNatClampNeg).2, (ticks G x.toNatClampNeg).1) else (1, nI 0, G)
def sp_class (G : Nat → Nat) (x : Int32) : Nat × Int32 := if ix x (G 2) then (0, nI (knd (G (4 + x.toNatClampNeg)))) else (1, nI 0)
def sp_start (G : Nat → Nat) (x : Int32) : Nat × Int32 := if ix x (G 2) then (if G (12 + x.toNatClampNeg) = 0 then (2, nI 0) else (0, nI (G (20 + x.toNatClampNeg)))) else (1, nI 0)
def sp_period (G : Nat → Nat) (x : Int32) : Nat × Int32 := if ix x (G 2) then (0, nI (per (G (4 + x.toNatClampNeg)))) else (1, nI 0)
def sp_rec (G : Nat → Nat) (at0 : Nat) (x : Int32) : Nat × Int32 := if nI 0 ≤ x ∧ x ≤ nI 2 then (if G (36 + x.toNatClampNeg) = 0 then (2, nI 0) else (0, nI (G (at0 + x.toNatClampNeg)))) else (1, nI 0)
