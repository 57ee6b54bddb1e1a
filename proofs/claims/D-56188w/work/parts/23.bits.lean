set_option maxRecDepth 100000
/-! ===== sets as whole numbers ===== -/
theorem sh31 {k : Nat} (h : k < 32) : (((nI k) &&& 31).toBitVec.smod 32).toNat = k := by
  have key : ∀ k, k < 32 → (((nI k) &&& 31).toBitVec.smod 32).toNat = k := by decide
  exact key k h
theorem nI_or {a b : Nat} : nI a ||| nI b = nI (a ||| b) := by
  apply Int32.toBitVec_inj.mp
  show BitVec.ofNat 32 a ||| BitVec.ofNat 32 b = BitVec.ofNat 32 (a ||| b)
  rw [BitVec.ofNat_or]
section RBT
variable {E : EV} {y : MethodName} {cc : ByteArray} {nL : Nat} {ret : Option FieldType} {hh : List (Nat × Nat × Nat × Nat)} {QR : Option Value → MH → Prop} {QX : Nat → MH → Prop} {d kc ks : Nat} {h : MH} {pc : Nat} {ls : List (Nat × Value)} {st : List Value}
theorem rn_ishr {s k : Nat} (hd : decode cc pc = .ok (.ishr, 1)) (hs : s < 2 ^ 31) (hk : k < 32) (kk : SW E y cc nL ret hh QR QX d kc ks h (pc + 1) ls (.int (nI (s / 2 ^ k)) :: st)) : SW E y cc nL ret hh QR QX d kc ks h pc ls (.int (nI k) :: .int (nI s) :: st) :=
  r_ishr hd (by rw [pk_shrN hs _ k (sh31 hk)]; exact kk)
theorem rn_ishl1 {k : Nat} (hd : decode cc pc = .ok (.ishl, 1)) (hk : k < 31) (kk : SW E y cc nL ret hh QR QX d kc ks h (pc + 1) ls (.int (nI (2 ^ k)) :: st)) : SW E y cc nL ret hh QR QX d kc ks h pc ls (.int (nI k) :: .int (nI 1) :: st) :=
  r_ishl hd (by
    have key : ∀ k, k < 31 → nI 1 <<< (nI k &&& 31) = nI (2 ^ k) := by decide
    rw [key k hk]
    exact kk)
theorem rn_iand1 {s : Nat} (hd : decode cc pc = .ok (.iand, 1)) (hs : s < 2 ^ 31) (kk : SW E y cc nL ret hh QR QX d kc ks h (pc + 1) ls (.int (nI (s % 2)) :: st)) : SW E y cc nL ret hh QR QX d kc ks h pc ls (.int (nI 1) :: .int (nI s) :: st) :=
  r_iand hd (by rw [pk_andN (by omega) (m := nI 1) 1 (by decide)]; exact kk)
theorem rn_ior {a b : Nat} (hd : decode cc pc = .ok (.ior, 1)) (kk : SW E y cc nL ret hh QR QX d kc ks h (pc + 1) ls (.int (nI (a ||| b)) :: st)) : SW E y cc nL ret hh QR QX d kc ks h pc ls (.int (nI b) :: .int (nI a) :: st) :=
  r_ior hd (by rw [nI_or]; exact kk)
end RBT
theorem bit_n (s k : Nat) : s / 2 ^ k % 2 = if s.testBit k = true then 1 else 0 := by
  rw [Nat.testBit_eq_decide_div_mod_eq]
  have := Nat.mod_lt (s / 2 ^ k) (show 0 < 2 by decide)
  by_cases e : s / 2 ^ k % 2 = 1
  · rw [if_pos (decide_eq_true e), e]
  · rw [if_neg (by rw [decide_eq_true_eq]; exact e)]
    omega
theorem bit_1 {s k : Nat} : s / 2 ^ k % 2 = 1 ↔ s.testBit k = true := by
  rw [Nat.testBit_eq_decide_div_mod_eq, decide_eq_true_eq]
/-- how many members a set has -/
def mem (s : Nat) : Nat := cnt (fun k => s.testBit k) 8
theorem mem_le (s : Nat) : mem s ≤ 8 := cnt_le _ _
theorem cnt_cg {p q : Nat → Bool} : ∀ n, (∀ k, k < n → p k = q k) → cnt p n = cnt q n
  | 0, _ => rfl
  | n + 1, h => by
    rw [cnt, cnt, cnt_cg n fun k hk => h k (Nat.lt_succ_of_lt hk), h n (Nat.lt_succ_self n)]
theorem cnt_add {p q : Nat → Bool} {j : Nat} (hp : p j = false) (hq : q j = true) (h : ∀ k, k ≠ j → q k = p k) : ∀ n, j < n → cnt q n = cnt p n + 1
  | 0, z => absurd z (Nat.not_lt_zero _)
  | n + 1, z => by
    rcases Nat.lt_or_ge j n with e | e
    · rw [cnt, cnt, cnt_add hp hq h n e, h n (by omega)]
      omega
    · have e : j = n := by omega
      subst e
      rw [cnt, cnt, cnt_cg j fun k hk => h k (by omega), hq, hp]
      rfl
theorem tb_or {s k j : Nat} : (s ||| 2 ^ k).testBit j = (s.testBit j || decide (k = j)) := by rw [Nat.testBit_or, Nat.testBit_two_pow]
theorem mem_or {s k : Nat} (hk : k < 8) (h : s.testBit k = false) : mem (s ||| 2 ^ k) = mem s + 1 :=
  cnt_add h (by rw [tb_or]; simp) (fun j hj => by rw [tb_or, decide_eq_false (fun z => hj z.symm), Bool.or_false]) 8 hk
theorem or_lt {s k n : Nat} (hs : s < 2 ^ n) (hk : k < n) : s ||| 2 ^ k < 2 ^ n := Nat.or_lt_two_pow hs (Nat.pow_lt_pow_right (by decide) hk)
theorem or_gt {s k : Nat} (h : s.testBit k = false) : s < s ||| 2 ^ k := by
  have h1 : s ≤ s ||| 2 ^ k := Nat.left_le_or
  rcases Nat.lt_or_ge s (s ||| 2 ^ k) with e | e
  · exact e
  · have e2 : s = s ||| 2 ^ k := Nat.le_antisymm h1 e
    have e3 : (s ||| 2 ^ k).testBit k = true := by rw [tb_or]; simp
    rw [← e2, h] at e3
    cases e3
/-- one of the ways for a leg: what a pendulum costs, and the legs behind it -/
def mnl (f : Nat → Nat) : Nat → Nat
  | 0 => 100000
  | n + 1 => if f n < mnl f n then f n else mnl f n
/-- the least cost of the last j legs, with pendulums that are not in s -/
def rel (G : Nat → Nat) : Nat → Nat → Nat
  | 0, _ => 0
  | j + 1, s => mnl (fun k => if s.testBit k = true then 100000 else dst (per (G (4 + k))) (G (42 + (G 3 - (j + 1)))) + rel G j (s ||| 2 ^ k)) (G 2)
def lst (G : Nat → Nat) (s : Nat) : Nat := rel G (G 3 - mem s) s
def cw (G : Nat → Nat) (A : Nat → Nat) (s l k : Nat) : Nat := if s.testBit k = true then 100000 else dst (per (G (4 + k))) (G (42 + l)) + A (s ||| 2 ^ k)
theorem mnl_le (f : Nat → Nat) : ∀ n, mnl f n ≤ 100000
  | 0 => Nat.le_refl _
  | n + 1 => by
    have := mnl_le f n
    rw [mnl]
    split <;> omega
theorem mnl_low {f : Nat → Nat} : ∀ {n k : Nat}, k < n → mnl f n ≤ f k
  | 0, _, h => absurd h (Nat.not_lt_zero _)
  | n + 1, k, h => by
    rw [mnl]
    rcases Nat.lt_or_ge k n with e | e
    · have := mnl_low (f := f) e
      split <;> omega
    · have e : k = n := by omega
      subst e
      split <;> omega
theorem mnl_at {f : Nat → Nat} : ∀ {n : Nat}, mnl f n < 100000 → ∃ k, k < n ∧ f k = mnl f n
  | 0, h => absurd h (by rw [mnl]; decide)
  | n + 1, h => by
    rw [mnl] at h ⊢
    split
    · exact ⟨n, Nat.lt_succ_self n, rfl⟩
    · rename_i hc
      rw [if_neg hc] at h
      obtain ⟨k, hk, e⟩ := mnl_at h
      exact ⟨k, Nat.lt_succ_of_lt hk, e⟩
theorem mnl_cg {f g : Nat → Nat} : ∀ n, (∀ k, k < n → f k = g k) → mnl f n = mnl g n
  | 0, _ => rfl
  | n + 1, h => by
    rw [mnl, mnl, mnl_cg n fun k hk => h k (Nat.lt_succ_of_lt hk), h n (Nat.lt_succ_self n)]
theorem rel_le (G : Nat → Nat) : ∀ j s, rel G j s ≤ 100000
  | 0, _ => Nat.zero_le _
  | _ + 1, _ => mnl_le _ _
theorem lst_le (G : Nat → Nat) (s : Nat) : lst G s ≤ 100000 := rel_le _ _ _
theorem lst_eq {G : Nat → Nat} {s : Nat} (h : mem s < G 3) (h2 : G 2 ≤ 8) : lst G s = mnl (cw G (lst G) s (mem s)) (G 2) := by
  unfold lst
  rw [show G 3 - mem s = (G 3 - mem s - 1) + 1 by omega, rel]
  refine mnl_cg _ fun k hk => ?_
  unfold cw
  by_cases e : s.testBit k = true
  · rw [if_pos e, if_pos e]
  · rw [if_neg e, if_neg e]
    show _ = _ + rel G (G 3 - mem (s ||| 2 ^ k)) (s ||| 2 ^ k)
    rw [mem_or (by omega) ((Bool.not_eq_true _).mp e), show G 3 - (G 3 - mem s - 1 + 1) = mem s by omega, show G 3 - (mem s + 1) = G 3 - mem s - 1 by omega]
theorem lst_0 {G : Nat → Nat} {s : Nat} (h : G 3 ≤ mem s) : lst G s = 0 := by
  unfold lst
  rw [show G 3 - mem s = 0 by omega]
  rfl
def sp_least (G : Nat → Nat) : Nat × Int32 := if G 2 < G 3 then (1, nI 0) else (0, nI (lst G 0))
theorem dst_le {a b n : Nat} (h1 : a ≤ n) (h2 : b ≤ n) : dst a b ≤ n := by unfold dst; omega
theorem cnt_free {p : Nat → Bool} : ∀ {n : Nat}, cnt p n < n → ∃ k, k < n ∧ p k = false
  | 0, h => absurd h (Nat.not_lt_zero _)
  | n + 1, h => by
    cases e : p n with
    | false => exact ⟨n, Nat.lt_succ_self n, e⟩
    | true =>
      rw [cnt_t e] at h
      obtain ⟨k, hk, q⟩ := cnt_free (p := p) (n := n) (by omega)
      exact ⟨k, Nat.lt_succ_of_lt hk, q⟩
theorem cnt_mono (p : Nat → Bool) (n : Nat) : ∀ m, cnt p n ≤ cnt p (n + m)
  | 0 => Nat.le_refl _
  | m + 1 => Nat.le_trans (cnt_mono p n m) (Nat.le_add_right _ _)
theorem mem_free {s n : Nat} (h : mem s < n) (hn : n ≤ 8) : ∃ k, k < n ∧ s.testBit k = false := by
  have := cnt_mono (fun k => s.testBit k) n (8 - n)
  rw [show n + (8 - n) = 8 by omega] at this
  exact cnt_free (p := fun k => s.testBit k) (Nat.lt_of_le_of_lt this h)
/-- with enough pendulums the least cost is a true one -/
theorem rel_bd {G : Nat → Nat} (hG : gOK G) : ∀ j s, j ≤ G 3 → mem s + j ≤ G 2 → rel G j s ≤ 60 * j
  | 0, _, _, _ => Nat.zero_le _
  | j + 1, s, h1, h2 => by
    obtain ⟨hg0, hg1, hg2, hg3, hgp, hgr, hgw⟩ := id hG
    obtain ⟨k, hk, e⟩ := mem_free (s := s) (n := G 2) (by omega) hg2
    rw [rel]
    refine Nat.le_trans (mnl_low hk) ?_
    show (if s.testBit k = true then _ else _) ≤ _
    rw [if_neg (by rw [e]; decide)]
    have i1 := rel_bd hG j (s ||| 2 ^ k) (by omega) (by rw [mem_or (by omega) e]; omega)
    have i2 := dst_le (per_le (G (4 + k))) (hgw (G 3 - (j + 1)) (by omega)).1
    omega
theorem lst_bd {G : Nat → Nat} (hG : gOK G) {s : Nat} (h1 : mem s ≤ G 3) (h2 : G 3 ≤ G 2) : lst G s ≤ 360 := by
  have := rel_bd hG (G 3 - mem s) s (Nat.sub_le _ _) (by omega)
  have := hG.2.2.2.1
  unfold lst
  omega
/-- the lowest pendulum with which a leg and those behind it cost least -/
def rnn (G : Nat → Nat) (s l : Nat) : Option Nat := fst1 (fun p => decide (cw G (lst G) s l p = lst G s)) (G 2)
theorem rnn_ex {G : Nat → Nat} (hG : gOK G) {s : Nat} (h1 : mem s < G 3) (h2 : G 3 ≤ G 2) : ∃ p, p < G 2 ∧ cw G (lst G) s (mem s) p = lst G s ∧ s.testBit p = false := by
  have hb := lst_bd hG (s := s) (Nat.le_of_lt h1) h2
  obtain ⟨k, hk, e⟩ := mnl_at (f := cw G (lst G) s (mem s)) (n := G 2) (by rw [← lst_eq h1 hG.2.2.1]; omega)
  rw [← lst_eq h1 hG.2.2.1] at e
  refine ⟨k, hk, e, ?_⟩
  cases q : s.testBit k with
  | false => rfl
  | true =>
    rw [cw, if_pos q] at e
    omega
/-- the set of those who run before leg l -/
def rset (G : Nat → Nat) : Nat → Nat
  | 0 => 0
  | l + 1 => rset G l ||| 2 ^ (rnn G (rset G l) l).getD 0
def sp_runner (G : Nat → Nat) (x : Int32) : Nat × Int32 := if ix x (G 3) then (if G 2 < G 3 then (2, nI 0) else (0, nI ((rnn G (rset G x.toNatClampNeg) x.toNatClampNeg).getD 0))) else (1, nI 0)
theorem fst1_ex {p : Nat → Bool} : ∀ {n k : Nat}, k < n → p k = true → ∃ j, fst1 p n = some j ∧ j ≤ k
  | 0, _, h, _ => absurd h (Nat.not_lt_zero _)
  | n + 1, k, h, e => by
    rw [fst1]
    rcases Nat.lt_or_ge k n with q | q
    · obtain ⟨j, h1, h2⟩ := fst1_ex q e
      exact ⟨j, by rw [h1], h2⟩
    · have q : k = n := by omega
      subst q
      cases z : fst1 p k with
      | none => exact ⟨k, by simp only [e, if_true], Nat.le_refl _⟩
      | some j => exact ⟨j, rfl, Nat.le_of_lt (fst1_lt z)⟩
theorem fst1_at {p : Nat → Bool} : ∀ {n k : Nat}, fst1 p n = some k → p k = true
  | 0, _, h => by cases h
  | n + 1, k, h => by
    rw [fst1] at h
    split at h
    · rename_i j hj
      cases h
      exact fst1_at hj
    · split at h
      · cases h
        assumption
      · cases h
theorem fst1_min {p : Nat → Bool} : ∀ {n k j : Nat}, fst1 p n = some k → j < k → p j = false
  | 0, _, _, h, _ => by cases h
  | n + 1, k, j, h, hj => by
    rw [fst1] at h
    split at h
    · rename_i i hi
      cases h
      exact fst1_min hi hj
    · rename_i hn
      split at h
      · cases h
        cases e : p j with
        | false => rfl
        | true =>
          obtain ⟨i, h1, -⟩ := fst1_ex hj e
          rw [hn] at h1
          cases h1
      · cases h
theorem rnn_at {G : Nat → Nat} (hG : gOK G) {s : Nat} (h1 : mem s < G 3) (h2 : G 3 ≤ G 2) : ∃ p, rnn G s (mem s) = some p ∧ p < G 2 ∧ cw G (lst G) s (mem s) p = lst G s ∧ s.testBit p = false ∧ ∀ j, j < p → ¬ cw G (lst G) s (mem s) j = lst G s := by
  obtain ⟨k, hk, e, -⟩ := rnn_ex hG h1 h2
  obtain ⟨p, hp, -⟩ := fst1_ex (p := fun p => decide (cw G (lst G) s (mem s) p = lst G s)) hk (decide_eq_true e)
  have ha := of_decide_eq_true (fst1_at hp)
  refine ⟨p, hp, fst1_lt hp, ha, ?_, fun j hj => of_decide_eq_false (fst1_min hp hj)⟩
  have hb := lst_bd hG (s := s) (Nat.le_of_lt h1) h2
  cases q : s.testBit p with
  | false => rfl
  | true =>
    rw [cw, if_pos q] at ha
    omega
theorem rset_ok {G : Nat → Nat} (hG : gOK G) (h2 : G 3 ≤ G 2) : ∀ l, l ≤ G 3 → mem (rset G l) = l ∧ rset G l < 2 ^ 8
  | 0, _ => ⟨(by decide : mem 0 = 0), (by decide : 0 < 2 ^ 8)⟩
  | l + 1, h => by
    obtain ⟨a, b⟩ := rset_ok hG h2 l (by omega)
    obtain ⟨p, hp, hp2, -, hp4, -⟩ := rnn_at hG (s := rset G l) (by omega) h2
    rw [a] at hp
    have hp8 : p < 8 := by have := hG.2.2.1; omega
    rw [rset, hp]
    show mem (rset G l ||| 2 ^ p) = l + 1 ∧ rset G l ||| 2 ^ p < 2 ^ 8
    exact ⟨by rw [mem_or hp8 hp4, a], or_lt b hp8⟩
/-- what the pendulums of a set can do in a week -/
def tog (G : Nat → Nat) (s : Nat) : Nat := sm (fun k => if s.testBit k = true then 168 / per (G (4 + k)) else 0) (G 2)
theorem tog_le (G : Nat → Nat) (s : Nat) (n : Nat) : sm (fun k => if s.testBit k = true then 168 / per (G (4 + k)) else 0) n ≤ n * 168 := sm_le n fun k _ => by
  split
  · exact Nat.div_le_self _ _
  · exact Nat.zero_le _
def fwt (G : Nat → Nat) (w : Nat) : Nat → Nat
  | 0 => 9
  | s + 1 => if w ≤ tog G s ∧ mem s < fwt G w s then mem s else fwt G w s
theorem fwt_le (G : Nat → Nat) (w : Nat) : ∀ s, fwt G w s ≤ 9
  | 0 => Nat.le_refl _
  | s + 1 => by
    have := fwt_le G w s
    rw [fwt]
    split <;> omega
def sp_fewest (G : Nat → Nat) (x : Int32) : Nat × Int32 := if nI 1 ≤ x ∧ x ≤ nI 999 then (if 8 < fwt G x.toNatClampNeg (2 ^ G 2) then (2, nI 0) else (0, nI (fwt G x.toNatClampNeg (2 ^ G 2)))) else (1, nI 0)
def sp_exact (G : Nat → Nat) (x : Int32) : Nat × Int32 := if nI 0 ≤ x ∧ x ≤ nI 999 then (0, nI (cnt (fun s => decide (tog G s = x.toNatClampNeg)) (2 ^ G 2))) else (1, nI 0)
def ampS (G : Nat → Nat) : Nat := sm (fun k => G (12 + k)) (G 2)
def ampC (G : Nat → Nat) : Nat := cnt (fun k => decide (¬ G (12 + k) = 0)) (G 2)
/-- leg l cut: the wishes behind it move up -/
def shf (G : Nat → Nat) (l : Nat) : Nat → Nat → Nat
  | 0 => G
  | i + 1 => va_up (shf G l i) (42 + (l + i)) (shf G l i (42 + (l + i) + 1))
theorem shf_at (G : Nat → Nat) (l : Nat) {j : Nat} (hj : j < 42) : ∀ i, shf G l i j = G j
  | 0 => rfl
  | i + 1 => by
    rw [shf, up_ne _ _ (by omega)]
    exact shf_at G l hj i
theorem shf_v (G : Nat → Nat) (l : Nat) : ∀ i j, shf G l i (42 + j) = if l ≤ j ∧ j < l + i then G (42 + j + 1) else G (42 + j)
  | 0, j => by rw [if_neg (by omega)]; rfl
  | i + 1, j => by
    rw [shf]
    by_cases e : j = l + i
    · subst e
      rw [up_same, if_pos (by omega), show 42 + (l + i) + 1 = 42 + (l + i + 1) by omega, shf_v G l i, if_neg (by omega)]
    · rw [up_ne _ _ (by omega), shf_v G l i j]
      by_cases q : l ≤ j ∧ j < l + i
      · rw [if_pos q, if_pos (by omega)]
      · rw [if_neg q, if_neg (by omega)]
def sp_cuts (G : Nat → Nat) (x : Int32) : Nat × Int32 × (Nat → Nat) := if ix x (G 3) then (0, nI (G (42 + x.toNatClampNeg)), va_up (shf G x.toNatClampNeg (5 - x.toNatClampNeg)) 3 (G 3 - 1)) else (1, nI 0, G)
def sp_leg (G : Nat → Nat) (x : Int32) : Nat × Int32 × (Nat → Nat) :=
  if nI 1 ≤ x ∧ x ≤ nI 60 then (if G 3 = 6 then (2, nI 0, G) else (0, nI (G 3 + 1), va_up (va_up G (42 + G 3) x.toNatClampNeg) 3 (G 3 + 1))) else (1, nI 0, G)
def sp_wish (G : Nat → Nat) (x : Int32) : Nat × Int32 := if ix x (G 3) then (0, nI (G (42 + x.toNatClampNeg))) else (1, nI 0)
theorem up_up {α : Type} (f : Nat → α) (k : Nat) (v w : α) : va_up (va_up f k v) k w = va_up f k w := by
  funext j
  by_cases e : j = k <;> simp [va_up, e]
