set_option maxRecDepth 100000
/-! ===== plain laws of the operations ===== -/
theorem per_ge {L : Nat} (h : 1 ≤ L) : 6 ≤ per L := by
  have key : ∀ (n : Nat), 36 ≤ n → ∀ k, 6 ≤ k → 6 ≤ sq n k := by
    intro n hn k
    induction k with
    | zero => intro h; omega
    | succ k ih =>
      intro hk
      rw [sq]
      split
      · exact hk
      · rename_i h3
        rcases Nat.lt_or_ge k 6 with g | g
        · have e : k = 5 := by omega
          subst e
          omega
        · exact ih g
  exact key _ (by omega) 60 (by decide)
theorem sq_leK (n : Nat) : ∀ k, sq n k ≤ k
  | 0 => Nat.le_refl _
  | k + 1 => by
    rw [sq]
    split
    · exact Nat.le_refl _
    · exact Nat.le_succ_of_le (sq_leK n k)
theorem per_le (L : Nat) : per L ≤ 60 := sq_leK _ _
theorem knd_lt (L : Nat) : knd L < 3 := by unfold knd; split <;> (try split) <;> omega
theorem beh_lt {a f : Nat} (h : 1 ≤ a) : beh a f < a := by unfold beh; split <;> omega
theorem beh_le (a f : Nat) : beh a f ≤ a := Nat.sub_le _ _
theorem tkG_at (G : Nat → Nat) (k j : Nat) (h1 : j ≠ 12 + k) (h2 : j ≠ 28 + k) : tkG G k j = G j := by
  unfold tkG
  split
  · rw [up_ne _ _ h2, up_ne _ _ h1]
  · rfl
theorem tkG_amp (G : Nat → Nat) (k : Nat) : tkG G k (12 + k) ≤ G (12 + k) := by
  unfold tkG
  split
  · rw [up_ne _ _ (by omega), up_same]
    exact beh_le _ _
  · exact Nat.le_refl _
theorem tkG_swi (G : Nat → Nat) (k : Nat) : tkG G k (28 + k) ≤ G (28 + k) + 1 := by
  unfold tkG
  split
  · rw [up_same]
    exact Nat.le_refl _
  · exact Nat.le_succ _
theorem tkN_at (G : Nat → Nat) (j : Nat) : ∀ k, (∀ i, i < k → j ≠ 12 + i ∧ j ≠ 28 + i) → (tkN G k).1 j = G j
  | 0, _ => rfl
  | k + 1, h => by
    show tkG (tkN G k).1 k j = G j
    rw [tkG_at _ _ _ (h k (Nat.lt_succ_self k)).1 (h k (Nat.lt_succ_self k)).2]
    exact tkN_at G j k fun i hi => h i (Nat.lt_succ_of_lt hi)
theorem tkN_amp (G : Nat → Nat) (i : Nat) : ∀ k, k ≤ 8 → i < 8 → (tkN G k).1 (12 + i) ≤ G (12 + i)
  | 0, _, _ => Nat.le_refl _
  | k + 1, hk, hi => by
    show tkG (tkN G k).1 k (12 + i) ≤ G (12 + i)
    by_cases e : i = k
    · subst e
      exact Nat.le_trans (tkG_amp _ _) (tkN_amp G i i (by omega) hi)
    · rw [tkG_at _ _ _ (by omega) (by omega)]
      exact tkN_amp G i k (by omega) hi
theorem tkN_swi (G : Nat → Nat) (i : Nat) : ∀ k, k ≤ 8 → i < 8 → (tkN G k).1 (28 + i) ≤ G (28 + i) + 1
  | 0, _, _ => Nat.le_succ _
  | k + 1, hk, hi => by
    show tkG (tkN G k).1 k (28 + i) ≤ G (28 + i) + 1
    by_cases e : i = k
    · subst e
      refine Nat.le_trans (tkG_swi _ _) (Nat.succ_le_succ (Nat.le_of_eq ?_))
      exact tkN_at G _ i fun z hz => by omega
    · rw [tkG_at _ _ _ (by omega) (by omega)]
      exact tkN_swi G i k (by omega) hi
theorem tkN_cnt (G : Nat → Nat) : ∀ k, (tkN G k).2 ≤ k
  | 0 => Nat.le_refl _
  | k + 1 => by
    show (tkN G k).2 + (if tk1 (tkN G k).1 k = true then 1 else 0) ≤ k + 1
    have := tkN_cnt G k
    split <;> omega
/-- the gymnasium in the midst of a tick -/
def gT (G : Nat → Nat) (k : Nat) : Prop := G 0 < 8388609 ∧ G 1 ≤ 30 ∧ G 2 ≤ 8 ∧ G 3 ≤ 6 ∧ (∀ i, i < 8 → G (4 + i) ≤ 99 ∧ G (12 + i) ≤ 60 ∧ G (20 + i) ≤ G 0 ∧ G (28 + i) ≤ G 0 ∧ (k ≤ i → G (28 + i) + 1 ≤ G 0) ∧ (i < G 2 → 1 ≤ G (4 + i)) ∧ (G 2 ≤ i → G (12 + i) = 0 ∧ G (28 + i) = 0)) ∧ (∀ k, k < 3 → G (36 + k) ≤ 60 ∧ G (39 + k) < 8) ∧ ∀ k, k < 6 → G (42 + k) ≤ 60 ∧ (k < G 3 → 1 ≤ G (42 + k))
theorem gT_0 {G : Nat → Nat} (h : gOK G) : gT (va_up G 0 (G 0 + 1)) 0 := by
  obtain ⟨h0, h1, h2, h3, hp, hr, hw⟩ := h
  have u : ∀ j, 1 ≤ j → va_up G 0 (G 0 + 1) j = G j := fun j hj => up_ne _ _ (by omega)
  unfold gT
  rw [up_same, u 1 (by omega), u 2 (by omega), u 3 (by omega)]
  refine ⟨by omega, h1, h2, h3, fun i hi => ?_, fun i hi => ?_, fun i hi => ?_⟩
  · rw [u (4 + i) (by omega), u (12 + i) (by omega), u (20 + i) (by omega), u (28 + i) (by omega)]
    have := hp i hi
    omega
  · rw [u (36 + i) (by omega), u (39 + i) (by omega)]
    exact hr i hi
  · rw [u (42 + i) (by omega)]
    exact hw i hi
theorem gT_s {G : Nat → Nat} {k : Nat} (hk : k < 8) (hk2 : k < G 2) (h : gT G k) : gT (tkG G k) (k + 1) := by
  obtain ⟨h0, h1, h2, h3, hp, hr, hw⟩ := h
  have u : ∀ j, j ≠ 12 + k → j ≠ 28 + k → tkG G k j = G j := fun j a b => tkG_at _ _ _ a b
  unfold gT
  rw [u 0 (by omega) (by omega), u 1 (by omega) (by omega), u 2 (by omega) (by omega), u 3 (by omega) (by omega)]
  refine ⟨h0, h1, h2, h3, fun i hi => ?_, fun i hi => ?_, fun i hi => ?_⟩
  · rw [u (4 + i) (by omega) (by omega), u (20 + i) (by omega) (by omega)]
    have hpi := hp i hi
    by_cases e : i = k
    · subst e
      have a1 := tkG_amp G i
      have a2 := tkG_swi G i
      omega
    · rw [u (12 + i) (by omega) (by omega), u (28 + i) (by omega) (by omega)]
      omega
  · rw [u (36 + i) (by omega) (by omega), u (39 + i) (by omega) (by omega)]
    exact hr i hi
  · rw [u (42 + i) (by omega) (by omega)]
    exact hw i hi
theorem gT_N {G : Nat → Nat} (h : gT G 0) : ∀ k, k ≤ G 2 → gT (tkN G k).1 k ∧ (tkN G k).1 2 = G 2
  | 0, _ => ⟨h, rfl⟩
  | k + 1, hk => by
    obtain ⟨a, b⟩ := gT_N h k (by omega)
    have h2 := h.2.2.1
    exact ⟨gT_s (by omega) (by omega) a, by show tkG (tkN G k).1 k 2 = _; rw [tkG_at _ _ _ (by omega) (by omega)]; exact b⟩
/-- but for the clock's bound -/
def gB (G : Nat → Nat) (b : Nat) : Prop := G 0 ≤ b ∧ G 1 ≤ 30 ∧ G 2 ≤ 8 ∧ G 3 ≤ 6 ∧ (∀ k, k < 8 → G (4 + k) ≤ 99 ∧ G (12 + k) ≤ 60 ∧ G (20 + k) ≤ G 0 ∧ G (28 + k) ≤ G 0 ∧ (k < G 2 → 1 ≤ G (4 + k)) ∧ (G 2 ≤ k → G (12 + k) = 0 ∧ G (28 + k) = 0)) ∧ (∀ k, k < 3 → G (36 + k) ≤ 60 ∧ G (39 + k) < 8) ∧ ∀ k, k < 6 → G (42 + k) ≤ 60 ∧ (k < G 3 → 1 ≤ G (42 + k))
theorem gB_ok {G : Nat → Nat} {b : Nat} (h : gB G b) (hb : b < 8388608) : gOK G := ⟨by have := h.1; omega, h.2⟩
theorem gB_tick {G : Nat → Nat} {b : Nat} (h : gB G b) (hb : b < 8388608) : gB (tick1 G).1 (b + 1) ∧ (tick1 G).1 0 = G 0 + 1 ∧ (tick1 G).1 2 = G 2 ∧ (tick1 G).2 ≤ 8 := by
  have e2 : va_up G 0 (G 0 + 1) 2 = G 2 := up_ne _ _ (by decide)
  obtain ⟨a, a2⟩ := gT_N (gT_0 (gB_ok h hb)) (G 2) (by rw [e2]; exact Nat.le_refl _)
  have e0 : (tkN (va_up G 0 (G 0 + 1)) (G 2)).1 0 = G 0 + 1 := by
    rw [tkN_at _ _ _ (fun i hi => by omega), up_same]
  obtain ⟨h0, h1, h2, h3, hp, hr, hw⟩ := a
  have hc := tkN_cnt (va_up G 0 (G 0 + 1)) (G 2)
  refine ⟨⟨?_, h1, h2, h3, fun k hk => ?_, hr, hw⟩, e0, a2.trans e2, ?_⟩
  · show (tkN (va_up G 0 (G 0 + 1)) (G 2)).1 0 ≤ b + 1
    rw [e0]
    have := h.1
    omega
  · have := hp k hk
    refine ⟨this.1, this.2.1, this.2.2.1, this.2.2.2.1, this.2.2.2.2.2.1, this.2.2.2.2.2.2⟩
  · show (tkN (va_up G 0 (G 0 + 1)) (G 2)).2 ≤ 8
    have := h.2.2.1
    omega
theorem gB_ticks {G : Nat → Nat} {b : Nat} (h : gB G b) : ∀ n, b + n < 8388608 → gB (ticks G n).1 (b + n) ∧ (ticks G n).2 ≤ 8 * n ∧ (ticks G n).1 0 = G 0 + n
  | 0, _ => ⟨h, Nat.zero_le _, rfl⟩
  | n + 1, hn => by
    obtain ⟨a, c, e⟩ := gB_ticks h n (by omega)
    obtain ⟨a1, a2, -, a4⟩ := gB_tick a (by omega)
    refine ⟨a1, ?_, ?_⟩
    · show (ticks G n).2 + (tick1 (ticks G n).1).2 ≤ 8 * (n + 1)
      omega
    · show (tick1 (ticks G n).1).1 0 = G 0 + (n + 1)
      rw [a2, e]
      omega
theorem push1_at (G : Nat → Nat) (p a j : Nat) (h1 : j ≠ 12 + p) (h2 : j ≠ 20 + p) : sp_push1 G p a j = G j := by
  unfold sp_push1
  rw [up_ne _ _ h1]
  split
  · exact up_ne _ _ h2
  · rfl
