set_option maxRecDepth 100000
/-! ===== programs: commands stored, run ===== -/
theorem mcm_p {B : Nat → Nat} {t p : Nat} (h : p ≤ t) : (mcm B t p).1.1 ≤ t ∧ (mcm B t p).1.2 ≤ 1 ∧ ((mcm B t p).1.2 = 0 → p + 1 ≤ (mcm B t p).1.1) := by
  have k1 : ∀ l m, p < t → (dgs B t m (nds B t l (p + 1, 0))).1.1 ≤ t ∧ (dgs B t m (nds B t l (p + 1, 0))).1.2 ≤ 1 ∧ p + 1 ≤ (dgs B t m (nds B t l (p + 1, 0))).1.1 := fun l m hp => by
    have h1 := nds_p (B := B) (t := t) (l := l) (s := (p + 1, 0)) hp
    have h2 := dgs_p (B := B) (m := m) h1.1
    exact ⟨h2.1, dgs_w, Nat.le_trans h1.2 h2.2⟩
  unfold mcm
  split
  · rename_i e
    have := k1 [97, 110, 103] 3 e.1
    dsimp only
    exact ⟨this.1, this.2.1, fun _ => this.2.2⟩
  split
  · rename_i e
    have := k1 [117, 115, 104] 1 e.1
    have h2 := dgs_p (B := B) (m := 3) this.1
    dsimp only
    exact ⟨h2.1, dgs_w, fun _ => Nat.le_trans this.2.2 h2.2⟩
  split
  · rename_i e
    split
    · have := k1 [117, 116] 1 e.1
      dsimp only
      exact ⟨this.1, this.2.1, fun _ => this.2.2⟩
    · have := k1 [97, 116, 99, 104] 1 e.1
      dsimp only
      exact ⟨this.1, this.2.1, fun _ => this.2.2⟩
  split
  · rename_i e
    have := k1 [114, 105, 99, 116, 105, 111, 110] 3 e.1
    dsimp only
    exact ⟨this.1, this.2.1, fun _ => this.2.2⟩
  split
  · rename_i e
    have := k1 [101, 103] 3 e.1
    dsimp only
    exact ⟨this.1, this.2.1, fun _ => this.2.2⟩
  split
  · rename_i e
    have := k1 [105, 99, 107] 3 e.1
    dsimp only
    exact ⟨this.1, this.2.1, fun _ => this.2.2⟩
  · dsimp only
    exact ⟨h, Nat.le_refl _, fun z => absurd z (by decide)⟩
abbrev isC (c : Nat) : Prop := c = 104 ∨ c = 112 ∨ c = 99 ∨ c = 102 ∨ c = 108 ∨ c = 117 ∨ c = 116
theorem mcm_c {B : Nat → Nat} {t p : Nat} (h : (mcm B t p).1.2 = 0) : isC (mcm B t p).2.1 := by
  unfold mcm at h ⊢
  unfold isC
  split at h
  · rename_i e; rw [if_pos e]; exact Or.inl rfl
  rename_i e; rw [if_neg e]
  split at h
  · rename_i e; rw [if_pos e]; exact Or.inr (Or.inl rfl)
  rename_i e; rw [if_neg e]
  split at h
  · rename_i e
    rw [if_pos e]
    split
    · exact Or.inr (Or.inr (Or.inr (Or.inr (Or.inr (Or.inl rfl)))))
    · exact Or.inr (Or.inr (Or.inl rfl))
  rename_i e; rw [if_neg e]
  split at h
  · rename_i e; rw [if_pos e]; exact Or.inr (Or.inr (Or.inr (Or.inl rfl)))
  rename_i e; rw [if_neg e]
  split at h
  · rename_i e; rw [if_pos e]; exact Or.inr (Or.inr (Or.inr (Or.inr (Or.inl rfl))))
  rename_i e; rw [if_neg e]
  split at h
  · rename_i e; rw [if_pos e]; exact Or.inr (Or.inr (Or.inr (Or.inr (Or.inr (Or.inr rfl)))))
  · cases h
/-- a program's commands, with the state behind them -/
def prg (B : Nat → Nat) (t : Nat) : Nat → Nat → List (Nat × Nat × Nat) × (Nat × Nat)
  | 0, p => ([], (p, 1))
  | n + 1, p => if (mcm B t p).1.2 = 0 ∧ (mcm B t p).1.1 < t ∧ B (mcm B t p).1.1 = 59 then ((mcm B t p).2 :: (prg B t n ((mcm B t p).1.1 + 1)).1, (prg B t n ((mcm B t p).1.1 + 1)).2) else ([(mcm B t p).2], (mcm B t p).1)
/-- the commands as the array holds them -/
def tri (Q : Nat → Nat) (L : List (Nat × Nat × Nat)) : Prop := ∀ i (h : i < L.length), isC L[i].1 ∧ Q (3 * i) = L[i].1 ∧ Q (3 * i + 1) = L[i].2.1 ∧ (L[i].1 = 112 → Q (3 * i + 2) = L[i].2.2)
theorem tri_app {Q Q' : Nat → Nat} {L : List (Nat × Nat × Nat)} {x : Nat × Nat × Nat} (h : tri Q L) (e : ∀ j, j < 3 * L.length → Q' j = Q j) (hc : isC x.1) (h1 : Q' (3 * L.length) = x.1) (h2 : Q' (3 * L.length + 1) = x.2.1) (h3 : x.1 = 112 → Q' (3 * L.length + 2) = x.2.2) : tri Q' (L ++ [x]) := by
  intro i hi
  rw [List.length_append] at hi
  by_cases g : i < L.length
  · rw [List.getElem_append_left g, e _ (by omega), e _ (by omega), e _ (by omega)]
    exact h i g
  · have g2 : i = L.length := by
      have : [x].length = 1 := rfl
      omega
    subst g2
    have e2 : (L ++ [x])[L.length] = x := by simp
    rw [e2]
    exact ⟨hc, h1, h2, h3⟩
/-- one command applied -/
def spcm (G : Nat → Nat) (x : Nat × Nat × Nat) : Nat × Int32 × (Nat → Nat) :=
  if x.1 = 104 then sp_adds G (nI x.2.1) else if x.1 = 112 then sp_pushes G (nI x.2.1) (nI x.2.2) else if x.1 = 99 then sp_catches G (nI x.2.1) else if x.1 = 102 then sp_rubs G (nI x.2.1)
  else if x.1 = 108 then sp_leg G (nI x.2.1) else if x.1 = 117 then sp_cuts G (nI x.2.1) else sp_passes G (nI x.2.1)
/-- the commands run: the gymnasium, and which command failed -/
def rnx (G : Nat → Nat) : List (Nat × Nat × Nat) → Nat → (Nat → Nat) × Option Nat
  | [], _ => (G, none)
  | x :: l, i => if (spcm G x).1 = 0 then rnx (spcm G x).2.2 l (i + 1) else ((spcm G x).2.2, some i)
theorem gB_gOK {G : Nat → Nat} (h : gOK G) : gB G 8388607 := ⟨by have := h.1; omega, h.2⟩
theorem gB_w {G : Nat → Nat} {b b' : Nat} (h : gB G b) (hb : b ≤ b') : gB G b' := ⟨Nat.le_trans h.1 hb, h.2⟩
theorem adds_gB {G : Nat → Nat} {b : Nat} (h : gB G b) (x : Int32) : gB (sp_adds G x).2.2 b := by
  unfold sp_adds
  split
  · rename_i hx
    obtain ⟨k, hk1, hk2, rfl⟩ := rg_of (by decide) hx.1 hx.2 (by decide)
    split
    · exact h
    · rename_i h8
      obtain ⟨h0, h1, h2, h3, hp, hr, hw⟩ := h
      have e2 : va_up (va_up G (4 + G 2) k) 2 (G 2 + 1) 2 = G 2 + 1 := up_same _ _ _
      have u : ∀ j, j ≠ 2 → j ≠ 4 + G 2 → va_up (va_up G (4 + G 2) k) 2 (G 2 + 1) j = G j := fun j a c => by rw [up_ne _ _ a, up_ne _ _ c]
      rw [nI_clamp (show k < 2 ^ 31 by omega)]
      show gB (va_up (va_up G (4 + G 2) k) 2 (G 2 + 1)) b
      unfold gB
      rw [e2, u 0 (by decide) (by omega), u 1 (by decide) (by omega), u 3 (by decide) (by omega)]
      refine ⟨h0, h1, by omega, h3, fun i hi => ?_, fun i hi => ?_, fun i hi => ?_⟩
      · rw [u (12 + i) (by omega) (by omega), u (20 + i) (by omega) (by omega), u (28 + i) (by omega) (by omega)]
        have hpi := hp i hi
        by_cases e : i = G 2
        · subst e
          rw [up_ne _ _ (by omega), up_same]
          omega
        · rw [u (4 + i) (by omega) (by omega)]
          omega
      · rw [u (36 + i) (by omega) (by omega), u (39 + i) (by omega) (by omega)]
        exact hr i hi
      · rw [u (42 + i) (by omega) (by omega)]
        exact hw i hi
  · exact h
theorem pushes_gB {G : Nat → Nat} {b : Nat} (h : gB G b) (x z : Int32) : gB (sp_pushes G x z).2.2 b := by
  unfold sp_pushes
  split
  · rename_i hx
    have h28 := h.2.2.1
    obtain ⟨p, hp, rfl⟩ := ix_of (by omega) hx
    rw [nI_clamp (show p < 2 ^ 31 by omega)]
    split
    · rename_i hz
      obtain ⟨w, hw1, hw2, rfl⟩ := rg_of (by decide) hz.1 hz.2 (by decide)
      rw [nI_clamp (show w < 2 ^ 31 by omega)]
      split
      · exact h
      · rename_i h60
        have h' : gB (sp_push1 G p (G (12 + p) + w)) b := by
          obtain ⟨h0, h1, h2, h3, hp', hr, hw⟩ := h
          have u : ∀ j, j ≠ 12 + p → j ≠ 20 + p → sp_push1 G p (G (12 + p) + w) j = G j := fun j a c => push1_at _ _ _ _ a c
          unfold gB
          rw [u 0 (by omega) (by omega), u 1 (by omega) (by omega), u 2 (by omega) (by omega), u 3 (by omega) (by omega)]
          refine ⟨h0, h1, h2, h3, fun i hi => ?_, fun i hi => ?_, fun i hi => ?_⟩
          · rw [u (4 + i) (by omega) (by omega), u (28 + i) (by omega) (by omega)]
            have hpi := hp' i hi
            by_cases e : i = p
            · subst e
              have e1 : sp_push1 G i (G (12 + i) + w) (12 + i) = G (12 + i) + w := up_same _ _ _
              have e2 : sp_push1 G i (G (12 + i) + w) (20 + i) ≤ G 0 := by
                unfold sp_push1
                rw [up_ne _ _ (by omega)]
                split
                · rw [up_same]; exact Nat.le_refl _
                · exact hpi.2.2.1
              rw [e1]
              omega
            · rw [u (12 + i) (by omega) (by omega), u (20 + i) (by omega) (by omega)]
              exact hpi
          · rw [u (36 + i) (by omega) (by omega), u (39 + i) (by omega) (by omega)]
            exact hr i hi
          · rw [u (42 + i) (by omega) (by omega)]
            exact hw i hi
        show gB (sp_push2 G p (G (12 + p) + w)) b
        unfold sp_push2
        split
        · obtain ⟨h0, h1, h2, h3, hp', hr, hw⟩ := h'
          have hk := knd_lt (G (4 + p))
          generalize knd (G (4 + p)) = k at hk
          generalize hA : sp_push1 G p (G (12 + p) + w) = A at h0 h1 h2 h3 hp' hr hw
          have u : ∀ j, j ≠ 36 + k → j ≠ 39 + k → va_up (va_up A (36 + k) (G (12 + p) + w)) (39 + k) p j = A j := fun j a c => by rw [up_ne _ _ c, up_ne _ _ a]
          unfold gB
          rw [u 0 (by omega) (by omega), u 1 (by omega) (by omega), u 2 (by omega) (by omega), u 3 (by omega) (by omega)]
          refine ⟨h0, h1, h2, h3, fun i hi => ?_, fun i hi => ?_, fun i hi => ?_⟩
          · rw [u (4 + i) (by omega) (by omega), u (12 + i) (by omega) (by omega), u (20 + i) (by omega) (by omega), u (28 + i) (by omega) (by omega)]
            exact hp' i hi
          · by_cases e : i = k
            · subst e
              rw [up_same, up_ne _ _ (by omega), up_same]
              omega
            · rw [u (36 + i) (by omega) (by omega), u (39 + i) (by omega) (by omega)]
              exact hr i hi
          · rw [u (42 + i) (by omega) (by omega)]
            exact hw i hi
        · exact h'
    · exact h
  · exact h
theorem catches_gB {G : Nat → Nat} {b : Nat} (h : gB G b) (x : Int32) : gB (sp_catches G x).2.2 b := by
  unfold sp_catches
  split
  · rename_i hx
    have h28 := h.2.2.1
    obtain ⟨p, hp, rfl⟩ := ix_of (by omega) hx
    rw [nI_clamp (show p < 2 ^ 31 by omega)]
    split
    · exact h
    · obtain ⟨h0, h1, h2, h3, hp', hr, hw⟩ := h
      show gB (va_up G (12 + p) 0) b
      unfold gB
      rw [up_ne _ _ (show 0 ≠ 12 + p by omega), up_ne _ _ (show 1 ≠ 12 + p by omega), up_ne _ _ (show 2 ≠ 12 + p by omega), up_ne _ _ (show 3 ≠ 12 + p by omega)]
      refine ⟨h0, h1, h2, h3, fun i hi => ?_, fun i hi => ?_, fun i hi => ?_⟩
      · rw [up_ne _ _ (show 4 + i ≠ 12 + p by omega), up_ne _ _ (show 20 + i ≠ 12 + p by omega), up_ne _ _ (show 28 + i ≠ 12 + p by omega)]
        have hpi := hp' i hi
        by_cases e : i = p
        · subst e
          rw [up_same]
          omega
        · rw [up_ne _ _ (show 12 + i ≠ 12 + p by omega)]
          exact hpi
      · rw [up_ne _ _ (by omega), up_ne _ _ (by omega)]
        exact hr i hi
      · rw [up_ne _ _ (by omega)]
        exact hw i hi
  · exact h
theorem rubs_gB {G : Nat → Nat} {b : Nat} (h : gB G b) (x : Int32) : gB (sp_rubs G x).2.2 b := by
  unfold sp_rubs
  split
  · rename_i hx
    obtain ⟨w, -, hw2, rfl⟩ := rg_of (by decide) hx.1 hx.2 (by decide)
    rw [nI_clamp (show w < 2 ^ 31 by omega)]
    obtain ⟨h0, h1, h2, h3, hp', hr, hw⟩ := h
    show gB (va_up G 1 w) b
    have u : ∀ j, j ≠ 1 → va_up G 1 w j = G j := fun j a => up_ne _ _ a
    unfold gB
    rw [up_same, u 0 (by decide), u 2 (by decide), u 3 (by decide)]
    refine ⟨h0, hw2, h2, h3, fun i hi => ?_, fun i hi => ?_, fun i hi => ?_⟩
    · rw [u (4 + i) (by omega), u (12 + i) (by omega), u (20 + i) (by omega), u (28 + i) (by omega)]
      exact hp' i hi
    · rw [u (36 + i) (by omega), u (39 + i) (by omega)]
      exact hr i hi
    · rw [u (42 + i) (by omega)]
      exact hw i hi
  · exact h
theorem leg_gB {G : Nat → Nat} {b : Nat} (h : gB G b) (x : Int32) : gB (sp_leg G x).2.2 b := by
  unfold sp_leg
  split
  · rename_i hx
    obtain ⟨k, hk1, hk2, rfl⟩ := rg_of (by decide) hx.1 hx.2 (by decide)
    rw [nI_clamp (show k < 2 ^ 31 by omega)]
    split
    · exact h
    · rename_i h6
      obtain ⟨h0, h1, h2, h3, hp', hr, hw⟩ := h
      have u : ∀ j, j ≠ 3 → j ≠ 42 + G 3 → va_up (va_up G (42 + G 3) k) 3 (G 3 + 1) j = G j := fun j a c => by rw [up_ne _ _ a, up_ne _ _ c]
      have e3 : va_up (va_up G (42 + G 3) k) 3 (G 3 + 1) 3 = G 3 + 1 := up_same _ _ _
      show gB (va_up (va_up G (42 + G 3) k) 3 (G 3 + 1)) b
      unfold gB
      rw [e3, u 0 (by omega) (by omega), u 1 (by omega) (by omega), u 2 (by omega) (by omega)]
      refine ⟨h0, h1, h2, by omega, fun i hi => ?_, fun i hi => ?_, fun i hi => ?_⟩
      · rw [u (4 + i) (by omega) (by omega), u (12 + i) (by omega) (by omega), u (20 + i) (by omega) (by omega), u (28 + i) (by omega) (by omega)]
        exact hp' i hi
      · rw [u (36 + i) (by omega) (by omega), u (39 + i) (by omega) (by omega)]
        exact hr i hi
      · have hwi := hw i hi
        by_cases e : i = G 3
        · subst e
          rw [up_ne _ _ (by omega), up_same]
          omega
        · rw [u (42 + i) (by omega) (by omega)]
          omega
  · exact h
theorem cuts_gB {G : Nat → Nat} {b : Nat} (h : gB G b) (x : Int32) : gB (sp_cuts G x).2.2 b := by
  unfold sp_cuts
  split
  · rename_i hx
    have h36 := h.2.2.2.1
    obtain ⟨p, hp, rfl⟩ := ix_of (by omega) hx
    rw [nI_clamp (show p < 2 ^ 31 by omega)]
    obtain ⟨h0, h1, h2, h3, hp', hr, hw⟩ := h
    show gB (va_up (shf G p (5 - p)) 3 (G 3 - 1)) b
    have u : ∀ j, j < 42 → j ≠ 3 → va_up (shf G p (5 - p)) 3 (G 3 - 1) j = G j := fun j a c => by rw [up_ne _ _ c, shf_at G p a]
    have e3 : va_up (shf G p (5 - p)) 3 (G 3 - 1) 3 = G 3 - 1 := up_same _ _ _
    unfold gB
    rw [e3, u 0 (by omega) (by omega), u 1 (by omega) (by omega), u 2 (by omega) (by omega)]
    refine ⟨h0, h1, h2, by omega, fun i hi => ?_, fun i hi => ?_, fun i hi => ?_⟩
    · rw [u (4 + i) (by omega) (by omega), u (12 + i) (by omega) (by omega), u (20 + i) (by omega) (by omega), u (28 + i) (by omega) (by omega)]
      exact hp' i hi
    · rw [u (36 + i) (by omega) (by omega), u (39 + i) (by omega) (by omega)]
      exact hr i hi
    · rw [up_ne _ _ (by omega), shf_v]
      split
      · have := hw (i + 1) (by omega)
        rw [show 42 + (i + 1) = 42 + i + 1 by omega] at this
        exact ⟨this.1, fun z => this.2 (by omega)⟩
      · have := hw i hi
        exact ⟨this.1, fun z => this.2 (by omega)⟩
  · exact h
theorem passes_gB {G : Nat → Nat} {b : Nat} (h : gB G b) (hb : b < 8000000) (x : Int32) : gB (sp_passes G x).2.2 (b + 500) := by
  unfold sp_passes
  split
  · rename_i hx
    obtain ⟨w, -, hw2, rfl⟩ := rg_of (by decide) hx.1 hx.2 (by decide)
    rw [nI_clamp (show w < 2 ^ 31 by omega)]
    exact gB_w (gB_ticks h w (by omega)).1 (by omega)
  · exact gB_w h (by omega)
theorem spcm_gB {G : Nat → Nat} {b : Nat} (h : gB G b) (hb : b < 8000000) (x : Nat × Nat × Nat) : gB (spcm G x).2.2 (b + 500) := by
  unfold spcm
  split
  · exact gB_w (adds_gB h _) (by omega)
  split
  · exact gB_w (pushes_gB h _ _) (by omega)
  split
  · exact gB_w (catches_gB h _) (by omega)
  split
  · exact gB_w (rubs_gB h _) (by omega)
  split
  · exact gB_w (leg_gB h _) (by omega)
  split
  · exact gB_w (cuts_gB h _) (by omega)
  · exact passes_gB h hb _
theorem spcm_lt (G : Nat → Nat) (x : Nat × Nat × Nat) : (spcm G x).1 < 2 ^ 30 := by
  unfold spcm
  repeat' split
  all_goals first | exact sp_adds_lt _ _ | exact sp_pushes_lt _ _ _ | exact sp_catches_lt _ _ | exact sp_rubs_lt _ _ | exact sp_leg_lt _ _ | exact sp_cuts_lt _ _ | exact sp_passes_lt _ _
theorem tab_cmd : ∀ n, n < 117 → (99 ≤ n ∧ n ≠ 99 ∧ n ≠ 102 ∧ n ≠ 104 ∧ n ≠ 108 ∧ n ≠ 112 ∧ n ≠ 116) → (#[150, 254, 254, 158, 254, 85, 254, 254, 254, 200, 254, 254, 254, 111, 254, 254, 254, 228] : Array Int)[n - 99]? = some 254 := by decide
theorem nI_off {n : Nat} (h : n < 2 ^ 31) (h2 : 99 ≤ n) : ((nI n).toInt - 99).toNat = n - 99 := by
  rw [nI_toInt h]
  omega
theorem nI_nlt9 {n : Nat} (h : n < 2 ^ 31) (h2 : 99 ≤ n) : ¬ (nI n).toInt < 99 := by
  rw [nI_toInt h]
  omega
theorem nI_ngt {n b : Nat} (h : n < 2 ^ 31) (h2 : n ≤ b) : ¬ (b : Int) < (nI n).toInt := by
  rw [nI_toInt h]
  omega
/-- what a command's parse leaves in the array -/
def cmq (B : Nat → Nat) (t p k : Nat) (Q Q' : Nat → Nat) : Prop := (∀ j, j < k → Q' j = Q j) ∧ ((mcm B t p).1.2 = 0 → Q' k = (mcm B t p).2.1 ∧ Q' (k + 1) = (mcm B t p).2.2.1 ∧ ((mcm B t p).2.1 = 112 → Q' (k + 2) = (mcm B t p).2.2.2))
theorem cmq_1 {B : Nat → Nat} {t p k c a : Nat} {Q : Nat → Nat} {s : Nat × Nat} (e : mcm B t p = (s, c, a, 0)) (hc : c ≠ 112) : cmq B t p k Q (va_up (va_up Q k c) (k + 1) a) := by
  refine ⟨fun j hj => by rw [up_ne _ _ (by omega), up_ne _ _ (by omega)], fun _ => ?_⟩
  rw [e]
  exact ⟨by rw [up_ne _ _ (by omega), up_same], up_same _ _ _, fun z => absurd z hc⟩
theorem cmq_2 {B : Nat → Nat} {t p k c c0 a : Nat} {Q : Nat → Nat} {s : Nat × Nat} (e : mcm B t p = (s, c, a, 0)) (hc : c ≠ 112) : cmq B t p k Q (va_up (va_up (va_up Q k c0) k c) (k + 1) a) := by
  rw [up_up]
  exact cmq_1 e hc
theorem cmq_3 {B : Nat → Nat} {t p k a b : Nat} {Q : Nat → Nat} {s : Nat × Nat} (e : mcm B t p = (s, 112, a, b)) : cmq B t p k Q (va_up (va_up (va_up Q k 112) (k + 1) a) (k + 2) b) := by
  refine ⟨fun j hj => by rw [up_ne _ _ (by omega), up_ne _ _ (by omega), up_ne _ _ (by omega)], fun _ => ?_⟩
  rw [e]
  exact ⟨by rw [up_ne _ _ (by omega), up_ne _ _ (by omega), up_same], by rw [up_ne _ _ (by omega), up_same], fun _ => up_same _ _ _⟩
theorem PS_b15 (S : MS) (Q : Nat → Nat) (s : Nat × Nat) (v : Int32) : (ss (PS S Q s) 7 v).1 15 = nI s.2 := by rw [ss_ne _ _ (by decide), PS_a15]
theorem PS_b14 (S : MS) (Q : Nat → Nat) (s : Nat × Nat) (v : Int32) : (ss (PS S Q s) 7 v).1 14 = nI s.1 := by rw [ss_ne _ _ (by decide), PS_a14]
theorem ss_self (S : MS) (i : Nat) : ss S i (S.1 i) = S := by
  refine Prod.ext (funext fun k => ?_) rfl
  by_cases e : k = i <;> simp [ss, va_up, e]
theorem PS_0 (S : MS) : ss (ss S 14 (nI 0)) 15 (nI 0) = PS S (S.2 7) (0, 0) := by
  unfold PS
  rw [sa_self]
theorem PS_f {S : MS} {Q : Nat → Nat} {s : Nat × Nat} {k : Nat} (h : k ≠ 14) (h2 : k ≠ 15) : (PS S Q s).1 k = S.1 k := by
  unfold PS
  rw [ss_ne _ _ h2, ss_ne _ _ h, sa_1]
theorem PS_g {S : MS} {Q : Nat → Nat} {s : Nat × Nat} {k : Nat} (h : k ≠ 7) : (PS S Q s).2 k = S.2 k := sa_ne S Q h
/-- how the run of the commands ends -/
def rnP (S0 : MS) (c : Nat) (G0 : Nat → Nat) (r : MH) (R : (Nat → Nat) × Option Nat) (n : Nat) (o : Option Value) (h' : MH) : Prop :=
  (∃ i, R.2 = some i ∧ o = some (.int (nI 0)) ∧ ∃ G2, eq48 G2 G0 ∧ ∃ v, h' = JG (ss (ss (ss S0 12 v) 9 (nI i)) 12 (nI 2)) G2 r) ∨
  (R.2 = none ∧ o = some (.int (nI n)) ∧ ∃ H, hpu c (S0.2 2) G0 H ∧ h' = JG (ss (sa (ss S0 12 (nI 0)) 2 H) 3 (nI (ncn c))) R.1 r)
/-- what execute leaves behind -/
def exP (S : MS) (c : Nat) (G : Nat → Nat) (r : MH) (P : List (Nat × Nat × Nat) × (Nat × Nat)) (t : Nat) (o : Option Value) (h' : MH) : Prop :=
  ∃ S' G2, h' = JG S' G2 r ∧ (S'.1 7 = nI 0 ∧ S'.1 5 = S.1 5 ∧ S'.1 11 = S.1 11 ∧ S'.2 3 = S.2 3 ∧ S'.2 5 = S.2 5) ∧
    ((¬ (P.2.2 = 0 ∧ P.2.1 = t) ∧ o = some (.int (nI 0)) ∧ S'.1 12 = nI 1 ∧ S'.1 8 = nI P.2.1 ∧ S'.1 9 = S.1 9 ∧ S'.1 3 = S.1 3 ∧ S'.2 2 = S.2 2 ∧ G2 = G) ∨
    ((P.2.2 = 0 ∧ P.2.1 = t) ∧ ∃ i, (rnx G P.1 0).2 = some i ∧ o = some (.int (nI 0)) ∧ S'.1 12 = nI 2 ∧ S'.1 8 = S.1 8 ∧ S'.1 9 = nI i ∧ S'.1 3 = S.1 3 ∧ S'.2 2 = S.2 2 ∧ eq48 G2 G) ∨
    ((P.2.2 = 0 ∧ P.2.1 = t) ∧ (rnx G P.1 0).2 = none ∧ o = some (.int (nI P.1.length)) ∧ S'.1 12 = nI 0 ∧ S'.1 8 = S.1 8 ∧ S'.1 9 = S.1 9 ∧ S'.1 3 = nI (ncn c) ∧ hpu c (S.2 2) G (S'.2 2) ∧ G2 = (rnx G P.1 0).1))
theorem exP_1 {S : MS} {c : Nat} {G : Nat → Nat} {r : MH} {P : List (Nat × Nat × Nat) × (Nat × Nat)} {t : Nat} {Q : Nat → Nat} {z : Nat} (h : ¬ (P.2.2 = 0 ∧ P.2.1 = t)) :
    exP S c G r P t (some (.int (nI 0))) (JG (ss (ss (ss (PS S Q (P.2.1, z)) 7 (nI 0)) 8 (nI P.2.1)) 12 (nI 1)) G r) := by
  refine ⟨_, _, rfl, ⟨?_, ?_, ?_, PS_g (S := S) (Q := Q) (s := (P.2.1, z)) (k := 3) (by decide), PS_g (S := S) (Q := Q) (s := (P.2.1, z)) (k := 5) (by decide)⟩, Or.inl ⟨h, rfl, ss_at _ _ _, ?_, ?_, ?_, PS_g (S := S) (Q := Q) (s := (P.2.1, z)) (k := 2) (by decide), rfl⟩⟩
  · rw [ss_ne _ _ (by decide), ss_ne _ _ (by decide), ss_at]
  · rw [ss_ne _ _ (by decide), ss_ne _ _ (by decide), ss_ne _ _ (by decide), PS_f (by decide) (by decide)]
  · rw [ss_ne _ _ (by decide), ss_ne _ _ (by decide), ss_ne _ _ (by decide), PS_f (by decide) (by decide)]
  · rw [ss_ne _ _ (by decide), ss_at]
  · rw [ss_ne _ _ (by decide), ss_ne _ _ (by decide), ss_ne _ _ (by decide), PS_f (by decide) (by decide)]
  · rw [ss_ne _ _ (by decide), ss_ne _ _ (by decide), ss_ne _ _ (by decide), PS_f (by decide) (by decide)]
theorem exP_2 {S : MS} {c : Nat} {G : Nat → Nat} {r : MH} {P : List (Nat × Nat × Nat) × (Nat × Nat)} {t : Nat} {Q B : Nat → Nat} {o : Option Value} {h' : MH} (h : P.2.2 = 0 ∧ P.2.1 = t)
    (q : rnP (sa (ss (PS S Q (P.2.1, 0)) 7 (nI 0)) 1 B) c G r (rnx G P.1 0) P.1.length o h') : exP S c G r P t o h' := by
  have f : ∀ k, k ≠ 14 → k ≠ 15 → k ≠ 7 → (sa (ss (PS S Q (P.2.1, 0)) 7 (nI 0)) 1 B).1 k = S.1 k := fun k h1 h2 h3 => by
    rw [sa_1, ss_ne _ _ h3, PS_f h1 h2]
  have g : ∀ k, k ≠ 7 → k ≠ 1 → (sa (ss (PS S Q (P.2.1, 0)) 7 (nI 0)) 1 B).2 k = S.2 k := fun k h1 h2 => by
    rw [sa_ne _ _ h2, ss_2, PS_g h1]
  have f7 : (sa (ss (PS S Q (P.2.1, 0)) 7 (nI 0)) 1 B).1 7 = nI 0 := by rw [sa_1, ss_at]
  generalize sa (ss (PS S Q (P.2.1, 0)) 7 (nI 0)) 1 B = S0 at q f g f7
  rcases q with ⟨i, a, b, G2, e, v, rfl⟩ | ⟨a, b, H, e, rfl⟩
  · refine ⟨_, _, rfl, ⟨?_, ?_, ?_, ?_, ?_⟩, Or.inr (Or.inl ⟨h, i, a, b, ss_at _ _ _, ?_, ?_, ?_, ?_, e⟩)⟩
    · rw [ss_ne _ _ (by decide), ss_ne _ _ (by decide), ss_ne _ _ (by decide), f7]
    · rw [ss_ne _ _ (by decide), ss_ne _ _ (by decide), ss_ne _ _ (by decide), f _ (by decide) (by decide) (by decide)]
    · rw [ss_ne _ _ (by decide), ss_ne _ _ (by decide), ss_ne _ _ (by decide), f _ (by decide) (by decide) (by decide)]
    · rw [ss_2, ss_2, ss_2, g _ (by decide) (by decide)]
    · rw [ss_2, ss_2, ss_2, g _ (by decide) (by decide)]
    · rw [ss_ne _ _ (by decide), ss_ne _ _ (by decide), ss_ne _ _ (by decide), f _ (by decide) (by decide) (by decide)]
    · rw [ss_ne _ _ (by decide), ss_at]
    · rw [ss_ne _ _ (by decide), ss_ne _ _ (by decide), ss_ne _ _ (by decide), f _ (by decide) (by decide) (by decide)]
    · rw [ss_2, ss_2, ss_2, g _ (by decide) (by decide)]
  · refine ⟨_, _, rfl, ⟨?_, ?_, ?_, ?_, ?_⟩, Or.inr (Or.inr ⟨h, a, b, ?_, ?_, ?_, ss_at _ _ _, ?_, rfl⟩)⟩
    · rw [ss_ne _ _ (by decide), sa_1, ss_ne _ _ (by decide), f7]
    · rw [ss_ne _ _ (by decide), sa_1, ss_ne _ _ (by decide), f _ (by decide) (by decide) (by decide)]
    · rw [ss_ne _ _ (by decide), sa_1, ss_ne _ _ (by decide), f _ (by decide) (by decide) (by decide)]
    · rw [ss_2, sa_ne _ _ (by decide), ss_2, g _ (by decide) (by decide)]
    · rw [ss_2, sa_ne _ _ (by decide), ss_2, g _ (by decide) (by decide)]
    · rw [ss_ne _ _ (by decide), sa_1, ss_at]
    · rw [ss_ne _ _ (by decide), sa_1, ss_ne _ _ (by decide), f _ (by decide) (by decide) (by decide)]
    · rw [ss_ne _ _ (by decide), sa_1, ss_ne _ _ (by decide), f _ (by decide) (by decide) (by decide)]
    · rw [ss_2, sa_at, ← g 2 (by decide) (by decide)]
      exact e
theorem tri_0 (Q : Nat → Nat) : tri Q [] := fun i h => absurd h (Nat.not_lt_zero _)
