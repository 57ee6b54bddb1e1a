set_option maxRecDepth 100000
/-! ===== changes: small facts ===== -/
theorem kp_of {S : MS} {c : Nat} {G : Nat → Nat} {r : MH} {sp : Nat × Int32 × (Nat → Nat)} (hf : ¬ sp.1 = 0 → sp.2.1 = nI 0) {o : Option Value} {h' : MH}
    (q : (sp.1 = 0 ∧ o = some (.int sp.2.1) ∧ ∃ H, hpu c ((ss (sa S 1 (va_cpy G (S.2 1) 0 0 48)) 12 (nI sp.1)).2 2) G H ∧ h' = JG (ss (sa (ss (sa S 1 (va_cpy G (S.2 1) 0 0 48)) 12 (nI sp.1)) 2 H) 3 (nI (ncn c))) sp.2.2 r) ∨
      (¬ sp.1 = 0 ∧ o = some (.int (nI 0)) ∧ ∃ G2, eq48 G2 G ∧ h' = JG (ss (sa S 1 (va_cpy G (S.2 1) 0 0 48)) 12 (nI sp.1)) G2 r)) : o = some (.int sp.2.1) ∧ KP S c G r sp o h' := by
  rcases q with ⟨a, b, H, e, f⟩ | ⟨a, b, G2, e, f⟩
  · refine ⟨b, b, Or.inl ⟨a, va_cpy G (S.2 1) 0 0 48, H, ?_, ?_⟩⟩
    · rw [show (ss (sa S 1 (va_cpy G (S.2 1) 0 0 48)) 12 (nI sp.1)).2 2 = S.2 2 from sa_ne S (va_cpy G (S.2 1) 0 0 48) (i := 1) (j := 2) (by decide)] at e
      exact e
    · rw [f, a]
      rfl
  · have h := hf a
    exact ⟨by rw [b, h], by rw [b, h], Or.inr ⟨a, _, G2, e, f⟩⟩
theorem sp_adds_lt (G : Nat → Nat) (x : Int32) : (sp_adds G x).1 < 2 ^ 30 := by
  unfold sp_adds
  repeat' split
  all_goals (dsimp only; decide)
theorem sp_adds_f (G : Nat → Nat) (x : Int32) : ¬ (sp_adds G x).1 = 0 → (sp_adds G x).2.1 = nI 0 := by
  unfold sp_adds
  repeat' split
  all_goals first | exact fun h => absurd rfl h | exact fun _ => rfl
theorem sp_pushes_lt (G : Nat → Nat) (x z : Int32) : (sp_pushes G x z).1 < 2 ^ 30 := by
  unfold sp_pushes
  repeat' split
  all_goals (dsimp only; decide)
theorem sp_pushes_f (G : Nat → Nat) (x z : Int32) : ¬ (sp_pushes G x z).1 = 0 → (sp_pushes G x z).2.1 = nI 0 := by
  unfold sp_pushes
  repeat' split
  all_goals first | exact fun h => absurd rfl h | exact fun _ => rfl
theorem sp_catches_lt (G : Nat → Nat) (x : Int32) : (sp_catches G x).1 < 2 ^ 30 := by
  unfold sp_catches
  repeat' split
  all_goals (dsimp only; decide)
theorem sp_catches_f (G : Nat → Nat) (x : Int32) : ¬ (sp_catches G x).1 = 0 → (sp_catches G x).2.1 = nI 0 := by
  unfold sp_catches
  repeat' split
  all_goals first | exact fun h => absurd rfl h | exact fun _ => rfl
theorem sp_rubs_lt (G : Nat → Nat) (x : Int32) : (sp_rubs G x).1 < 2 ^ 30 := by
  unfold sp_rubs
  repeat' split
  all_goals (dsimp only; decide)
theorem sp_rubs_f (G : Nat → Nat) (x : Int32) : ¬ (sp_rubs G x).1 = 0 → (sp_rubs G x).2.1 = nI 0 := by
  unfold sp_rubs
  repeat' split
  all_goals first | exact fun h => absurd rfl h | exact fun _ => rfl
theorem sp_passes_lt (G : Nat → Nat) (x : Int32) : (sp_passes G x).1 < 2 ^ 30 := by
  unfold sp_passes
  repeat' split
  all_goals (dsimp only; decide)
theorem sp_passes_f (G : Nat → Nat) (x : Int32) : ¬ (sp_passes G x).1 = 0 → (sp_passes G x).2.1 = nI 0 := by
  unfold sp_passes
  repeat' split
  all_goals first | exact fun h => absurd rfl h | exact fun _ => rfl
theorem sp_leg_lt (G : Nat → Nat) (x : Int32) : (sp_leg G x).1 < 2 ^ 30 := by
  unfold sp_leg
  repeat' split
  all_goals (dsimp only; decide)
theorem sp_leg_f (G : Nat → Nat) (x : Int32) : ¬ (sp_leg G x).1 = 0 → (sp_leg G x).2.1 = nI 0 := by
  unfold sp_leg
  repeat' split
  all_goals first | exact fun h => absurd rfl h | exact fun _ => rfl
theorem sp_cuts_lt (G : Nat → Nat) (x : Int32) : (sp_cuts G x).1 < 2 ^ 30 := by
  unfold sp_cuts
  repeat' split
  all_goals (dsimp only; decide)
theorem sp_cuts_f (G : Nat → Nat) (x : Int32) : ¬ (sp_cuts G x).1 = 0 → (sp_cuts G x).2.1 = nI 0 := by
  unfold sp_cuts
  repeat' split
  all_goals first | exact fun h => absurd rfl h | exact fun _ => rfl
