set_option maxRecDepth 100000
theorem c_loss {E : EV} (h : MH) (a f : Nat) (ha : a ≤ 60) (hf : f ≤ 30) : SM E yX1_loss 1 [.int (nI a), .int (nI f)] h 0 0 (fun o h' => o = some (.int (nI (max 1 (a * f / 100)))) ∧ h' = h) (fun _ _ => False) := by
  have hb : a * f ≤ 60 * 30 := Nat.mul_le_mul ha hf
  refine SM.of (cc := cX1_loss) (nL := 2) (ret := (some .int)) (hh := []) (ls := [(0, .int (nI a)), (1, .int (nI f))]) pl_X1 (Or.inl ⟨rfl, q781⟩) rfl q68 rfl rfl ?_
  refine r_iconst dX1_loss_0 ki_1 ?_
  refine r_iload_n dX1_loss_1 rfl ?_
  refine r_iload_n dX1_loss_2 rfl ?_
  refine rn_imul dX1_loss_3 ?_
  refine r_bipush dX1_loss_4 kb_100 ?_
  refine rn_idiv dX1_loss_6 (by omega) (by omega) (by omega) ?_
  refine rn_mmax dX1_loss_7 q782 (by omega) (by decide) (by omega) (by omega) ?_
  refine r_ireturn dX1_loss_10 rfl rfl ?_
  exact ⟨rfl, rfl⟩
/-- the motion at address m: amplitude and start, 0 if at rest -/
def isMo (h : MH) (m a s0 : Nat) : Prop := (a = 0 ∧ h.2 m = some (.inr (3, []))) ∨ (0 < a ∧ h.2 m = some (.inr (4, [.int (nI a), .int (nI s0)])))
