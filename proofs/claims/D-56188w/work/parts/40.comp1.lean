set_option maxRecDepth 100000
theorem c_loss {E : EV} (h : MH) (a f : Nat) (ha : a ≤ 60) (hf : f ≤ 30) : SM E yX1_loss 1 [.int (nI a), .int (nI f)] h 0 0 (fun o h' => o = some (.int (nI (max 1 (a * f / 100)))) ∧ h' = h) (fun _ _ => False) := by
  have hb : a * f ≤ 60 * 30 := Nat.mul_le_mul ha hf
  refine SM.of (cc := cX1_loss) (nL := 2) (ret := (some .int)) (hh := []) (ls := [(0, .int (nI a)), (1, .int (nI f))]) pl_X1 (Or.inl ⟨rfl, q781⟩) rfl q68 rfl rfl ?_
  refine r_iconst dX1_loss_0 ki_1 ?_
  refine r_iload_n dX1_loss_1 rfl ?_
  refine r_iload_n dX1_loss_2 rfl ?_
  refine rn_imul dX1_loss_3 ?_
  refine r_bipush dX1_loss_4 kb_100 ?_
  refine rn_idiv dX1_loss_6 (by omega) (by omega) (by omega) ?_
  refine rn_mmax dX1_loss_7 q782 (by omega) (by decide) (by omega) (by omega) ?_
  refine r_ireturn dX1_loss_10 rfl rfl ?_
  exact ⟨rfl, rfl⟩
theorem c_isBetween {E : EV} (h : MH) (x a b : Int32) : SM E yX1_isBetween 0 [.int x, .int a, .int b] h 0 0 (fun o h' => o = some (.int (bi (a ≤ x ∧ x ≤ b))) ∧ h' = h) (fun _ _ => False) := by
  refine SM.of (cc := cX1_isBetween) (nL := 3) (ret := (some .boolean)) (hh := []) (ls := [(0, .int x), (1, .int a), (2, .int b)]) pl_X1 (Or.inl ⟨rfl, q279⟩) rfl q68 rfl rfl ?_
  refine r_iload_n dX1_isBetween_0 rfl ?_
  refine r_iload_n dX1_isBetween_1 rfl ?_
  refine r_icmp_lt (tgt := 14) dX1_isBetween_2 rfl (fun h1 => ?_) (fun h1 => ?_)
  · refine r_iconst dX1_isBetween_14 ki_0 ?_
    exact r_ireturn dX1_isBetween_15 rfl nz0 ⟨by rw [bi_f (fun z => absurd h1 (Int32.not_lt.mpr z.1))], rfl⟩
  · refine r_iload_n dX1_isBetween_5 rfl ?_
    refine r_iload_n dX1_isBetween_6 rfl ?_
    refine r_icmp_gt (tgt := 14) dX1_isBetween_7 rfl (fun h2 => ?_) (fun h2 => ?_)
    · refine r_iconst dX1_isBetween_14 ki_0 ?_
      exact r_ireturn dX1_isBetween_15 rfl nz0 ⟨by rw [bi_f (fun z => absurd h2 (Int32.not_lt.mpr z.2))], rfl⟩
    · refine r_iconst dX1_isBetween_10 ki_1 ?_
      refine r_goto (tgt := 15) dX1_isBetween_11 rfl ?_
      exact r_ireturn dX1_isBetween_15 rfl nz1 ⟨by rw [bi_t ⟨Int32.not_lt.mp h1, Int32.not_lt.mp h2⟩], rfl⟩
theorem c_requireIndex {E : EV} (h : MH) (c : Prop) [Decidable c] : SM E yX1_requireIndex 6 [.int (bi c)] h 1 6 (fun o h' => c ∧ o = none ∧ h' = h) (fun q h' => ¬ c ∧ q = h.1 ∧ h' = nh h (.inr (16, []))) := by
  refine SM.of (cc := cX1_requireIndex) (nL := 1) (ret := none) (hh := []) (ls := [(0, .int (bi c))]) pl_X1 (Or.inl ⟨rfl, q282⟩) rfl q68 rfl rfl ?_
  refine r_iload_n dX1_requireIndex_0 rfl ?_
  refine rb_if_ne (tgt := 12) dX1_requireIndex_1 rfl (fun c1 => ?_) (fun c1 => ?_)
  · refine r_return dX1_requireIndex_12 rfl ?_
    exact ⟨c1, rfl, rfl⟩
  · exact r_throw0 (cls := "java/lang/IndexOutOfBoundsException") (names := ["java/lang/RuntimeException", "java/lang/Exception"]) (ci := 16) rfl (by decide +kernel) (by decide +kernel) q283 q93 (by decide +kernel) (by decide +kernel) dX1_requireIndex_4 dX1_requireIndex_7 dX1_requireIndex_8 dX1_requireIndex_11 (fun x hx => by cases hx) (by decide) (by decide) (by decide) (by decide) ⟨c1, rfl, rfl⟩
theorem c_requireArgument {E : EV} (h : MH) (c : Prop) [Decidable c] : SM E yX1_requireArgument 6 [.int (bi c)] h 1 6 (fun o h' => c ∧ o = none ∧ h' = h) (fun q h' => ¬ c ∧ q = h.1 ∧ h' = nh h (.inr (14, []))) := by
  refine SM.of (cc := cX1_requireArgument) (nL := 1) (ret := none) (hh := []) (ls := [(0, .int (bi c))]) pl_X1 (Or.inl ⟨rfl, q526⟩) rfl q68 rfl rfl ?_
  refine r_iload_n dX1_requireArgument_0 rfl ?_
  refine rb_if_ne (tgt := 12) dX1_requireArgument_1 rfl (fun c1 => ?_) (fun c1 => ?_)
  · refine r_return dX1_requireArgument_12 rfl ?_
    exact ⟨c1, rfl, rfl⟩
  · exact r_throw0 (cls := "java/lang/IllegalArgumentException") (names := ["java/lang/RuntimeException", "java/lang/Exception"]) (ci := 14) rfl (by decide +kernel) (by decide +kernel) q527 q82 (by decide +kernel) (by decide +kernel) dX1_requireArgument_4 dX1_requireArgument_7 dX1_requireArgument_8 dX1_requireArgument_11 (fun x hx => by cases hx) (by decide) (by decide) (by decide) (by decide) ⟨c1, rfl, rfl⟩
theorem c_requireState {E : EV} (h : MH) (c : Prop) [Decidable c] : SM E yX1_requireState 6 [.int (bi c)] h 1 6 (fun o h' => c ∧ o = none ∧ h' = h) (fun q h' => ¬ c ∧ q = h.1 ∧ h' = nh h (.inr (15, []))) := by
  refine SM.of (cc := cX1_requireState) (nL := 1) (ret := none) (hh := []) (ls := [(0, .int (bi c))]) pl_X1 (Or.inl ⟨rfl, q544⟩) rfl q68 rfl rfl ?_
  refine r_iload_n dX1_requireState_0 rfl ?_
  refine rb_if_ne (tgt := 12) dX1_requireState_1 rfl (fun c1 => ?_) (fun c1 => ?_)
  · refine r_return dX1_requireState_12 rfl ?_
    exact ⟨c1, rfl, rfl⟩
  · exact r_throw0 (cls := "java/lang/IllegalStateException") (names := ["java/lang/RuntimeException", "java/lang/Exception"]) (ci := 15) rfl (by decide +kernel) (by decide +kernel) q545 q83 (by decide +kernel) (by decide +kernel) dX1_requireState_4 dX1_requireState_7 dX1_requireState_8 dX1_requireState_11 (fun x hx => by cases hx) (by decide) (by decide) (by decide) (by decide) ⟨c1, rfl, rfl⟩
theorem c_requireElement {E : EV} (h : MH) (c : Prop) [Decidable c] : SM E yX1_requireElement 6 [.int (bi c)] h 1 6 (fun o h' => c ∧ o = none ∧ h' = h) (fun q h' => ¬ c ∧ q = h.1 ∧ h' = nh h (.inr (17, []))) := by
  refine SM.of (cc := cX1_requireElement) (nL := 1) (ret := none) (hh := []) (ls := [(0, .int (bi c))]) pl_X1 (Or.inl ⟨rfl, q818⟩) rfl q68 rfl rfl ?_
  refine r_iload_n dX1_requireElement_0 rfl ?_
  refine rb_if_ne (tgt := 12) dX1_requireElement_1 rfl (fun c1 => ?_) (fun c1 => ?_)
  · refine r_return dX1_requireElement_12 rfl ?_
    exact ⟨c1, rfl, rfl⟩
  · exact r_throw0 (cls := "java/util/NoSuchElementException") (names := ["java/lang/RuntimeException", "java/lang/Exception"]) (ci := 17) rfl (by decide +kernel) (by decide +kernel) q819 q92 (by decide +kernel) (by decide +kernel) dX1_requireElement_4 dX1_requireElement_7 dX1_requireElement_8 dX1_requireElement_11 (fun x hx => by cases hx) (by decide) (by decide) (by decide) (by decide) ⟨c1, rfl, rfl⟩
