set_option maxRecDepth 100000
theorem c_rest_init {E : EV} (h : MH) (b : Nat) (hb : h.2 b = some (.inr (3, []))) (hK : KK ≤ b) : SM E yX5_init 1 [.ref b] h 0 0 (fun o h' => o = none ∧ h' = h) (fun _ _ => False) := by
  refine SM.of (cc := cX5_init) (nL := 1) (ret := none) (hh := []) (ls := [(0, .ref b)]) pl_X5 (Or.inl ⟨rfl, q415⟩) rfl q85 rfl rfl ?_
  refine r_aload_n dX5_init_0 rfl ?_
  refine r_objinit dX5_init_1 q416 (by omega) rfl (Nat.le_of_ble_eq_true rfl) ?_
  refine r_return dX5_init_4 rfl ?_
  exact ⟨rfl, rfl⟩
theorem c_swinging_init {E : EV} (h : MH) (b a s0 : Nat) (hb : h.2 b = some (.inr (4, [.int (nI 0), .int (nI 0)]))) (hK : KK ≤ b) : SM E yX7_init 1 [.ref b, .int (nI a), .int (nI s0)] h 0 0 (fun o h' => o = none ∧ h' = ph h b (.inr (4, [.int (nI a), .int (nI s0)]))) (fun _ _ => False) := by
  refine SM.of (cc := cX7_init) (nL := 3) (ret := none) (hh := []) (ls := [(0, .ref b), (1, .int (nI a)), (2, .int (nI s0))]) pl_X7 (Or.inl ⟨rfl, q719⟩) rfl q97 rfl rfl ?_
  refine r_aload_n dX7_init_0 rfl ?_
  refine r_objinit dX7_init_1 q720 (by omega) rfl (Nat.le_of_ble_eq_true rfl) ?_
  refine r_aload_n dX7_init_4 rfl ?_
  refine r_iload_n dX7_init_5 rfl ?_
  refine r_putfinal dX7_init_6 fp_X7_7_4 hb hK (Nat.le_of_ble_eq_true rfl) rfl rfl rfl ?_
  refine r_aload_n dX7_init_9 rfl ?_
  refine r_iload_n dX7_init_10 rfl ?_
  refine r_putfinal dX7_init_11 fp_X7_13_4 (ph_same _ _ _) hK (Nat.le_of_ble_eq_true rfl) rfl rfl rfl ?_
  rw [ph_ph]
  refine r_return dX7_init_14 rfl ?_
  exact ⟨rfl, rfl⟩
