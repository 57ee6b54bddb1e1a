set_option maxRecDepth 100000
def MS0 : MS := (fun k => if k = 8 then (-1) else if k = 9 then (-1) else nI 0, fun _ _ => 0)
def G00 : Nat → Nat := fun k => if k = 1 then 5 else 0
theorem c_m_init {E : EV} (f : Nat → Option MC) (hf : f 410 = some (.inr (9, [.null, .null, .null, .int (nI 0), .null, .int (nI 0), .null, .int (nI 0), .int (nI 0), .int (nI 0), .null, .int (nI 0), .int (nI 0), .null, .int (nI 0), .int (nI 0), .null]))) : SM E yX3_init 1 [.ref 410] (411, f) 8 1084 (fun o h' => o = none ∧ h' = JG MS0 G00 (419, f)) (fun _ _ => False) := by
  refine SM.of (cc := cX3_init) (nL := 1) (ret := none) (hh := []) (ls := [(0, .ref 410)]) pl_X3 (Or.inl ⟨rfl, q1687⟩) rfl q78 rfl rfl ?_
  refine r_aload_n dX3_init_0 rfl ?_
  refine r_objinit dX3_init_1 q1688 (by omega) rfl (Nat.le_of_ble_eq_true rfl) ?_
  refine r_aload_n dX3_init_4 rfl ?_
  refine r_bipush dX3_init_5 kb_48 ?_
  refine r_newarray (t := 0) (N := 48) (z0 := .inl fun _ => nI 0) (kc' := 7) (ks' := 1036) dX3_init_7 q173 rfl rfl (fun _ _ => rfl) (by decide) rfl (by omega) (by omega) (by omega) ?_
  refine r_putfinal dX3_init_9 fp_X3_7_9 hf (by decide) (Nat.le_of_ble_eq_true rfl) rfl rfl rfl ?_
  refine r_aload_n dX3_init_12 rfl ?_
  refine r_bipush dX3_init_13 kb_48 ?_
  refine r_newarray (t := 0) (N := 48) (z0 := .inl fun _ => nI 0) (kc' := 6) (ks' := 988) dX3_init_15 q173 rfl rfl (fun _ _ => rfl) (by decide) rfl (by omega) (by omega) (by omega) ?_
  refine r_putfinal dX3_init_17 fp_X3_13_9 rfl (by decide) (Nat.le_of_ble_eq_true rfl) rfl rfl rfl ?_
  refine r_aload_n dX3_init_20 rfl ?_
  refine r_sipush dX3_init_21 ks_384 ?_
  refine r_newarray (t := 0) (N := 384) (z0 := .inl fun _ => nI 0) (kc' := 5) (ks' := 604) dX3_init_24 q173 rfl rfl (fun _ _ => rfl) (by decide) rfl (by omega) (by omega) (by omega) ?_
  refine r_putfinal dX3_init_26 fp_X3_16_9 rfl (by decide) (Nat.le_of_ble_eq_true rfl) rfl rfl rfl ?_
  refine r_aload_n dX3_init_29 rfl ?_
  refine r_bipush dX3_init_30 kb_48 ?_
  refine r_newarray (t := 0) (N := 48) (z0 := .inl fun _ => nI 0) (kc' := 4) (ks' := 556) dX3_init_32 q173 rfl rfl (fun _ _ => rfl) (by decide) rfl (by omega) (by omega) (by omega) ?_
  refine r_putfinal dX3_init_34 fp_X3_19_9 rfl (by decide) (Nat.le_of_ble_eq_true rfl) rfl rfl rfl ?_
  refine r_aload_n dX3_init_37 rfl ?_
  refine r_bipush dX3_init_38 kb_60 ?_
  refine r_newarray (t := 2) (N := 60) (z0 := .inl fun _ => nI 0) (kc' := 3) (ks' := 496) dX3_init_40 q1741 rfl rfl (fun _ _ => rfl) (by decide) rfl (by omega) (by omega) (by omega) ?_
  refine r_putfinal dX3_init_42 fp_X3_22_9 rfl (by decide) (Nat.le_of_ble_eq_true rfl) rfl rfl rfl ?_
  refine r_aload_n dX3_init_45 rfl ?_
  refine r_iconst dX3_init_46 ki_m1 ?_
  refine r_putfield dX3_init_47 fp_X3_26_9 rfl (by decide) (Nat.le_of_ble_eq_true rfl) rfl (by decide) ?_
  refine r_aload_n dX3_init_50 rfl ?_
  refine r_iconst dX3_init_51 ki_m1 ?_
  refine r_putfield dX3_init_52 fp_X3_30_9 rfl (by decide) (Nat.le_of_ble_eq_true rfl) rfl (by decide) ?_
  refine r_aload_n dX3_init_55 rfl ?_
  refine r_bipush dX3_init_56 kb_60 ?_
  refine r_newarray (t := 2) (N := 60) (z0 := .inl fun _ => nI 0) (kc' := 2) (ks' := 436) dX3_init_58 q1741 rfl rfl (fun _ _ => rfl) (by decide) rfl (by omega) (by omega) (by omega) ?_
  refine r_putfinal dX3_init_60 fp_X3_33_9 rfl (by decide) (Nat.le_of_ble_eq_true rfl) rfl rfl rfl ?_
  refine r_aload_n dX3_init_63 rfl ?_
  refine r_sipush dX3_init_64 ks_256 ?_
  refine r_newarray (t := 0) (N := 256) (z0 := .inl fun _ => nI 0) (kc' := 1) (ks' := 180) dX3_init_67 q173 rfl rfl (fun _ _ => rfl) (by decide) rfl (by omega) (by omega) (by omega) ?_
  refine r_putfinal dX3_init_69 fp_X3_36_9 rfl (by decide) (Nat.le_of_ble_eq_true rfl) rfl rfl rfl ?_
  refine r_aload_n dX3_init_72 rfl ?_
  refine r_sipush dX3_init_73 ks_180 ?_
  refine r_newarray (t := 0) (N := 180) (z0 := .inl fun _ => nI 0) (kc' := 0) (ks' := 0) dX3_init_76 q173 rfl rfl (fun _ _ => rfl) (by decide) rfl (by omega) (by omega) (by omega) ?_
  refine r_putfinal dX3_init_78 fp_X3_39_9 rfl (by decide) (Nat.le_of_ble_eq_true rfl) rfl rfl rfl ?_
  refine r_aload_n dX3_init_81 rfl ?_
  refine r_getfield dX3_init_82 fl_X3_7_9 rfl rfl ?_
  refine r_iconst dX3_init_85 ki_1 ?_
  refine r_iconst dX3_init_86 ki_5 ?_
  refine r_iastore dX3_init_87 rfl (Nat.le_of_ble_eq_true rfl) (vp_in_nI (show 1 < 48 by decide) (by decide)) ?_
  refine r_return dX3_init_88 rfl ?_
  refine ⟨rfl, Prod.ext rfl (funext fun k => ?_)⟩
  by_cases h9 : 410 ≤ k ∧ k ≤ 418
  · rcases (show k = 410 ∨ k = 411 ∨ k = 412 ∨ k = 413 ∨ k = 414 ∨ k = 415 ∨ k = 416 ∨ k = 417 ∨ k = 418 by omega) with rfl | rfl | rfl | rfl | rfl | rfl | rfl | rfl | rfl
    · rfl
    · refine congrArg (fun w => some (Sum.inl (0, 48, Sum.inl w))) (funext fun j => ?_)
      rw [show (nI 1).toNatClampNeg = 1 from nI_clamp (by decide)]
      by_cases e : j = 1
      · subst e; rfl
      · show va_up (fun _ => nI 0) 1 (nI 5) j = nI (G00 j)
        rw [up_ne _ _ e, G00, if_neg e]
    · rfl
    · rfl
    · rfl
    · rfl
    · rfl
    · rfl
    · rfl
  · have e2 : (JG MS0 G00 (419, f)).2 k = f k := J_out _ _ (by omega)
    rw [e2]
    simp only [ph, nh, show k ≠ 410 by omega, show k ≠ 411 by omega, show k ≠ 412 by omega, show k ≠ 413 by omega, show k ≠ 414 by omega, show k ≠ 415 by omega, show k ≠ 416 by omega, show k ≠ 417 by omega, show k ≠ 418 by omega, if_false]
