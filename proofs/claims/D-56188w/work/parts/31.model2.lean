set_option maxRecDepth 100000
theorem l_m_period {E : EV} {QR : Option Value → MH → Prop} {QX : Nat → MH → Prop} {d kc ks : Nat} (S : MS) (G : Nat → Nat) (r : MH) (p : Nat) (hp : p < 8) (hL : G (4 + p) ≤ 99) (kk : QR (some (.int (nI (per (G (4 + p)))))) (JG S G r)) : ∀ (n0 i : Nat), i * i ≤ 36 * G (4 + p) → i ≤ 60 → 61 ≤ n0 + i → SW E yX3_period cX3_period 3 (some .int) [] QR QX d kc ks (JG S G r) 2 [(0, .ref 410), (1, .int (nI p)), (2, .int (nI i))] [] := by
  intro n0
  induction n0 with
  | zero => intro i h1 h2 h3; omega
  | succ n0 ih =>
    intro i h1 h2 h3
    refine r_iload_n dX3_period_2 rfl ?_
    refine r_iconst dX3_period_3 ki_1 ?_
    refine rn_iadd dX3_period_4 ?_
    refine r_iload_n dX3_period_5 rfl ?_
    refine r_iconst dX3_period_6 ki_1 ?_
    refine rn_iadd dX3_period_7 ?_
    refine rn_imul dX3_period_8 ?_
    refine r_bipush dX3_period_9 kb_36 ?_
    refine r_aload_n dX3_period_11 rfl ?_
    refine r_getfield dX3_period_12 fl_X3_7_9 (JG_410 _ _ _) rfl ?_
    refine r_iconst dX3_period_15 ki_4 ?_
    refine r_iload_n dX3_period_16 rfl ?_
    refine rn_iadd dX3_period_17 ?_
    refine rn_iaload dX3_period_18 (JG_411 _ _ _) (by omega) (by omega) ?_
    refine rn_imul dX3_period_19 ?_
    have hb : (i + 1) * (i + 1) ≤ 61 * 61 := Nat.mul_le_mul (by omega) (by omega)
    refine rn_icmp_gt (tgt := 29) dX3_period_20 rfl (by omega) (by omega) (fun hc => ?_) (fun hc => ?_)
    · refine r_iload_n dX3_period_29 rfl ?_
      refine r_ireturn dX3_period_30 rfl rfl ?_
      rw [show per (G (4 + p)) = i from sq_uniq h1 hc 60 h2] at kk
      exact kk
    · refine rn_iinc (n := 1) (ls' := [(0, _), (1, _), (2, _)]) dX3_period_23 rfl rfl rfl ?_
      refine r_goto (tgt := 2) dX3_period_26 rfl ?_
      exact ih (i + 1) hc (Nat.le_of_not_lt fun z => by have := Nat.mul_le_mul z z; omega) (by omega)
theorem c_m_period {E : EV} (S : MS) (G : Nat → Nat) (r : MH) (p : Nat) (hp : p < 8) (hL : G (4 + p) ≤ 99) : SM E yX3_period 0 [.ref 410, .int (nI p)] (JG S G r) 0 0 (fun o h' => o = some (.int (nI (per (G (4 + p))))) ∧ h' = JG S G r) (fun _ _ => False) := by
  refine SM.of (cc := cX3_period) (nL := 3) (ret := (some .int)) (hh := []) (ls := [(0, .ref 410), (1, .int (nI p))]) pl_X3 (Or.inl ⟨rfl, q1827⟩) rfl q78 rfl rfl ?_
  refine r_iconst dX3_period_0 ki_0 ?_
  refine r_istore_n (ls' := [(0, _), (1, _), (2, _)]) dX3_period_1 rfl rfl ?_
  exact l_m_period S G r p hp hL ⟨rfl, rfl⟩ 61 0 (Nat.zero_le _) (by decide) (by decide)
theorem c_m_behindSwing {E : EV} (S : MS) (G : Nat → Nat) (r : MH) (a : Nat) (h1 : 1 ≤ a) (h2 : a ≤ 60) (hf : G 1 ≤ 30) : SM E yX3_behindSwing 0 [.ref 410, .int (nI a)] (JG S G r) 0 0 (fun o h' => o = some (.int (nI (beh a (G 1)))) ∧ h' = JG S G r) (fun _ _ => False) := by
  have hb : a * G 1 ≤ a * 30 := Nat.mul_le_mul_left a hf
  refine SM.of (cc := cX3_behindSwing) (nL := 3) (ret := (some .int)) (hh := []) (ls := [(0, .ref 410), (1, .int (nI a))]) pl_X3 (Or.inl ⟨rfl, q1831⟩) rfl q78 rfl rfl ?_
  refine r_iload_n dX3_behindSwing_0 rfl ?_
  refine r_aload_n dX3_behindSwing_1 rfl ?_
  refine r_getfield dX3_behindSwing_2 fl_X3_7_9 (JG_410 _ _ _) rfl ?_
  refine r_iconst dX3_behindSwing_5 ki_1 ?_
  refine rn_iaload dX3_behindSwing_6 (JG_411 _ _ _) (by omega) (by omega) ?_
  refine rn_imul dX3_behindSwing_7 ?_
  refine r_bipush dX3_behindSwing_8 kb_100 ?_
  refine rn_idiv dX3_behindSwing_10 (by omega) (by omega) (by omega) ?_
  refine r_istore_n (ls' := [(0, _), (1, _), (2, _)]) dX3_behindSwing_11 rfl rfl ?_
  refine r_iload_n dX3_behindSwing_12 rfl ?_
  refine r_iload_n dX3_behindSwing_13 rfl ?_
  refine r_iconst dX3_behindSwing_14 ki_1 ?_
  refine rn_icmp_ge (tgt := 22) dX3_behindSwing_15 rfl (by omega) (by omega) (fun hc => ?_) (fun hc => ?_)
  · refine r_iload_n dX3_behindSwing_22 rfl ?_
    refine rn_isub dX3_behindSwing_23 (by omega) ?_
    refine r_ireturn dX3_behindSwing_24 rfl rfl ?_
    exact ⟨by unfold beh; first | rw [if_pos hc] | rw [if_neg (by omega)], rfl⟩
  · refine r_iconst dX3_behindSwing_18 ki_1 ?_
    refine r_goto (tgt := 23) dX3_behindSwing_19 rfl ?_
    refine rn_isub dX3_behindSwing_23 (by omega) ?_
    refine r_ireturn dX3_behindSwing_24 rfl rfl ?_
    exact ⟨by unfold beh; first | rw [if_pos hc] | rw [if_neg (by omega)], rfl⟩
theorem l_m_divisor {E : EV} {QR : Option Value → MH → Prop} {QX : Nat → MH → Prop} {d kc ks : Nat} (h : MH) (a0 b0 : Nat) (kk : QR (some (.int (nI (Nat.gcd a0 b0)))) h) : ∀ (n0 u v : Nat), u < 2 ^ 31 → v < n0 → v < 2 ^ 31 → Nat.gcd u v = Nat.gcd a0 b0 → SW E yX3_divisor cX3_divisor 5 (some .int) [] QR QX d kc ks h 4 [(0, .int (nI a0)), (1, .int (nI b0)), (2, .int (nI u)), (3, .int (nI v))] [] := by
  intro n0
  induction n0 with
  | zero => intro u v h1 h2; omega
  | succ n0 ih =>
    intro u v h1 h2 h3 h4
    refine r_iload_n dX3_divisor_4 rfl ?_
    refine rn_if_le (tgt := 21) dX3_divisor_5 rfl (by omega) (fun hc => ?_) (fun hc => ?_)
    · refine r_iload_n dX3_divisor_21 rfl ?_
      refine r_ireturn dX3_divisor_22 rfl rfl ?_
      rw [← h4, hc, Nat.gcd_zero_right] at kk
      exact kk
    · refine r_iload_n dX3_divisor_8 rfl ?_
      refine r_iload_n dX3_divisor_9 rfl ?_
      refine rn_irem dX3_divisor_10 (by omega) (by omega) (by omega) ?_
      refine r_istore (ls' := [(0, _), (1, _), (2, _), (3, _), (4, _)]) dX3_divisor_11 rfl rfl ?_
      refine r_iload_n dX3_divisor_13 rfl ?_
      refine r_istore_n (ls' := [(0, _), (1, _), (2, _), (3, _), (4, _)]) dX3_divisor_14 rfl rfl ?_
      refine r_iload dX3_divisor_15 rfl ?_
      refine r_istore_n (ls' := [(0, _), (1, _), (2, _), (3, _), (4, _)]) dX3_divisor_17 rfl rfl ?_
      refine r_goto (tgt := 4) dX3_divisor_18 rfl ?_
      have hm := Nat.mod_lt u hc
      refine r_sub (ls' := [(0, .int (nI a0)), (1, .int (nI b0)), (2, .int (nI v)), (3, .int (nI (u % v)))]) (fun q hq => by simp only [List.mem_cons, List.not_mem_nil, or_false] at hq ⊢; rcases hq with h | h | h | h <;> simp [h]) ?_
      exact ih v (u % v) h3 (by omega) (by omega) (by rw [← h4, Nat.gcd_comm v, Nat.gcd_comm u, ← Nat.gcd_rec])
theorem c_m_divisor {E : EV} (h : MH) (a b : Nat) (ha : a < 2 ^ 31) (hb : b < 2 ^ 31) : SM E yX3_divisor 0 [.int (nI a), .int (nI b)] h 0 0 (fun o h' => o = some (.int (nI (Nat.gcd a b))) ∧ h' = h) (fun _ _ => False) := by
  refine SM.of (cc := cX3_divisor) (nL := 5) (ret := (some .int)) (hh := []) (ls := [(0, .int (nI a)), (1, .int (nI b))]) pl_X3 (Or.inl ⟨rfl, q1936⟩) rfl q78 rfl rfl ?_
  refine r_iload_n dX3_divisor_0 rfl ?_
  refine r_istore_n (ls' := [(0, _), (1, _), (2, _)]) dX3_divisor_1 rfl rfl ?_
  refine r_iload_n dX3_divisor_2 rfl ?_
  refine r_istore_n (ls' := [(0, _), (1, _), (2, _), (3, _)]) dX3_divisor_3 rfl rfl ?_
  exact l_m_divisor h a b ⟨rfl, rfl⟩ (b + 1) a b ha (by omega) hb rfl
theorem c_m_adds {E : EV} (S : MS) (G : Nat → Nat) (r : MH) (x : Int32) (hG : gOK G) : SM E yX3_adds 1 [.ref 410, .int x] (JG S G r) 0 0 (fun o h' => o = some (.int (sp_adds G x).2.1) ∧ h' = JG (ss S 12 (nI (sp_adds G x).1)) (sp_adds G x).2.2 r) (fun _ _ => False) := by
  obtain ⟨hg0, hg1, hg2, hg3, hgp, hgr, hgw⟩ := id hG
  refine SM.of (cc := cX3_adds) (nL := 2) (ret := (some .int)) (hh := []) (ls := [(0, .ref 410), (1, .int x)]) pl_X3 (Or.inl ⟨rfl, q1760⟩) rfl q78 rfl rfl ?_
  refine r_iload_n dX3_adds_0 rfl ?_
  refine r_iconst dX3_adds_1 ki_1 ?_
  refine r_bipush dX3_adds_2 kb_99 ?_
  refine r_invS dX3_adds_4 (c_m_in (JG S G r) x (nI 1) (nI 99)) q1761 q1762 pn_X3_in mh_X3_in rfl (by omega) (Nat.le_refl _) (Nat.le_refl _) (Nat.le_of_ble_eq_true rfl) (fun v4 h4 hq4 => ?_) (fun _ _ hq => hq.elim)
  obtain ⟨rfl, rfl⟩ := hq4
  refine rb_if_ne (tgt := 16) dX3_adds_7 rfl  (fun c7 => ?_) (fun c7 => ?_)
  · obtain ⟨k, hk1, hk2, rfl⟩ := rg_of (by decide) c7.1 c7.2 (by decide)
    refine r_aload_n dX3_adds_16 rfl ?_
    refine r_getfield dX3_adds_17 fl_X3_7_9 (JG_410 _ _ _) rfl ?_
    refine r_iconst dX3_adds_20 ki_2 ?_
    refine rn_iaload dX3_adds_21 (JG_411 _ _ _) (by omega) (by omega) ?_
    refine r_bipush dX3_adds_22 kb_8 ?_
    refine rn_icmp_ne (tgt := 33) dX3_adds_24 rfl (by omega) (by omega) (fun c24 => ?_) (fun c24 => ?_)
    · refine r_aload_n dX3_adds_33 rfl ?_
      refine r_getfield dX3_adds_34 fl_X3_7_9 (JG_410 _ _ _) rfl ?_
      refine r_iconst dX3_adds_37 ki_4 ?_
      refine r_aload_n dX3_adds_38 rfl ?_
      refine r_getfield dX3_adds_39 fl_X3_7_9 (JG_410 _ _ _) rfl ?_
      refine r_iconst dX3_adds_42 ki_2 ?_
      refine rn_iaload dX3_adds_43 (JG_411 _ _ _) (by omega) (by omega) ?_
      refine rn_iadd dX3_adds_44 ?_
      refine r_iload_n dX3_adds_45 rfl ?_
      refine rg_ias0 dX3_adds_46 (by omega) ?_
      refine r_aload_n dX3_adds_47 rfl ?_
      refine r_getfield dX3_adds_48 fl_X3_7_9 (JG_410 _ _ _) rfl ?_
      refine r_iconst dX3_adds_51 ki_2 ?_
      refine r_dup2 dX3_adds_52 rfl rfl ?_
      refine rn_iaload dX3_adds_53 (JG_411 _ _ _) (by omega) (by omega) ?_
      rw [up_ne G k (show 2 ≠ 4 + G 2 by omega)]
      refine r_iconst dX3_adds_54 ki_1 ?_
      refine rn_iadd dX3_adds_55 ?_
      refine rg_ias0 dX3_adds_56 (by omega) ?_
      refine r_aload_n dX3_adds_57 rfl ?_
      refine r_aload_n dX3_adds_58 rfl ?_
      refine r_getfield dX3_adds_59 fl_X3_7_9 (JG_410 _ _ _) rfl ?_
      refine r_iconst dX3_adds_62 ki_2 ?_
      refine rn_iaload dX3_adds_63 (JG_411 _ _ _) (by omega) (by omega) ?_
      rw [up_same]
      refine r_iconst dX3_adds_64 ki_1 ?_
      refine rn_isub dX3_adds_65 (by omega) ?_
      rw [Nat.add_sub_cancel]
      refine r_invV dX3_adds_66 (c_m_done S _ r (nI (G 2))) q1768 q1770 qs32 (JG_410 _ _ _) k9 pn_X3_done mh_X3_done rfl (by omega) (Nat.le_refl _) (Nat.le_refl _) (Nat.le_of_ble_eq_true rfl) (fun v66 h66 hq66 => ?_) (fun _ _ hq => hq.elim)
      obtain ⟨rfl, rfl⟩ := hq66
      refine r_ireturn dX3_adds_69 rfl rfl ?_
      rw [sp_adds, if_pos c7, if_neg c24, nI_clamp (by omega)]
      exact ⟨rfl, rfl⟩
    · refine r_aload_n dX3_adds_27 rfl ?_
      refine r_iconst dX3_adds_28 ki_2 ?_
      refine r_invV dX3_adds_29 (c_m_fails S G r (nI 2)) q1764 q1766 qs31 (JG_410 _ _ _) k9 pn_X3_fails mh_X3_fails rfl (by omega) (Nat.le_refl _) (Nat.le_refl _) (Nat.le_of_ble_eq_true rfl) (fun v29 h29 hq29 => ?_) (fun _ _ hq => hq.elim)
      obtain ⟨rfl, rfl⟩ := hq29
      refine r_ireturn dX3_adds_32 rfl rfl ?_
      rw [sp_adds, if_pos c7, if_pos c24]
      exact ⟨rfl, rfl⟩
  · refine r_aload_n dX3_adds_10 rfl ?_
    refine r_iconst dX3_adds_11 ki_1 ?_
    refine r_invV dX3_adds_12 (c_m_fails S G r (nI 1)) q1764 q1766 qs31 (JG_410 _ _ _) k9 pn_X3_fails mh_X3_fails rfl (by omega) (Nat.le_refl _) (Nat.le_refl _) (Nat.le_of_ble_eq_true rfl) (fun v12 h12 hq12 => ?_) (fun _ _ hq => hq.elim)
    obtain ⟨rfl, rfl⟩ := hq12
    refine r_ireturn dX3_adds_15 rfl rfl ?_
    rw [sp_adds, if_neg c7]
    exact ⟨rfl, rfl⟩
theorem l_m_push87 {E : EV} {QR : Option Value → MH → Prop} {QX : Nat → MH → Prop} {d kc ks : Nat} (hd0 : 1 ≤ d) (S : MS) (G : Nat → Nat) (r : MH) (p w a : Nat) (x z : Int32) (hG : gOK G) (hp : p < G 2) (ha : a ≤ 60) (kk : QR (some (.int (nI a))) (JG (ss S 12 (nI 0)) (sp_push2 G p a) r)) : SW E yX3_pushes cX3_pushes 4 (some .int) [] QR QX d kc ks (JG S (sp_push1 G p a) r) 87 [(0, .ref 410), (1, .int (nI p)), (2, .int (nI w)), (3, .int (nI a))] [] := by
  obtain ⟨hg0, hg1, hg2, hg3, hgp, hgr, hgw⟩ := id hG
  have hg_p := hgp p (by omega)
  have hk3 := knd_lt (G (4 + p))
  have hgk := hgr (knd (G (4 + p))) hk3
  have e4 : sp_push1 G p a (4 + p) = G (4 + p) := push1_at _ _ _ _ (by omega) (by omega)
  have e36 : sp_push1 G p a (36 + knd (G (4 + p))) = G (36 + knd (G (4 + p))) := push1_at _ _ _ _ (by omega) (by omega)
  refine r_iload_n dX3_pushes_87 rfl ?_
  refine r_aload_n dX3_pushes_88 rfl ?_
  refine r_getfield dX3_pushes_89 fl_X3_7_9 (JG_410 _ _ _) rfl ?_
  refine r_bipush dX3_pushes_92 kb_36 ?_
  refine r_aload_n dX3_pushes_94 rfl ?_
  refine r_iload_n dX3_pushes_95 rfl ?_
  refine r_invV dX3_pushes_96 (c_m_kind S (sp_push1 G p a) r p (by omega) (by rw [e4]; omega)) q1792 q1794 qs37 (JG_410 _ _ _) k9 pn_X3_kind mh_X3_kind rfl (by omega) (Nat.le_refl _) (Nat.le_refl _) (Nat.le_of_ble_eq_true rfl) (fun v96 h96 hq96 => ?_) (fun _ _ hq => hq.elim)
  obtain ⟨rfl, rfl⟩ := hq96
  rw [e4]
  refine rn_iadd dX3_pushes_99 ?_
  refine rn_iaload dX3_pushes_100 (JG_411 _ _ _) (by omega) (by omega) ?_
  rw [e36]
  refine rn_icmp_le (tgt := 132) dX3_pushes_101 rfl (by omega) (by omega) (fun hc => ?_) (fun hc => ?_)
  · refine r_aload_n dX3_pushes_132 rfl ?_
    refine r_iload_n dX3_pushes_133 rfl ?_
    refine r_invV dX3_pushes_134 (c_m_done S _ r (nI a)) q1768 q1770 qs32 (JG_410 _ _ _) k9 pn_X3_done mh_X3_done rfl (by omega) (Nat.le_refl _) (Nat.le_refl _) (Nat.le_of_ble_eq_true rfl) (fun v134 h134 hq134 => ?_) (fun _ _ hq => hq.elim)
    obtain ⟨rfl, rfl⟩ := hq134
    refine r_ireturn dX3_pushes_137 rfl rfl ?_
    first | (rw [sp_push2, if_neg (by omega)] at kk; exact kk) | (rw [sp_push2, if_pos hc] at kk; exact kk)
  · refine r_aload_n dX3_pushes_104 rfl ?_
    refine r_getfield dX3_pushes_105 fl_X3_7_9 (JG_410 _ _ _) rfl ?_
    refine r_bipush dX3_pushes_108 kb_36 ?_
    refine r_aload_n dX3_pushes_110 rfl ?_
    refine r_iload_n dX3_pushes_111 rfl ?_
    refine r_invV dX3_pushes_112 (c_m_kind S (sp_push1 G p a) r p (by omega) (by rw [e4]; omega)) q1792 q1794 qs37 (JG_410 _ _ _) k9 pn_X3_kind mh_X3_kind rfl (by omega) (Nat.le_refl _) (Nat.le_refl _) (Nat.le_of_ble_eq_true rfl) (fun v112 h112 hq112 => ?_) (fun _ _ hq => hq.elim)
    obtain ⟨rfl, rfl⟩ := hq112
    rw [e4]
    refine rn_iadd dX3_pushes_115 ?_
    refine r_iload_n dX3_pushes_116 rfl ?_
    refine rg_ias0 dX3_pushes_117 (by omega) ?_
    refine r_aload_n dX3_pushes_118 rfl ?_
    refine r_getfield dX3_pushes_119 fl_X3_7_9 (JG_410 _ _ _) rfl ?_
    refine r_bipush dX3_pushes_122 kb_39 ?_
    refine r_aload_n dX3_pushes_124 rfl ?_
    refine r_iload_n dX3_pushes_125 rfl ?_
    refine r_invV dX3_pushes_126 (c_m_kind S (va_up (sp_push1 G p a) (36 + knd (G (4 + p))) a) r p (by omega) (by rw [up_ne _ _ (by omega), e4]; omega)) q1792 q1794 qs37 (JG_410 _ _ _) k9 pn_X3_kind mh_X3_kind rfl (by omega) (Nat.le_refl _) (Nat.le_refl _) (Nat.le_of_ble_eq_true rfl) (fun v126 h126 hq126 => ?_) (fun _ _ hq => hq.elim)
    obtain ⟨rfl, rfl⟩ := hq126
    rw [up_ne _ _ (by omega), e4]
    refine rn_iadd dX3_pushes_129 ?_
    refine r_iload_n dX3_pushes_130 rfl ?_
    refine rg_ias0 dX3_pushes_131 (by omega) ?_
    refine r_aload_n dX3_pushes_132 rfl ?_
    refine r_iload_n dX3_pushes_133 rfl ?_
    refine r_invV dX3_pushes_134 (c_m_done S _ r (nI a)) q1768 q1770 qs32 (JG_410 _ _ _) k9 pn_X3_done mh_X3_done rfl (by omega) (Nat.le_refl _) (Nat.le_refl _) (Nat.le_of_ble_eq_true rfl) (fun v134 h134 hq134 => ?_) (fun _ _ hq => hq.elim)
    obtain ⟨rfl, rfl⟩ := hq134
    refine r_ireturn dX3_pushes_137 rfl rfl ?_
    first | (rw [sp_push2, if_neg (by omega)] at kk; exact kk) | (rw [sp_push2, if_pos hc] at kk; exact kk)
theorem c_m_pushes {E : EV} (S : MS) (G : Nat → Nat) (r : MH) (x z : Int32) (hG : gOK G) : SM E yX3_pushes 2 [.ref 410, .int x, .int z] (JG S G r) 0 0 (fun o h' => o = some (.int (sp_pushes G x z).2.1) ∧ h' = JG (ss S 12 (nI (sp_pushes G x z).1)) (sp_pushes G x z).2.2 r) (fun _ _ => False) := by
  obtain ⟨hg0, hg1, hg2, hg3, hgp, hgr, hgw⟩ := id hG
  refine SM.of (cc := cX3_pushes) (nL := 4) (ret := (some .int)) (hh := []) (ls := [(0, .ref 410), (1, .int x), (2, .int z)]) pl_X3 (Or.inl ⟨rfl, q1783⟩) rfl q78 rfl rfl ?_
  refine r_aload_n dX3_pushes_0 rfl ?_
  refine r_iload_n dX3_pushes_1 rfl ?_
  refine r_invV dX3_pushes_2 (c_m_isPendulum S G r x hg2) q1784 q1786 qs35 (JG_410 _ _ _) k9 pn_X3_isPendulum mh_X3_isPendulum rfl (by omega) (Nat.le_refl _) (Nat.le_refl _) (Nat.le_of_ble_eq_true rfl) (fun v2 h2 hq2 => ?_) (fun _ _ hq => hq.elim)
  obtain ⟨rfl, rfl⟩ := hq2
  refine rb_if_ne (tgt := 14) dX3_pushes_5 rfl  (fun c5 => ?_) (fun c5 => ?_)
  · obtain ⟨p, hp, rfl⟩ := ix_of (by omega) c5
    have hg_p := hgp p (by omega)
    refine r_iload_n dX3_pushes_14 rfl ?_
    refine r_iconst dX3_pushes_15 ki_1 ?_
    refine r_bipush dX3_pushes_16 kb_60 ?_
    refine r_invS dX3_pushes_18 (c_m_in (JG S G r) z (nI 1) (nI 60)) q1761 q1762 pn_X3_in mh_X3_in rfl (by omega) (Nat.le_refl _) (Nat.le_refl _) (Nat.le_of_ble_eq_true rfl) (fun v18 h18 hq18 => ?_) (fun _ _ hq => hq.elim)
    obtain ⟨rfl, rfl⟩ := hq18
    refine rb_if_ne (tgt := 30) dX3_pushes_21 rfl  (fun c21 => ?_) (fun c21 => ?_)
    · obtain ⟨w, hw1, hw2, rfl⟩ := rg_of (by decide) c21.1 c21.2 (by decide)
      refine r_aload_n dX3_pushes_30 rfl ?_
      refine r_getfield dX3_pushes_31 fl_X3_7_9 (JG_410 _ _ _) rfl ?_
      refine r_bipush dX3_pushes_34 kb_12 ?_
      refine r_iload_n dX3_pushes_36 rfl ?_
      refine rn_iadd dX3_pushes_37 ?_
      refine rn_iaload dX3_pushes_38 (JG_411 _ _ _) (by omega) (by omega) ?_
      refine r_iload_n dX3_pushes_39 rfl ?_
      refine rn_iadd dX3_pushes_40 ?_
      refine r_istore_n (ls' := [(0, _), (1, _), (2, _), (3, _)]) dX3_pushes_41 rfl rfl ?_
      refine r_iload_n dX3_pushes_42 rfl ?_
      refine r_bipush dX3_pushes_43 kb_60 ?_
      refine rn_icmp_le (tgt := 54) dX3_pushes_45 rfl (by omega) (by omega) (fun c45 => ?_) (fun c45 => ?_)
      · refine r_aload_n dX3_pushes_54 rfl ?_
        refine r_iload_n dX3_pushes_55 rfl ?_
        refine r_invV dX3_pushes_56 (c_m_rests S G r p (by omega) (by omega)) q1788 q1790 qs36 (JG_410 _ _ _) k9 pn_X3_rests mh_X3_rests rfl (by omega) (Nat.le_refl _) (Nat.le_refl _) (Nat.le_of_ble_eq_true rfl) (fun v56 h56 hq56 => ?_) (fun _ _ hq => hq.elim)
        obtain ⟨rfl, rfl⟩ := hq56
        refine rb_if_eq (tgt := 77) dX3_pushes_59 rfl  (fun c59 => ?_) (fun c59 => ?_)
        · refine r_aload_n dX3_pushes_77 rfl ?_
          refine r_getfield dX3_pushes_78 fl_X3_7_9 (JG_410 _ _ _) rfl ?_
          refine r_bipush dX3_pushes_81 kb_12 ?_
          refine r_iload_n dX3_pushes_83 rfl ?_
          refine rn_iadd dX3_pushes_84 ?_
          refine r_iload_n dX3_pushes_85 rfl ?_
          refine rg_ias0 dX3_pushes_86 (by omega) ?_
          refine r_heap (h' := JG S (sp_push1 G p (G (12 + p) + w)) r) (by rw [sp_push1]; first | rw [if_pos c59] | rw [if_neg c59]) ?_
          exact l_m_push87 (by decide) S G r p w (G (12 + p) + w) (nI p) (nI w) hG hp c45 (by rw [sp_pushes, if_pos c5, if_pos c21, nI_clamp (show p < 2 ^ 31 by omega), nI_clamp (show w < 2 ^ 31 by omega), if_neg (by omega)]; exact ⟨rfl, rfl⟩)
        · refine r_aload_n dX3_pushes_62 rfl ?_
          refine r_getfield dX3_pushes_63 fl_X3_7_9 (JG_410 _ _ _) rfl ?_
          refine r_bipush dX3_pushes_66 kb_20 ?_
          refine r_iload_n dX3_pushes_68 rfl ?_
          refine rn_iadd dX3_pushes_69 ?_
          refine r_aload_n dX3_pushes_70 rfl ?_
          refine r_getfield dX3_pushes_71 fl_X3_7_9 (JG_410 _ _ _) rfl ?_
          refine r_iconst dX3_pushes_74 ki_0 ?_
          refine rn_iaload dX3_pushes_75 (JG_411 _ _ _) (by omega) (by omega) ?_
          refine rg_ias0 dX3_pushes_76 (by omega) ?_
          refine r_aload_n dX3_pushes_77 rfl ?_
          refine r_getfield dX3_pushes_78 fl_X3_7_9 (JG_410 _ _ _) rfl ?_
          refine r_bipush dX3_pushes_81 kb_12 ?_
          refine r_iload_n dX3_pushes_83 rfl ?_
          refine rn_iadd dX3_pushes_84 ?_
          refine r_iload_n dX3_pushes_85 rfl ?_
          refine rg_ias0 dX3_pushes_86 (by omega) ?_
          refine r_heap (h' := JG S (sp_push1 G p (G (12 + p) + w)) r) (by rw [sp_push1]; first | rw [if_pos c59] | rw [if_neg c59]) ?_
          exact l_m_push87 (by decide) S G r p w (G (12 + p) + w) (nI p) (nI w) hG hp c45 (by rw [sp_pushes, if_pos c5, if_pos c21, nI_clamp (show p < 2 ^ 31 by omega), nI_clamp (show w < 2 ^ 31 by omega), if_neg (by omega)]; exact ⟨rfl, rfl⟩)
      · refine r_aload_n dX3_pushes_48 rfl ?_
        refine r_iconst dX3_pushes_49 ki_3 ?_
        refine r_invV dX3_pushes_50 (c_m_fails S G r (nI 3)) q1764 q1766 qs31 (JG_410 _ _ _) k9 pn_X3_fails mh_X3_fails rfl (by omega) (Nat.le_refl _) (Nat.le_refl _) (Nat.le_of_ble_eq_true rfl) (fun v50 h50 hq50 => ?_) (fun _ _ hq => hq.elim)
        obtain ⟨rfl, rfl⟩ := hq50
        refine r_ireturn dX3_pushes_53 rfl rfl ?_
        rw [sp_pushes, if_pos c5, if_pos c21, nI_clamp (show p < 2 ^ 31 by omega), nI_clamp (show w < 2 ^ 31 by omega), if_pos c45]
        exact ⟨rfl, rfl⟩
    · refine r_aload_n dX3_pushes_24 rfl ?_
      refine r_iconst dX3_pushes_25 ki_2 ?_
      refine r_invV dX3_pushes_26 (c_m_fails S G r (nI 2)) q1764 q1766 qs31 (JG_410 _ _ _) k9 pn_X3_fails mh_X3_fails rfl (by omega) (Nat.le_refl _) (Nat.le_refl _) (Nat.le_of_ble_eq_true rfl) (fun v26 h26 hq26 => ?_) (fun _ _ hq => hq.elim)
      obtain ⟨rfl, rfl⟩ := hq26
      refine r_ireturn dX3_pushes_29 rfl rfl ?_
      rw [sp_pushes, if_pos c5, if_neg c21]
      exact ⟨rfl, rfl⟩
  · refine r_aload_n dX3_pushes_8 rfl ?_
    refine r_iconst dX3_pushes_9 ki_1 ?_
    refine r_invV dX3_pushes_10 (c_m_fails S G r (nI 1)) q1764 q1766 qs31 (JG_410 _ _ _) k9 pn_X3_fails mh_X3_fails rfl (by omega) (Nat.le_refl _) (Nat.le_refl _) (Nat.le_of_ble_eq_true rfl) (fun v10 h10 hq10 => ?_) (fun _ _ hq => hq.elim)
    obtain ⟨rfl, rfl⟩ := hq10
    refine r_ireturn dX3_pushes_13 rfl rfl ?_
    rw [sp_pushes, if_neg c5]
    exact ⟨rfl, rfl⟩
theorem c_m_catches {E : EV} (S : MS) (G : Nat → Nat) (r : MH) (x : Int32) (hG : gOK G) : SM E yX3_catches 2 [.ref 410, .int x] (JG S G r) 0 0 (fun o h' => o = some (.int (sp_catches G x).2.1) ∧ h' = JG (ss S 12 (nI (sp_catches G x).1)) (sp_catches G x).2.2 r) (fun _ _ => False) := by
  obtain ⟨hg0, hg1, hg2, hg3, hgp, hgr, hgw⟩ := id hG
  refine SM.of (cc := cX3_catches) (nL := 3) (ret := (some .int)) (hh := []) (ls := [(0, .ref 410), (1, .int x)]) pl_X3 (Or.inl ⟨rfl, q1803⟩) rfl q78 rfl rfl ?_
  refine r_aload_n dX3_catches_0 rfl ?_
  refine r_iload_n dX3_catches_1 rfl ?_
  refine r_invV dX3_catches_2 (c_m_isPendulum S G r x hg2) q1784 q1786 qs35 (JG_410 _ _ _) k9 pn_X3_isPendulum mh_X3_isPendulum rfl (by omega) (Nat.le_refl _) (Nat.le_refl _) (Nat.le_of_ble_eq_true rfl) (fun v2 h2 hq2 => ?_) (fun _ _ hq => hq.elim)
  obtain ⟨rfl, rfl⟩ := hq2
  refine rb_if_ne (tgt := 14) dX3_catches_5 rfl  (fun c5 => ?_) (fun c5 => ?_)
  · obtain ⟨p, hp, rfl⟩ := ix_of (by omega) c5
    have hg_p := hgp p (by omega)
    refine r_aload_n dX3_catches_14 rfl ?_
    refine r_iload_n dX3_catches_15 rfl ?_
    refine r_invV dX3_catches_16 (c_m_rests S G r p (by omega) (by omega)) q1788 q1790 qs36 (JG_410 _ _ _) k9 pn_X3_rests mh_X3_rests rfl (by omega) (Nat.le_refl _) (Nat.le_refl _) (Nat.le_of_ble_eq_true rfl) (fun v16 h16 hq16 => ?_) (fun _ _ hq => hq.elim)
    obtain ⟨rfl, rfl⟩ := hq16
    refine rb_if_eq (tgt := 28) dX3_catches_19 rfl  (fun c19 => ?_) (fun c19 => ?_)
    · refine r_aload_n dX3_catches_28 rfl ?_
      refine r_getfield dX3_catches_29 fl_X3_7_9 (JG_410 _ _ _) rfl ?_
      refine r_bipush dX3_catches_32 kb_12 ?_
      refine r_iload_n dX3_catches_34 rfl ?_
      refine rn_iadd dX3_catches_35 ?_
      refine rn_iaload dX3_catches_36 (JG_411 _ _ _) (by omega) (by omega) ?_
      refine r_istore_n (ls' := [(0, _), (1, _), (2, _)]) dX3_catches_37 rfl rfl ?_
      refine r_aload_n dX3_catches_38 rfl ?_
      refine r_getfield dX3_catches_39 fl_X3_7_9 (JG_410 _ _ _) rfl ?_
      refine r_bipush dX3_catches_42 kb_12 ?_
      refine r_iload_n dX3_catches_44 rfl ?_
      refine rn_iadd dX3_catches_45 ?_
      refine r_iconst dX3_catches_46 ki_0 ?_
      refine rg_ias0 dX3_catches_47 (by omega) ?_
      refine r_aload_n dX3_catches_48 rfl ?_
      refine r_iload_n dX3_catches_49 rfl ?_
      refine r_invV dX3_catches_50 (c_m_done S _ r (nI (G (12 + p)))) q1768 q1770 qs32 (JG_410 _ _ _) k9 pn_X3_done mh_X3_done rfl (by omega) (Nat.le_refl _) (Nat.le_refl _) (Nat.le_of_ble_eq_true rfl) (fun v50 h50 hq50 => ?_) (fun _ _ hq => hq.elim)
      obtain ⟨rfl, rfl⟩ := hq50
      refine r_ireturn dX3_catches_53 rfl rfl ?_
      rw [sp_catches, if_pos c5, nI_clamp (show p < 2 ^ 31 by omega), if_neg c19]
      exact ⟨rfl, rfl⟩
    · refine r_aload_n dX3_catches_22 rfl ?_
      refine r_iconst dX3_catches_23 ki_2 ?_
      refine r_invV dX3_catches_24 (c_m_fails S G r (nI 2)) q1764 q1766 qs31 (JG_410 _ _ _) k9 pn_X3_fails mh_X3_fails rfl (by omega) (Nat.le_refl _) (Nat.le_refl _) (Nat.le_of_ble_eq_true rfl) (fun v24 h24 hq24 => ?_) (fun _ _ hq => hq.elim)
      obtain ⟨rfl, rfl⟩ := hq24
      refine r_ireturn dX3_catches_27 rfl rfl ?_
      rw [sp_catches, if_pos c5, nI_clamp (show p < 2 ^ 31 by omega), if_pos c19]
      exact ⟨rfl, rfl⟩
  · refine r_aload_n dX3_catches_8 rfl ?_
    refine r_iconst dX3_catches_9 ki_1 ?_
    refine r_invV dX3_catches_10 (c_m_fails S G r (nI 1)) q1764 q1766 qs31 (JG_410 _ _ _) k9 pn_X3_fails mh_X3_fails rfl (by omega) (Nat.le_refl _) (Nat.le_refl _) (Nat.le_of_ble_eq_true rfl) (fun v10 h10 hq10 => ?_) (fun _ _ hq => hq.elim)
    obtain ⟨rfl, rfl⟩ := hq10
    refine r_ireturn dX3_catches_13 rfl rfl ?_
    rw [sp_catches, if_neg c5]
    exact ⟨rfl, rfl⟩
theorem c_m_rubs {E : EV} (S : MS) (G : Nat → Nat) (r : MH) (x : Int32) (hG : gOK G) : SM E yX3_rubs 1 [.ref 410, .int x] (JG S G r) 0 0 (fun o h' => o = some (.int (sp_rubs G x).2.1) ∧ h' = JG (ss S 12 (nI (sp_rubs G x).1)) (sp_rubs G x).2.2 r) (fun _ _ => False) := by
  obtain ⟨hg0, hg1, hg2, hg3, hgp, hgr, hgw⟩ := id hG
  refine SM.of (cc := cX3_rubs) (nL := 3) (ret := (some .int)) (hh := []) (ls := [(0, .ref 410), (1, .int x)]) pl_X3 (Or.inl ⟨rfl, q1811⟩) rfl q78 rfl rfl ?_
  refine r_iload_n dX3_rubs_0 rfl ?_
  refine r_iconst dX3_rubs_1 ki_0 ?_
  refine r_bipush dX3_rubs_2 kb_30 ?_
  refine r_invS dX3_rubs_4 (c_m_in (JG S G r) x (nI 0) (nI 30)) q1761 q1762 pn_X3_in mh_X3_in rfl (by omega) (Nat.le_refl _) (Nat.le_refl _) (Nat.le_of_ble_eq_true rfl) (fun v4 h4 hq4 => ?_) (fun _ _ hq => hq.elim)
  obtain ⟨rfl, rfl⟩ := hq4
  refine rb_if_ne (tgt := 16) dX3_rubs_7 rfl  (fun c7 => ?_) (fun c7 => ?_)
  · obtain ⟨w, hw1, hw2, rfl⟩ := rg_of (by decide) c7.1 c7.2 (by decide)
    refine r_aload_n dX3_rubs_16 rfl ?_
    refine r_getfield dX3_rubs_17 fl_X3_7_9 (JG_410 _ _ _) rfl ?_
    refine r_iconst dX3_rubs_20 ki_1 ?_
    refine rn_iaload dX3_rubs_21 (JG_411 _ _ _) (by omega) (by omega) ?_
    refine r_istore_n (ls' := [(0, _), (1, _), (2, _)]) dX3_rubs_22 rfl rfl ?_
    refine r_aload_n dX3_rubs_23 rfl ?_
    refine r_getfield dX3_rubs_24 fl_X3_7_9 (JG_410 _ _ _) rfl ?_
    refine r_iconst dX3_rubs_27 ki_1 ?_
    refine r_iload_n dX3_rubs_28 rfl ?_
    refine rg_ias0 dX3_rubs_29 (by omega) ?_
    refine r_aload_n dX3_rubs_30 rfl ?_
    refine r_iload_n dX3_rubs_31 rfl ?_
    refine r_invV dX3_rubs_32 (c_m_done S _ r (nI (G 1))) q1768 q1770 qs32 (JG_410 _ _ _) k9 pn_X3_done mh_X3_done rfl (by omega) (Nat.le_refl _) (Nat.le_refl _) (Nat.le_of_ble_eq_true rfl) (fun v32 h32 hq32 => ?_) (fun _ _ hq => hq.elim)
    obtain ⟨rfl, rfl⟩ := hq32
    refine r_ireturn dX3_rubs_35 rfl rfl ?_
    rw [sp_rubs, if_pos c7, nI_clamp (show w < 2 ^ 31 by omega)]
    exact ⟨rfl, rfl⟩
  · refine r_aload_n dX3_rubs_10 rfl ?_
    refine r_iconst dX3_rubs_11 ki_1 ?_
    refine r_invV dX3_rubs_12 (c_m_fails S G r (nI 1)) q1764 q1766 qs31 (JG_410 _ _ _) k9 pn_X3_fails mh_X3_fails rfl (by omega) (Nat.le_refl _) (Nat.le_refl _) (Nat.le_of_ble_eq_true rfl) (fun v12 h12 hq12 => ?_) (fun _ _ hq => hq.elim)
    obtain ⟨rfl, rfl⟩ := hq12
    refine r_ireturn dX3_rubs_15 rfl rfl ?_
    rw [sp_rubs, if_neg c7]
    exact ⟨rfl, rfl⟩
theorem l_m_tick {E : EV} {QR : Option Value → MH → Prop} {QX : Nat → MH → Prop} {d kc ks : Nat} (S : MS) (G : Nat → Nat) (r : MH) (hT : gT G 0) (kk : QR (some (.int (nI (tkN G (G 2)).2))) (JG S (tkN G (G 2)).1 r)) (hd0 : 2 ≤ d) : ∀ (n0 k : Nat), k ≤ G 2 → 9 ≤ n0 + k → SW E yX3_passesTick cX3_passesTick 3 (some .int) [] QR QX d kc ks (JG S (tkN G k).1 r) 14 [(0, .ref 410), (1, .int (nI (tkN G k).2)), (2, .int (nI k))] [] := by
  intro n0
  induction n0 with
  | zero => intro k h1 h2; have := hT.2.2.1; omega
  | succ n0 ih =>
    intro k h1 h2
    obtain ⟨hg, e2⟩ := gT_N hT k h1
    have hcn := tkN_cnt G k
    have h28 := hT.2.2.1
    obtain ⟨hg0, hg1, hg2, hg3, hgp, hgr, hgw⟩ := id hg
    generalize hGk : (tkN G k).1 = Gk at hg e2 hg0 hg1 hg2 hg3 hgp hgr hgw ⊢
    generalize hck : (tkN G k).2 = ck at hcn ⊢
    refine r_iload_n dX3_passesTick_14 rfl ?_
    refine r_aload_n dX3_passesTick_15 rfl ?_
    refine r_getfield dX3_passesTick_16 fl_X3_7_9 (JG_410 _ _ _) rfl ?_
    refine r_iconst dX3_passesTick_19 ki_2 ?_
    refine rn_iaload dX3_passesTick_20 (JG_411 _ _ _) (by omega) (by omega) ?_
    rw [e2]
    refine rn_icmp_ge (tgt := 101) dX3_passesTick_21 rfl (by omega) (by omega) (fun hc => ?_) (fun hc => ?_)
    · refine r_iload_n dX3_passesTick_101 rfl ?_
      refine r_ireturn dX3_passesTick_102 rfl rfl ?_
      have ek : k = G 2 := by omega
      rw [← ek, hGk, hck] at kk
      exact kk
    · have hg_k := hgp k (by omega)
      have hpe := per_ge (hg_k.2.2.2.2.2.1 (by omega))
      have hpl := per_le (Gk (4 + k))
      refine r_aload_n dX3_passesTick_24 rfl ?_
      refine r_iload_n dX3_passesTick_25 rfl ?_
      refine r_invV dX3_passesTick_26 (c_m_rests S Gk r k (by omega) (by omega)) q1788 q1790 qs36 (JG_410 _ _ _) k9 pn_X3_rests mh_X3_rests rfl (by omega) (Nat.le_refl _) (Nat.le_refl _) (Nat.le_of_ble_eq_true rfl) (fun v26 h26 hq26 => ?_) (fun _ _ hq => hq.elim)
      obtain ⟨rfl, rfl⟩ := hq26
      refine rb_if_ne (tgt := 95) dX3_passesTick_29 rfl  (fun h29 => ?_) (fun h29 => ?_)
      · first
          | (have e1 : tk1 Gk k = true := decide_eq_true ⟨h29, h54⟩
             refine rn_iinc (n := 1) (ls' := [(0, _), (1, _), (2, _)]) dX3_passesTick_95 rfl rfl rfl (r_goto (tgt := 14) dX3_passesTick_98 rfl ?_)
             have en : tkN G (k + 1) = (tkG Gk k, ck + 1) := by
               show (tkG (tkN G k).1 k, (tkN G k).2 + _) = _
               rw [hGk, hck, if_pos e1]
             have z := ih (k + 1) (by omega) (by omega)
             rw [en] at z
             refine r_heap (h' := JG S (tkG Gk k) r) (by rw [tkG, if_pos e1]) ?_
             exact z)
          | (have e1 : ¬ tk1 Gk k = true := fun q => by have q := of_decide_eq_true q; omega
             refine rn_iinc (n := 1) (ls' := [(0, _), (1, _), (2, _)]) dX3_passesTick_95 rfl rfl rfl (r_goto (tgt := 14) dX3_passesTick_98 rfl ?_)
             have en : tkN G (k + 1) = (Gk, ck) := by
               show (tkG (tkN G k).1 k, (tkN G k).2 + _) = _
               rw [hGk, hck, if_neg e1, tkG, if_neg e1]
               rfl
             have z := ih (k + 1) (by omega) (by omega)
             rw [en] at z
             exact z)
      · refine r_aload_n dX3_passesTick_32 rfl ?_
        refine r_getfield dX3_passesTick_33 fl_X3_7_9 (JG_410 _ _ _) rfl ?_
        refine r_iconst dX3_passesTick_36 ki_0 ?_
        refine rn_iaload dX3_passesTick_37 (JG_411 _ _ _) (by omega) (by omega) ?_
        refine r_aload_n dX3_passesTick_38 rfl ?_
        refine r_getfield dX3_passesTick_39 fl_X3_7_9 (JG_410 _ _ _) rfl ?_
        refine r_bipush dX3_passesTick_42 kb_20 ?_
        refine r_iload_n dX3_passesTick_44 rfl ?_
        refine rn_iadd dX3_passesTick_45 ?_
        refine rn_iaload dX3_passesTick_46 (JG_411 _ _ _) (by omega) (by omega) ?_
        refine rn_isub dX3_passesTick_47 (by omega) ?_
        refine r_aload_n dX3_passesTick_48 rfl ?_
        refine r_iload_n dX3_passesTick_49 rfl ?_
        refine r_invV dX3_passesTick_50 (c_m_period S Gk r k (by omega) (by omega)) q1824 q1826 qs42 (JG_410 _ _ _) k9 pn_X3_period mh_X3_period rfl (by omega) (Nat.le_refl _) (Nat.le_refl _) (Nat.le_of_ble_eq_true rfl) (fun v50 h50 hq50 => ?_) (fun _ _ hq => hq.elim)
        obtain ⟨rfl, rfl⟩ := hq50
        refine rn_irem dX3_passesTick_53 (by omega) (by omega) (by omega) ?_
        have hmod := Nat.mod_lt (Gk 0 - Gk (20 + k)) (show 0 < per (Gk (4 + k)) by omega)
        refine rn_if_ne (tgt := 95) dX3_passesTick_54 rfl (by omega) (fun h54 => ?_) (fun h54 => ?_)
        · first
            | (have e1 : tk1 Gk k = true := decide_eq_true ⟨h29, h54⟩
               refine rn_iinc (n := 1) (ls' := [(0, _), (1, _), (2, _)]) dX3_passesTick_95 rfl rfl rfl (r_goto (tgt := 14) dX3_passesTick_98 rfl ?_)
               have en : tkN G (k + 1) = (tkG Gk k, ck + 1) := by
                 show (tkG (tkN G k).1 k, (tkN G k).2 + _) = _
                 rw [hGk, hck, if_pos e1]
               have z := ih (k + 1) (by omega) (by omega)
               rw [en] at z
               refine r_heap (h' := JG S (tkG Gk k) r) (by rw [tkG, if_pos e1]) ?_
               exact z)
            | (have e1 : ¬ tk1 Gk k = true := fun q => by have q := of_decide_eq_true q; omega
               refine rn_iinc (n := 1) (ls' := [(0, _), (1, _), (2, _)]) dX3_passesTick_95 rfl rfl rfl (r_goto (tgt := 14) dX3_passesTick_98 rfl ?_)
               have en : tkN G (k + 1) = (Gk, ck) := by
                 show (tkG (tkN G k).1 k, (tkN G k).2 + _) = _
                 rw [hGk, hck, if_neg e1, tkG, if_neg e1]
                 rfl
               have z := ih (k + 1) (by omega) (by omega)
               rw [en] at z
               exact z)
        · refine r_aload_n dX3_passesTick_57 rfl ?_
          refine r_getfield dX3_passesTick_58 fl_X3_7_9 (JG_410 _ _ _) rfl ?_
          refine r_bipush dX3_passesTick_61 kb_12 ?_
          refine r_iload_n dX3_passesTick_63 rfl ?_
          refine rn_iadd dX3_passesTick_64 ?_
          refine r_aload_n dX3_passesTick_65 rfl ?_
          refine r_aload_n dX3_passesTick_66 rfl ?_
          refine r_getfield dX3_passesTick_67 fl_X3_7_9 (JG_410 _ _ _) rfl ?_
          refine r_bipush dX3_passesTick_70 kb_12 ?_
          refine r_iload_n dX3_passesTick_72 rfl ?_
          refine rn_iadd dX3_passesTick_73 ?_
          refine rn_iaload dX3_passesTick_74 (JG_411 _ _ _) (by omega) (by omega) ?_
          refine r_invV dX3_passesTick_75 (c_m_behindSwing S Gk r (Gk (12 + k)) (by omega) (by omega) (by omega)) q1828 q1830 qs43 (JG_410 _ _ _) k9 pn_X3_behindSwing mh_X3_behindSwing rfl (by omega) (Nat.le_refl _) (Nat.le_refl _) (Nat.le_of_ble_eq_true rfl) (fun v75 h75 hq75 => ?_) (fun _ _ hq => hq.elim)
          obtain ⟨rfl, rfl⟩ := hq75
          refine rg_ias0 dX3_passesTick_78 (by omega) ?_
          refine r_aload_n dX3_passesTick_79 rfl ?_
          refine r_getfield dX3_passesTick_80 fl_X3_7_9 (JG_410 _ _ _) rfl ?_
          refine r_bipush dX3_passesTick_83 kb_28 ?_
          refine r_iload_n dX3_passesTick_85 rfl ?_
          refine rn_iadd dX3_passesTick_86 ?_
          refine r_dup2 dX3_passesTick_87 rfl rfl ?_
          refine rn_iaload dX3_passesTick_88 (JG_411 _ _ _) (by omega) (by omega) ?_
          rw [up_ne _ _ (by omega)]
          refine r_iconst dX3_passesTick_89 ki_1 ?_
          refine rn_iadd dX3_passesTick_90 ?_
          refine rg_ias0 dX3_passesTick_91 (by omega) ?_
          refine rn_iinc (n := 1) (ls' := [(0, _), (1, _), (2, _)]) dX3_passesTick_92 rfl rfl rfl ?_
          first
            | (have e1 : tk1 Gk k = true := decide_eq_true ⟨h29, h54⟩
               refine rn_iinc (n := 1) (ls' := [(0, _), (1, _), (2, _)]) dX3_passesTick_95 rfl rfl rfl (r_goto (tgt := 14) dX3_passesTick_98 rfl ?_)
               have en : tkN G (k + 1) = (tkG Gk k, ck + 1) := by
                 show (tkG (tkN G k).1 k, (tkN G k).2 + _) = _
                 rw [hGk, hck, if_pos e1]
               have z := ih (k + 1) (by omega) (by omega)
               rw [en] at z
               refine r_heap (h' := JG S (tkG Gk k) r) (by rw [tkG, if_pos e1]) ?_
               exact z)
            | (have e1 : ¬ tk1 Gk k = true := fun q => by have q := of_decide_eq_true q; omega
               refine rn_iinc (n := 1) (ls' := [(0, _), (1, _), (2, _)]) dX3_passesTick_95 rfl rfl rfl (r_goto (tgt := 14) dX3_passesTick_98 rfl ?_)
               have en : tkN G (k + 1) = (Gk, ck) := by
                 show (tkG (tkN G k).1 k, (tkN G k).2 + _) = _
                 rw [hGk, hck, if_neg e1, tkG, if_neg e1]
                 rfl
               have z := ih (k + 1) (by omega) (by omega)
               rw [en] at z
               exact z)
theorem c_m_passesTick {E : EV} (S : MS) (G : Nat → Nat) (r : MH) (hG : gOK G) : SM E yX3_passesTick 2 [.ref 410] (JG S G r) 0 0 (fun o h' => o = some (.int (nI (tick1 G).2)) ∧ h' = JG S (tick1 G).1 r) (fun _ _ => False) := by
  obtain ⟨hg0, hg1, hg2, hg3, hgp, hgr, hgw⟩ := id hG
  refine SM.of (cc := cX3_passesTick) (nL := 3) (ret := (some .int)) (hh := []) (ls := [(0, .ref 410)]) pl_X3 (Or.inl ⟨rfl, q1823⟩) rfl q78 rfl rfl ?_
  refine r_aload_n dX3_passesTick_0 rfl ?_
  refine r_getfield dX3_passesTick_1 fl_X3_7_9 (JG_410 _ _ _) rfl ?_
  refine r_iconst dX3_passesTick_4 ki_0 ?_
  refine r_dup2 dX3_passesTick_5 rfl rfl ?_
  refine rn_iaload dX3_passesTick_6 (JG_411 _ _ _) (by omega) (by omega) ?_
  refine r_iconst dX3_passesTick_7 ki_1 ?_
  refine rn_iadd dX3_passesTick_8 ?_
  refine rg_ias0 dX3_passesTick_9 (by omega) ?_
  refine r_iconst dX3_passesTick_10 ki_0 ?_
  refine r_istore_n (ls' := [(0, _), (1, _)]) dX3_passesTick_11 rfl rfl ?_
  refine r_iconst dX3_passesTick_12 ki_0 ?_
  refine r_istore_n (ls' := [(0, _), (1, _), (2, _)]) dX3_passesTick_13 rfl rfl ?_
  have e2 : va_up G 0 (G 0 + 1) 2 = G 2 := up_ne _ _ (by decide)
  exact l_m_tick S (va_up G 0 (G 0 + 1)) r (gT_0 hG) (by rw [e2]; exact ⟨rfl, rfl⟩) (by decide) 9 0 (Nat.zero_le _) (by decide)
theorem l_m_passes {E : EV} {QR : Option Value → MH → Prop} {QX : Nat → MH → Prop} {d kc ks : Nat} (S : MS) (G : Nat → Nat) (r : MH) (x : Nat) (hx : x ≤ 500) {b0 : Nat} (hB : gB G b0) (hb0 : b0 < 8000000) (kk : QR (some (.int (nI (ticks G x).2))) (JG (ss S 12 (nI 0)) (ticks G x).1 r)) (hd0 : 3 ≤ d) : ∀ (n0 k : Nat), k ≤ x → 501 ≤ n0 + k → SW E yX3_passes cX3_passes 4 (some .int) [] QR QX d kc ks (JG S (ticks G k).1 r) 21 [(0, .ref 410), (1, .int (nI x)), (2, .int (nI (ticks G k).2)), (3, .int (nI k))] [] := by
  intro n0
  induction n0 with
  | zero => intro k h1 h2; omega
  | succ n0 ih =>
    intro k h1 h2
    obtain ⟨hg, hcn, -⟩ := gB_ticks hB k (by omega)
    have hgo := gB_ok hg (by omega)
    have ht := (gB_tick hg (by omega)).2.2.2
    refine r_iload_n dX3_passes_21 rfl ?_
    refine r_iload_n dX3_passes_22 rfl ?_
    refine rn_icmp_ge (tgt := 39) dX3_passes_23 rfl (by omega) (by omega) (fun hc => ?_) (fun hc => ?_)
    · refine r_aload_n dX3_passes_39 rfl ?_
      refine r_iload_n dX3_passes_40 rfl ?_
      refine r_invV dX3_passes_41 (c_m_done S _ r (nI (ticks G k).2)) q1768 q1770 qs32 (JG_410 _ _ _) k9 pn_X3_done mh_X3_done rfl (by omega) (Nat.le_refl _) (Nat.le_refl _) (Nat.le_of_ble_eq_true rfl) (fun v41 h41 hq41 => ?_) (fun _ _ hq => hq.elim)
      obtain ⟨rfl, rfl⟩ := hq41
      refine r_ireturn dX3_passes_44 rfl rfl ?_
      have ek : k = x := by omega
      rw [← ek] at kk
      exact kk
    · refine r_iload_n dX3_passes_26 rfl ?_
      refine r_aload_n dX3_passes_27 rfl ?_
      refine r_invV dX3_passes_28 (c_m_passesTick S (ticks G k).1 r hgo) q1820 q1822 qs41 (JG_410 _ _ _) k9 pn_X3_passesTick mh_X3_passesTick rfl (by omega) (Nat.le_refl _) (Nat.le_refl _) (Nat.le_of_ble_eq_true rfl) (fun v28 h28 hq28 => ?_) (fun _ _ hq => hq.elim)
      obtain ⟨rfl, rfl⟩ := hq28
      refine rn_iadd dX3_passes_31 ?_
      refine r_istore_n (ls' := [(0, _), (1, _), (2, _), (3, _)]) dX3_passes_32 rfl rfl ?_
      refine rn_iinc (n := 1) (ls' := [(0, _), (1, _), (2, _), (3, _)]) dX3_passes_33 rfl rfl rfl ?_
      refine r_goto (tgt := 21) dX3_passes_36 rfl ?_
      exact ih (k + 1) (by omega) (by omega)
theorem c_m_passes {E : EV} (S : MS) (G : Nat → Nat) (r : MH) (x : Int32) {b0 : Nat} (hB : gB G b0) (hb0 : b0 < 8000000) : SM E yX3_passes 3 [.ref 410, .int x] (JG S G r) 0 0 (fun o h' => o = some (.int (sp_passes G x).2.1) ∧ h' = JG (ss S 12 (nI (sp_passes G x).1)) (sp_passes G x).2.2 r) (fun _ _ => False) := by
  refine SM.of (cc := cX3_passes) (nL := 4) (ret := (some .int)) (hh := []) (ls := [(0, .ref 410), (1, .int x)]) pl_X3 (Or.inl ⟨rfl, q1819⟩) rfl q78 rfl rfl ?_
  refine r_iload_n dX3_passes_0 rfl ?_
  refine r_iconst dX3_passes_1 ki_1 ?_
  refine r_sipush dX3_passes_2 ks_500 ?_
  refine r_invS dX3_passes_5 (c_m_in (JG S G r) x (nI 1) (nI 500)) q1761 q1762 pn_X3_in mh_X3_in rfl (by omega) (Nat.le_refl _) (Nat.le_refl _) (Nat.le_of_ble_eq_true rfl) (fun v5 h5 hq5 => ?_) (fun _ _ hq => hq.elim)
  obtain ⟨rfl, rfl⟩ := hq5
  refine rb_if_ne (tgt := 17) dX3_passes_8 rfl  (fun c8 => ?_) (fun c8 => ?_)
  · obtain ⟨w, hw1, hw2, rfl⟩ := rg_of (by decide) c8.1 c8.2 (by decide)
    refine r_iconst dX3_passes_17 ki_0 ?_
    refine r_istore_n (ls' := [(0, _), (1, _), (2, _)]) dX3_passes_18 rfl rfl ?_
    refine r_iconst dX3_passes_19 ki_0 ?_
    refine r_istore_n (ls' := [(0, _), (1, _), (2, _), (3, _)]) dX3_passes_20 rfl rfl ?_
    exact l_m_passes S G r w hw2 hB hb0 (by rw [sp_passes, if_pos c8, nI_clamp (by omega)]; exact ⟨rfl, rfl⟩) (by decide) 501 0 (Nat.zero_le _) (by decide)
  · refine r_aload_n dX3_passes_11 rfl ?_
    refine r_iconst dX3_passes_12 ki_1 ?_
    refine r_invV dX3_passes_13 (c_m_fails S G r (nI 1)) q1764 q1766 qs31 (JG_410 _ _ _) k9 pn_X3_fails mh_X3_fails rfl (by omega) (Nat.le_refl _) (Nat.le_refl _) (Nat.le_of_ble_eq_true rfl) (fun v13 h13 hq13 => ?_) (fun _ _ hq => hq.elim)
    obtain ⟨rfl, rfl⟩ := hq13
    refine r_ireturn dX3_passes_16 rfl rfl ?_
    rw [sp_passes, if_neg c8]
    exact ⟨rfl, rfl⟩
