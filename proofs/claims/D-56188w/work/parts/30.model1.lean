set_option maxRecDepth 100000
theorem c_m_thrown {E : EV} (S : MS) (G : Nat → Nat) (r : MH) : SM E yX3_thrown 0 [.ref 410] (JG S G r) 0 0 (fun o h' => o = some (.int (S.1 12)) ∧ h' = JG S G r) (fun _ _ => False) := by
  refine SM.of (cc := cX3_thrown) (nL := 1) (ret := (some .int)) (hh := []) (ls := [(0, .ref 410)]) pl_X3 (Or.inl ⟨rfl, q1745⟩) rfl q78 rfl rfl ?_
  refine r_aload_n dX3_thrown_0 rfl ?_
  refine r_getfield dX3_thrown_1 fl_X3_42_9 (JG_410 _ _ _) rfl ?_
  refine r_ireturn dX3_thrown_4 rfl rfl ?_
  exact ⟨rfl, rfl⟩
theorem c_m_in {E : EV} (h : MH) (x a b : Int32) : SM E yX3_in 0 [.int x, .int a, .int b] h 0 0 (fun o h' => o = some (.int (bi (a ≤ x ∧ x ≤ b))) ∧ h' = h) (fun _ _ => False) := by
  refine SM.of (cc := cX3_in) (nL := 3) (ret := (some .boolean)) (hh := []) (ls := [(0, .int x), (1, .int a), (2, .int b)]) pl_X3 (Or.inl ⟨rfl, q1763⟩) rfl q78 rfl rfl ?_
  refine r_iload_n dX3_in_0 rfl ?_
  refine r_iload_n dX3_in_1 rfl ?_
  refine r_icmp_lt (tgt := 14) dX3_in_2 rfl (fun h1 => ?_) (fun h1 => ?_)
  · refine r_iconst dX3_in_14 ki_0 ?_
    exact r_ireturn dX3_in_15 rfl nz0 ⟨by rw [bi_f (fun z => absurd h1 (Int32.not_lt.mpr z.1))], rfl⟩
  · refine r_iload_n dX3_in_5 rfl ?_
    refine r_iload_n dX3_in_6 rfl ?_
    refine r_icmp_gt (tgt := 14) dX3_in_7 rfl (fun h2 => ?_) (fun h2 => ?_)
    · refine r_iconst dX3_in_14 ki_0 ?_
      exact r_ireturn dX3_in_15 rfl nz0 ⟨by rw [bi_f (fun z => absurd h2 (Int32.not_lt.mpr z.2))], rfl⟩
    · refine r_iconst dX3_in_10 ki_1 ?_
      refine r_goto (tgt := 15) dX3_in_11 rfl ?_
      exact r_ireturn dX3_in_15 rfl nz1 ⟨by rw [bi_t ⟨Int32.not_lt.mp h1, Int32.not_lt.mp h2⟩], rfl⟩
theorem c_m_done {E : EV} (S : MS) (G : Nat → Nat) (r : MH) (v : Int32) : SM E yX3_done 0 [.ref 410, .int v] (JG S G r) 0 0 (fun o h' => o = some (.int v) ∧ h' = JG (ss S 12 (nI 0)) G r) (fun _ _ => False) := by
  refine SM.of (cc := cX3_done) (nL := 2) (ret := (some .int)) (hh := []) (ls := [(0, .ref 410), (1, .int v)]) pl_X3 (Or.inl ⟨rfl, q1771⟩) rfl q78 rfl rfl ?_
  refine r_aload_n dX3_done_0 rfl ?_
  refine r_iconst dX3_done_1 ki_0 ?_
  refine rg_put12 dX3_done_2 fp_X3_42_9 rfl rfl ?_
  refine r_iload_n dX3_done_5 rfl ?_
  refine r_ireturn dX3_done_6 rfl rfl ?_
  exact ⟨rfl, rfl⟩
theorem c_m_fails {E : EV} (S : MS) (G : Nat → Nat) (r : MH) (v : Int32) : SM E yX3_fails 0 [.ref 410, .int v] (JG S G r) 0 0 (fun o h' => o = some (.int (nI 0)) ∧ h' = JG (ss S 12 v) G r) (fun _ _ => False) := by
  refine SM.of (cc := cX3_fails) (nL := 2) (ret := (some .int)) (hh := []) (ls := [(0, .ref 410), (1, .int v)]) pl_X3 (Or.inl ⟨rfl, q1767⟩) rfl q78 rfl rfl ?_
  refine r_aload_n dX3_fails_0 rfl ?_
  refine r_iload_n dX3_fails_1 rfl ?_
  refine rg_put12 dX3_fails_2 fp_X3_42_9 rfl rfl ?_
  refine r_iconst dX3_fails_5 ki_0 ?_
  refine r_ireturn dX3_fails_6 rfl rfl ?_
  exact ⟨rfl, rfl⟩
theorem cpy_up {α : Type} (f g : Nat → α) (a th k j : Nat) : va_up (va_cpy f g a th k) (th + k) (f (a + k)) j = va_cpy f g a th (k + 1) j := by
  unfold va_up va_cpy
  by_cases e : j = th + k
  · rw [if_pos e, if_pos (by omega)]
    congr 1
    omega
  · rw [if_neg e]
    by_cases e2 : th ≤ j ∧ j < th + k
    · rw [if_pos e2, if_pos (by omega)]
    · rw [if_neg e2, if_neg (by omega)]
theorem cpy_0 {α : Type} (f g : Nat → α) (a th : Nat) : va_cpy f g a th 0 = g := by
  funext j
  unfold va_cpy
  rw [if_neg (by omega)]
theorem l_m_copy {E : EV} {QR : Option Value → MH → Prop} {QX : Nat → MH → Prop} {d kc ks : Nat} (h : MH) (a b n m at0 th : Nat) (f g : Nat → Nat) (hab : a ≠ b) (hK : KK ≤ b) (ha : h.2 a = some (.inl (0, n, .inl fun j => nI (f j)))) (hb : h.2 b = some (.inl (0, m, .inl fun j => nI (g j)))) (h1 : at0 + 48 ≤ n) (h2 : th + 48 ≤ m) (hn : n < 2 ^ 30) (hm : m < 2 ^ 30) (kk : QR none (ph h b (.inl (0, m, .inl fun j => nI (va_cpy f g at0 th 48 j))))) : ∀ (n0 k : Nat), k ≤ 48 → 49 ≤ n0 + k → SW E yX3_copy cX3_copy 5 none [] QR QX d kc ks (ph h b (.inl (0, m, .inl fun j => nI (va_cpy f g at0 th k j)))) 3 [(0, .ref a), (1, .int (nI at0)), (2, .ref b), (3, .int (nI th)), (4, .int (nI k))] [] := by
  intro n0
  induction n0 with
  | zero => intro k hk1 hk2; omega
  | succ n0 ih =>
    intro k hk1 hk2
    refine r_iload dX3_copy_3 rfl ?_
    refine r_bipush dX3_copy_5 kb_48 ?_
    refine rn_icmp_ge (tgt := 28) dX3_copy_7 rfl (by omega) (by omega) (fun hc => ?_) (fun hc => ?_)
    · refine r_return dX3_copy_28 rfl ?_
      rw [show k = 48 by omega]
      exact kk
    · refine r_aload_n dX3_copy_10 rfl ?_
      refine r_iload_n dX3_copy_11 rfl ?_
      refine r_iload dX3_copy_12 rfl ?_
      refine rn_iadd dX3_copy_14 ?_
      refine r_aload_n dX3_copy_15 rfl ?_
      refine r_iload_n dX3_copy_16 rfl ?_
      refine r_iload dX3_copy_17 rfl ?_
      refine rn_iadd dX3_copy_19 ?_
      refine rn_iaload dX3_copy_20 (g := f) ((ph_ne _ _ hab).trans ha) (by omega) (by omega) ?_
      refine r_iastore dX3_copy_21 (ph_same _ _ _) hK (vp_in_nI (show th + k < m by omega) (by omega)) ?_
      rw [nI_clamp (show th + k < 2 ^ 31 by omega), nI_up, ph_ph]
      refine r_heap (h' := ph h b (.inl (0, m, .inl fun j => nI (va_cpy f g at0 th (k + 1) j)))) (congrArg (fun w => ph h b (.inl (0, m, .inl w))) (funext fun j => congrArg nI (cpy_up f g at0 th k j))) ?_
      refine rn_iinc (n := 1) (ls' := [(0, _), (1, _), (2, _), (3, _), (4, _)]) dX3_copy_22 rfl rfl rfl ?_
      refine r_goto (tgt := 3) dX3_copy_25 rfl ?_
      exact ih (k + 1) (by omega) (by omega)
theorem c_m_copy {E : EV} (h : MH) (a b n m at0 th : Nat) (f g : Nat → Nat) (hab : a ≠ b) (hK : KK ≤ b) (ha : h.2 a = some (.inl (0, n, .inl fun j => nI (f j)))) (hb : h.2 b = some (.inl (0, m, .inl fun j => nI (g j)))) (h1 : at0 + 48 ≤ n) (h2 : th + 48 ≤ m) (hn : n < 2 ^ 30) (hm : m < 2 ^ 30) : SM E yX3_copy 0 [.ref a, .int (nI at0), .ref b, .int (nI th)] h 0 0 (fun o h' => o = none ∧ h' = ph h b (.inl (0, m, .inl fun j => nI (va_cpy f g at0 th 48 j)))) (fun _ _ => False) := by
  refine SM.of (cc := cX3_copy) (nL := 5) (ret := none) (hh := []) (ls := [(0, .ref a), (1, .int (nI at0)), (2, .ref b), (3, .int (nI th))]) pl_X3 (Or.inl ⟨rfl, q1756⟩) rfl q78 rfl rfl ?_
  refine r_iconst dX3_copy_0 ki_0 ?_
  refine r_istore (ls' := [(0, _), (1, _), (2, _), (3, _), (4, _)]) dX3_copy_1 rfl rfl ?_
  refine r_heap (h' := ph h b (.inl (0, m, .inl fun j => nI (va_cpy f g at0 th 0 j)))) (by rw [cpy_0]; exact (ph_self h hb).symm) ?_
  exact l_m_copy h a b n m at0 th f g hab hK ha hb h1 h2 hn hm ⟨rfl, rfl⟩ 49 0 (by omega) (by omega)
theorem c_m_isPendulum {E : EV} (S : MS) (G : Nat → Nat) (r : MH) (x : Int32) (hn : G 2 ≤ 8) : SM E yX3_isPendulum 1 [.ref 410, .int x] (JG S G r) 0 0 (fun o h' => o = some (.int (bi (ix x (G 2)))) ∧ h' = JG S G r) (fun _ _ => False) := by
  refine SM.of (cc := cX3_isPendulum) (nL := 2) (ret := (some .boolean)) (hh := []) (ls := [(0, .ref 410), (1, .int x)]) pl_X3 (Or.inl ⟨rfl, q1787⟩) rfl q78 rfl rfl ?_
  refine r_iload_n dX3_isPendulum_0 rfl ?_
  refine r_iconst dX3_isPendulum_1 ki_0 ?_
  refine r_aload_n dX3_isPendulum_2 rfl ?_
  refine r_getfield dX3_isPendulum_3 fl_X3_7_9 (JG_410 _ _ _) rfl ?_
  refine r_iconst dX3_isPendulum_6 ki_2 ?_
  refine rn_iaload dX3_isPendulum_7 (JG_411 _ _ _) (by omega) (by omega) ?_
  refine r_iconst dX3_isPendulum_8 ki_1 ?_
  refine r_isub dX3_isPendulum_9 ?_
  refine r_invS dX3_isPendulum_10 (c_m_in (JG S G r) x (nI 0) (nI (G 2) - nI 1)) q1761 q1762 pn_X3_in mh_X3_in rfl (by omega) (Nat.le_refl _) (Nat.le_refl _) (Nat.le_of_ble_eq_true rfl) (fun v10 h10 hq10 => ?_) (fun _ _ hq => hq.elim)
  obtain ⟨rfl, rfl⟩ := hq10
  refine r_ireturn dX3_isPendulum_13 rfl (nzb _) ?_
  exact ⟨by rw [bi_cg (ix_in (by omega))], rfl⟩
theorem c_m_rests {E : EV} (S : MS) (G : Nat → Nat) (r : MH) (p : Nat) (hp : p < 36) (hb : G (12 + p) < 2 ^ 30) : SM E yX3_rests 0 [.ref 410, .int (nI p)] (JG S G r) 0 0 (fun o h' => o = some (.int (bi (G (12 + p) = 0))) ∧ h' = JG S G r) (fun _ _ => False) := by
  refine SM.of (cc := cX3_rests) (nL := 2) (ret := (some .boolean)) (hh := []) (ls := [(0, .ref 410), (1, .int (nI p))]) pl_X3 (Or.inl ⟨rfl, q1791⟩) rfl q78 rfl rfl ?_
  refine r_aload_n dX3_rests_0 rfl ?_
  refine r_getfield dX3_rests_1 fl_X3_7_9 (JG_410 _ _ _) rfl ?_
  refine r_bipush dX3_rests_4 kb_12 ?_
  refine r_iload_n dX3_rests_6 rfl ?_
  refine rn_iadd dX3_rests_7 ?_
  refine rn_iaload dX3_rests_8 (JG_411 _ _ _) (by omega) (by omega) ?_
  refine rn_if_ne (tgt := 16) dX3_rests_9 rfl (by omega) (fun hc => ?_) (fun hc => ?_)
  · refine r_iconst dX3_rests_16 ki_0 ?_
    refine r_ireturn dX3_rests_17 rfl (by first | exact nz1 | exact nz0) ?_
    exact ⟨by first | rw [bi_t hc] | rw [bi_f hc], rfl⟩
  · refine r_iconst dX3_rests_12 ki_1 ?_
    refine r_goto (tgt := 17) dX3_rests_13 rfl ?_
    refine r_ireturn dX3_rests_17 rfl (by first | exact nz1 | exact nz0) ?_
    exact ⟨by first | rw [bi_t hc] | rw [bi_f hc], rfl⟩
theorem c_m_kind {E : EV} (S : MS) (G : Nat → Nat) (r : MH) (p : Nat) (hp : p < 44) (hb : G (4 + p) < 2 ^ 30) : SM E yX3_kind 0 [.ref 410, .int (nI p)] (JG S G r) 0 0 (fun o h' => o = some (.int (nI (knd (G (4 + p))))) ∧ h' = JG S G r) (fun _ _ => False) := by
  refine SM.of (cc := cX3_kind) (nL := 3) (ret := (some .int)) (hh := []) (ls := [(0, .ref 410), (1, .int (nI p))]) pl_X3 (Or.inl ⟨rfl, q1795⟩) rfl q78 rfl rfl ?_
  refine r_aload_n dX3_kind_0 rfl ?_
  refine r_getfield dX3_kind_1 fl_X3_7_9 (JG_410 _ _ _) rfl ?_
  refine r_iconst dX3_kind_4 ki_4 ?_
  refine r_iload_n dX3_kind_5 rfl ?_
  refine rn_iadd dX3_kind_6 ?_
  refine rn_iaload dX3_kind_7 (JG_411 _ _ _) (by omega) (by omega) ?_
  refine r_istore_n (ls' := [(0, _), (1, _), (2, _)]) dX3_kind_8 rfl rfl ?_
  refine r_iload_n dX3_kind_9 rfl ?_
  refine r_bipush dX3_kind_10 kb_30 ?_
  refine rn_icmp_ge (tgt := 19) dX3_kind_12 rfl (by omega) (by omega) (fun h1 => ?_) (fun h1 => ?_)
  · refine r_iload_n dX3_kind_19 rfl ?_
    refine r_bipush dX3_kind_20 kb_60 ?_
    refine rn_icmp_ge (tgt := 29) dX3_kind_22 rfl (by omega) (by omega) (fun h2 => ?_) (fun h2 => ?_)
    · refine r_iconst dX3_kind_29 ki_2 ?_
      refine r_ireturn dX3_kind_30 rfl rfl ?_
      exact ⟨by unfold knd; first | rw [if_pos h1] | (rw [if_neg (by omega), if_pos h2]) | (rw [if_neg (by omega), if_neg (by omega)]), rfl⟩
    · refine r_iconst dX3_kind_25 ki_1 ?_
      refine r_goto (tgt := 30) dX3_kind_26 rfl ?_
      refine r_ireturn dX3_kind_30 rfl rfl ?_
      exact ⟨by unfold knd; first | rw [if_pos h1] | (rw [if_neg (by omega), if_pos h2]) | (rw [if_neg (by omega), if_neg (by omega)]), rfl⟩
  · refine r_iconst dX3_kind_15 ki_0 ?_
    refine r_goto (tgt := 30) dX3_kind_16 rfl ?_
    refine r_ireturn dX3_kind_30 rfl rfl ?_
    exact ⟨by unfold knd; first | rw [if_pos h1] | (rw [if_neg (by omega), if_pos h2]) | (rw [if_neg (by omega), if_neg (by omega)]), rfl⟩
