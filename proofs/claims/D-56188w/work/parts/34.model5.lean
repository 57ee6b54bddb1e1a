set_option maxRecDepth 100000
theorem c_m_writes {E : EV} (S : MS) (G : Nat → Nat) (r : MH) (l : List Nat) (c : Nat) (hl : l.length < 60) (hc : c < 65536) : SM E yX3_writes 0 [.ref 410, .int (nI c)] (JG (CDL S l) G r) 0 0 (fun o h' => o = none ∧ h' = JG (CDL S (l ++ [c])) G r) (fun _ _ => False) := by
  refine SM.of (cc := cX3_writes) (nL := 2) (ret := none) (hh := []) (ls := [(0, .ref 410), (1, .int (nI c))]) pl_X3 (Or.inl ⟨rfl, q2039⟩) rfl q78 rfl rfl ?_
  refine r_aload_n dX3_writes_0 rfl ?_
  refine r_getfield dX3_writes_1 fl_X3_33_9 (JG_410 _ _ _) rfl ?_
  refine r_aload_n dX3_writes_4 rfl ?_
  refine r_getfield dX3_writes_5 fl_X3_171_9 (JG_410 _ _ _) rfl ?_
  refine r_ti (CDL_11 S l) ?_
  refine r_iload_n dX3_writes_8 rfl ?_
  refine r_i2c dX3_writes_9 ?_
  refine r_ti (i2cN hc) ?_
  refine rg_cas5 dX3_writes_10 (by omega) (by omega) ?_
  refine r_aload_n dX3_writes_11 rfl ?_
  refine r_dup dX3_writes_12 rfl ?_
  refine r_getfield dX3_writes_13 fl_X3_171_9 (JG_410 _ _ _) rfl ?_
  refine r_ti (v := nI l.length) (CDL_11 S l) ?_
  refine r_iconst dX3_writes_16 ki_1 ?_
  refine rn_iadd dX3_writes_17 ?_
  refine rg_put11 dX3_writes_18 fp_X3_171_9 rfl rfl ?_
  refine r_return dX3_writes_21 rfl ?_
  rw [CDL_s]
  exact ⟨rfl, rfl⟩
theorem l_m_num21 {E : EV} {QR : Option Value → MH → Prop} {QX : Nat → MH → Prop} {d kc ks : Nat} (hd0 : 1 ≤ d) (S : MS) (G : Nat → Nat) (r : MH) (v : Nat) (hv : v < 2 ^ 31) (L : List Nat) (kk : QR none (JG (CDL S L) G r)) : ∀ (j : Nat) (l : List Nat), j ≤ 9 → l.length + j ≤ 60 → l ++ dg v j = L → SW E yX3_writesNumber cX3_writesNumber 3 none [] QR QX d kc ks (JG (CDL S l) G r) 21 [(0, .ref 410), (1, .int (nI v)), (2, .int (nI (10 ^ j / 10)))] [] := by
  intro j
  induction j with
  | zero =>
    intro l h1 h2 h3
    refine r_iload_n dX3_writesNumber_21 rfl ?_
    refine rn_if_le (tgt := 46) dX3_writesNumber_22 rfl (by decide) (fun c22 => ?_) (fun c22 => absurd c22 (by decide))
    refine r_return dX3_writesNumber_46 rfl ?_
    rw [dg, List.append_nil] at h3
    rw [h3]
    exact kk
  | succ j ih =>
    intro l h1 h2 h3
    have hu : 10 ^ (j + 1) / 10 = 10 ^ j := by rw [Nat.pow_succ, Nat.mul_div_cancel _ (by decide)]
    have hu2 : 10 ^ j ≤ 10 ^ 8 := Nat.pow_le_pow_right (by decide) (by omega)
    have hu3 : 0 < 10 ^ j := Nat.pow_pos (by decide)
    have hm := Nat.mod_lt (v / 10 ^ j) (show 0 < 10 by decide)
    rw [hu]
    refine r_iload_n dX3_writesNumber_21 rfl ?_
    refine rn_if_le (tgt := 46) dX3_writesNumber_22 rfl (by omega) (fun c22 => (by exfalso; omega)) (fun c22 => ?_)
    refine r_aload_n dX3_writesNumber_25 rfl ?_
    refine r_bipush dX3_writesNumber_26 kb_48 ?_
    refine r_iload_n dX3_writesNumber_28 rfl ?_
    refine r_iload_n dX3_writesNumber_29 rfl ?_
    refine rn_idiv dX3_writesNumber_30 (by omega) (by omega) (by omega) ?_
    refine r_bipush dX3_writesNumber_31 kb_10 ?_
    refine rn_irem dX3_writesNumber_33 (Nat.lt_of_le_of_lt (Nat.div_le_self _ _) hv) (by decide) (by decide) ?_
    refine rn_iadd dX3_writesNumber_34 ?_
    refine r_invV dX3_writesNumber_35 (c_m_writes S G r l (48 + v / 10 ^ j % 10) (by omega) (by omega)) q2036 q2038 qs58 (JG_410 _ _ _) k9 pn_X3_writes mh_X3_writes rfl (by omega) (Nat.le_refl _) (Nat.le_refl _) (Nat.le_of_ble_eq_true rfl) (fun v35 h35 hq35 => ?_) (fun _ _ hq => hq.elim)
    obtain ⟨rfl, rfl⟩ := hq35
    refine r_iload_n dX3_writesNumber_38 rfl ?_
    refine r_bipush dX3_writesNumber_39 kb_10 ?_
    refine rn_idiv dX3_writesNumber_41 (by omega) (by omega) (by omega) ?_
    refine r_istore_n (ls' := [(0, _), (1, _), (2, _)]) dX3_writesNumber_42 rfl rfl ?_
    refine r_goto (tgt := 21) dX3_writesNumber_43 rfl ?_
    exact ih (l ++ [48 + v / 10 ^ j % 10]) (by omega) (by rw [List.length_append]; show l.length + 1 + j ≤ 60; omega) (by rw [← h3, List.append_assoc]; rfl)
theorem l_m_num3 {E : EV} {QR : Option Value → MH → Prop} {QX : Nat → MH → Prop} {d kc ks : Nat} (hd0 : 2 ≤ d) (S : MS) (G : Nat → Nat) (r : MH) (v : Nat) (hv : v < 2 ^ 31) (l : List Nat) (hl : l.length + 9 ≤ 60) (kk : QR none (JG (CDL S (l ++ num v)) G r)) {N : Nat} (hn : ndF v 8 = N) : ∀ (j : Nat), j ≤ 8 → ndF v j = N → SW E yX3_writesNumber cX3_writesNumber 3 none [] QR QX d kc ks (JG (CDL S l) G r) 3 [(0, .ref 410), (1, .int (nI v)), (2, .int (nI (10 ^ j)))] [] := by
  intro j
  induction j with
  | zero =>
    intro h1 h3
    refine r_iload_n dX3_writesNumber_3 rfl ?_
    refine r_iconst dX3_writesNumber_4 ki_1 ?_
    refine rn_icmp_le (tgt := 21) dX3_writesNumber_5 rfl (by decide) (by decide) (fun c5 => ?_) (fun c5 => absurd c5 (by decide))
    rw [ndF] at h3
    exact l_m_num21 (by omega) S G r v hv _ kk 1 l (by decide) (by omega) (by rw [num, hn, ← h3])
  | succ j ih =>
    intro h1 h3
    have hu : 10 ^ (j + 1) = 10 * 10 ^ j := by rw [Nat.pow_succ, Nat.mul_comm]
    have hu2 : 10 ^ j ≤ 10 ^ 7 := Nat.pow_le_pow_right (by decide) (by omega)
    have hu3 : 0 < 10 ^ j := Nat.pow_pos (by decide)
    rw [ndF] at h3
    refine r_iload_n dX3_writesNumber_3 rfl ?_
    refine r_iconst dX3_writesNumber_4 ki_1 ?_
    refine rn_icmp_le (tgt := 21) dX3_writesNumber_5 rfl (by omega) (by omega) (fun c5 => (by exfalso; omega)) (fun c5 => ?_)
    refine r_iload_n dX3_writesNumber_8 rfl ?_
    refine r_iload_n dX3_writesNumber_9 rfl ?_
    refine rn_icmp_ge (tgt := 21) dX3_writesNumber_10 rfl (by omega) (by omega) (fun c10 => ?_) (fun c10 => ?_)
    · rw [if_neg (by omega)] at h3
      refine r_ls (ls' := [(0, _), (1, _), (2, .int (nI (10 ^ (j + 2) / 10)))]) (by rw [show 10 ^ (j + 2) / 10 = 10 ^ (j + 1) from Nat.mul_div_cancel _ (by decide)]) ?_
      exact l_m_num21 (by omega) S G r v hv _ kk (j + 2) l (by omega) (by omega) (by rw [num, hn, ← h3])
    · rw [if_pos (by omega)] at h3
      refine r_iload_n dX3_writesNumber_13 rfl ?_
      refine r_bipush dX3_writesNumber_14 kb_10 ?_
      refine rn_idiv dX3_writesNumber_16 (by omega) (by omega) (by omega) ?_
      rw [show 10 ^ (j + 1) / 10 = 10 ^ j by omega]
      refine r_istore_n (ls' := [(0, _), (1, _), (2, _)]) dX3_writesNumber_17 rfl rfl ?_
      refine r_goto (tgt := 3) dX3_writesNumber_18 rfl ?_
      exact ih (by omega) h3
theorem c_m_writesNumber {E : EV} (S : MS) (G : Nat → Nat) (r : MH) (l : List Nat) (v : Nat) (hl : l.length + 9 ≤ 60) (hv : v < 2 ^ 31) : SM E yX3_writesNumber 2 [.ref 410, .int (nI v)] (JG (CDL S l) G r) 0 0 (fun o h' => o = none ∧ h' = JG (CDL S (l ++ num v)) G r) (fun _ _ => False) := by
  refine SM.of (cc := cX3_writesNumber) (nL := 3) (ret := none) (hh := []) (ls := [(0, .ref 410), (1, .int (nI v))]) pl_X3 (Or.inl ⟨rfl, q2034⟩) rfl q78 rfl rfl ?_
  refine r_ldc dX3_writesNumber_0 q2035 ?_
  refine r_ti (show (100000000 : Int32) = nI (10 ^ 8) by decide) ?_
  refine r_istore_n (ls' := [(0, _), (1, _), (2, _)]) dX3_writesNumber_2 rfl rfl ?_
  exact l_m_num3 (by decide) S G r v hv l hl ⟨rfl, rfl⟩ rfl 8 (by decide) rfl
theorem c_m_writesRest {E : EV} (S : MS) (G : Nat → Nat) (r : MH) (l : List Nat) (hl : l.length + 4 ≤ 60) : SM E yX3_writesRest 1 [.ref 410] (JG (CDL S l) G r) 0 0 (fun o h' => o = none ∧ h' = JG (CDL S (l ++ [114] ++ [101] ++ [115] ++ [116])) G r) (fun _ _ => False) := by
  refine SM.of (cc := cX3_writesRest) (nL := 1) (ret := none) (hh := []) (ls := [(0, .ref 410)]) pl_X3 (Or.inl ⟨rfl, q2043⟩) rfl q78 rfl rfl ?_
  refine r_aload_n dX3_writesRest_0 rfl ?_
  refine r_bipush dX3_writesRest_1 kb_114 ?_
  refine r_invV dX3_writesRest_3 (c_m_writes S G r (l) 114 (by first | omega | (simp only [List.length_append, List.length_cons, List.length_nil]; omega)) (by decide)) q2036 q2038 qs58 (JG_410 _ _ _) k9 pn_X3_writes mh_X3_writes rfl (by omega) (Nat.le_refl _) (Nat.le_refl _) (Nat.le_of_ble_eq_true rfl) (fun v3 h3 hq3 => ?_) (fun _ _ hq => hq.elim)
  obtain ⟨rfl, rfl⟩ := hq3
  refine r_aload_n dX3_writesRest_6 rfl ?_
  refine r_bipush dX3_writesRest_7 kb_101 ?_
  refine r_invV dX3_writesRest_9 (c_m_writes S G r (l ++ [114]) 101 (by first | omega | (simp only [List.length_append, List.length_cons, List.length_nil]; omega)) (by decide)) q2036 q2038 qs58 (JG_410 _ _ _) k9 pn_X3_writes mh_X3_writes rfl (by omega) (Nat.le_refl _) (Nat.le_refl _) (Nat.le_of_ble_eq_true rfl) (fun v9 h9 hq9 => ?_) (fun _ _ hq => hq.elim)
  obtain ⟨rfl, rfl⟩ := hq9
  refine r_aload_n dX3_writesRest_12 rfl ?_
  refine r_bipush dX3_writesRest_13 kb_115 ?_
  refine r_invV dX3_writesRest_15 (c_m_writes S G r (l ++ [114] ++ [101]) 115 (by first | omega | (simp only [List.length_append, List.length_cons, List.length_nil]; omega)) (by decide)) q2036 q2038 qs58 (JG_410 _ _ _) k9 pn_X3_writes mh_X3_writes rfl (by omega) (Nat.le_refl _) (Nat.le_refl _) (Nat.le_of_ble_eq_true rfl) (fun v15 h15 hq15 => ?_) (fun _ _ hq => hq.elim)
  obtain ⟨rfl, rfl⟩ := hq15
  refine r_aload_n dX3_writesRest_18 rfl ?_
  refine r_bipush dX3_writesRest_19 kb_116 ?_
  refine r_invV dX3_writesRest_21 (c_m_writes S G r (l ++ [114] ++ [101] ++ [115]) 116 (by first | omega | (simp only [List.length_append, List.length_cons, List.length_nil]; omega)) (by decide)) q2036 q2038 qs58 (JG_410 _ _ _) k9 pn_X3_writes mh_X3_writes rfl (by omega) (Nat.le_refl _) (Nat.le_refl _) (Nat.le_of_ble_eq_true rfl) (fun v21 h21 hq21 => ?_) (fun _ _ hq => hq.elim)
  obtain ⟨rfl, rfl⟩ := hq21
  refine r_return dX3_writesRest_24 rfl ?_
  exact ⟨rfl, rfl⟩
theorem l_m_card107 {E : EV} {QR : Option Value → MH → Prop} {QX : Nat → MH → Prop} {d kc ks : Nat} (hd0 : 2 ≤ d) (S : MS) (G : Nat → Nat) (r : MH) (p : Nat) (l : List Nat) (hG : gOK G) (hp : p < G 2) (hl : l.length < 59) (kk : ∀ m, m = l ++ (if 0 < G (36 + knd (G (4 + p))) ∧ G (39 + knd (G (4 + p))) = p then [42] else []) → QR (some (.int (nI m.length))) (JG (ss (CDL S m) 12 (nI 0)) G r)) : SW E yX3_writeCard cX3_writeCard 2 (some .int) [] QR QX d kc ks (JG (CDL S l) G r) 107 [(0, .ref 410), (1, .int (nI p))] [] := by
  obtain ⟨hg0, hg1, hg2, hg3, hgp, hgr, hgw⟩ := id hG
  have hg_p := hgp p (by omega)
  have hk3 := knd_lt (G (4 + p))
  have hgk := hgr (knd (G (4 + p))) hk3
  refine r_aload_n dX3_writeCard_107 rfl ?_
  refine r_getfield dX3_writeCard_108 fl_X3_7_9 (JG_410 _ _ _) rfl ?_
  refine r_bipush dX3_writeCard_111 kb_36 ?_
  refine r_aload_n dX3_writeCard_113 rfl ?_
  refine r_iload_n dX3_writeCard_114 rfl ?_
  refine r_invV dX3_writeCard_115 (c_m_kind (CDL S l) G r p (by omega) (by omega)) q1792 q1794 qs37 (JG_410 _ _ _) k9 pn_X3_kind mh_X3_kind rfl (by omega) (Nat.le_refl _) (Nat.le_refl _) (Nat.le_of_ble_eq_true rfl) (fun v115 h115 hq115 => ?_) (fun _ _ hq => hq.elim)
  obtain ⟨rfl, rfl⟩ := hq115
  refine rn_iadd dX3_writeCard_118 ?_
  refine rn_iaload dX3_writeCard_119 (JG_411 _ _ _) (by omega) (by omega) ?_
  refine rn_if_le (tgt := 146) dX3_writeCard_120 rfl (by omega) (fun c120 => ?_) (fun c120 => ?_)
  · refine r_aload_n dX3_writeCard_146 rfl ?_
    refine r_aload_n dX3_writeCard_147 rfl ?_
    refine r_getfield dX3_writeCard_148 fl_X3_171_9 (JG_410 _ _ _) rfl ?_
    refine r_ti (CDL_11 S _) ?_
    refine r_invV dX3_writeCard_151 (c_m_done (CDL S _) G r _) q1768 q1770 qs32 (JG_410 _ _ _) k9 pn_X3_done mh_X3_done rfl (by omega) (Nat.le_refl _) (Nat.le_refl _) (Nat.le_of_ble_eq_true rfl) (fun v151 h151 hq151 => ?_) (fun _ _ hq => hq.elim)
    obtain ⟨rfl, rfl⟩ := hq151
    refine r_ireturn dX3_writeCard_154 rfl rfl ?_
    first
    | (exact kk (l ++ [42]) (by rw [if_pos ⟨c120, c137⟩]))
    | (exact kk l (by rw [if_neg (fun z => by omega), List.append_nil]))
  · refine r_aload_n dX3_writeCard_123 rfl ?_
    refine r_getfield dX3_writeCard_124 fl_X3_7_9 (JG_410 _ _ _) rfl ?_
    refine r_bipush dX3_writeCard_127 kb_39 ?_
    refine r_aload_n dX3_writeCard_129 rfl ?_
    refine r_iload_n dX3_writeCard_130 rfl ?_
    refine r_invV dX3_writeCard_131 (c_m_kind (CDL S l) G r p (by omega) (by omega)) q1792 q1794 qs37 (JG_410 _ _ _) k9 pn_X3_kind mh_X3_kind rfl (by omega) (Nat.le_refl _) (Nat.le_refl _) (Nat.le_of_ble_eq_true rfl) (fun v131 h131 hq131 => ?_) (fun _ _ hq => hq.elim)
    obtain ⟨rfl, rfl⟩ := hq131
    refine rn_iadd dX3_writeCard_134 ?_
    refine rn_iaload dX3_writeCard_135 (JG_411 _ _ _) (by omega) (by omega) ?_
    refine r_iload_n dX3_writeCard_136 rfl ?_
    refine rn_icmp_ne (tgt := 146) dX3_writeCard_137 rfl (by omega) (by omega) (fun c137 => ?_) (fun c137 => ?_)
    · refine r_aload_n dX3_writeCard_146 rfl ?_
      refine r_aload_n dX3_writeCard_147 rfl ?_
      refine r_getfield dX3_writeCard_148 fl_X3_171_9 (JG_410 _ _ _) rfl ?_
      refine r_ti (CDL_11 S _) ?_
      refine r_invV dX3_writeCard_151 (c_m_done (CDL S _) G r _) q1768 q1770 qs32 (JG_410 _ _ _) k9 pn_X3_done mh_X3_done rfl (by omega) (Nat.le_refl _) (Nat.le_refl _) (Nat.le_of_ble_eq_true rfl) (fun v151 h151 hq151 => ?_) (fun _ _ hq => hq.elim)
      obtain ⟨rfl, rfl⟩ := hq151
      refine r_ireturn dX3_writeCard_154 rfl rfl ?_
      first
      | (exact kk (l ++ [42]) (by rw [if_pos ⟨c120, c137⟩]))
      | (exact kk l (by rw [if_neg (fun z => by omega), List.append_nil]))
    · refine r_aload_n dX3_writeCard_140 rfl ?_
      refine r_bipush dX3_writeCard_141 kb_42 ?_
      refine r_invV dX3_writeCard_143 (c_m_writes S G r l 42 (by omega) (by decide)) q2036 q2038 qs58 (JG_410 _ _ _) k9 pn_X3_writes mh_X3_writes rfl (by omega) (Nat.le_refl _) (Nat.le_refl _) (Nat.le_of_ble_eq_true rfl) (fun v143 h143 hq143 => ?_) (fun _ _ hq => hq.elim)
      obtain ⟨rfl, rfl⟩ := hq143
      refine r_aload_n dX3_writeCard_146 rfl ?_
      refine r_aload_n dX3_writeCard_147 rfl ?_
      refine r_getfield dX3_writeCard_148 fl_X3_171_9 (JG_410 _ _ _) rfl ?_
      refine r_ti (CDL_11 S _) ?_
      refine r_invV dX3_writeCard_151 (c_m_done (CDL S _) G r _) q1768 q1770 qs32 (JG_410 _ _ _) k9 pn_X3_done mh_X3_done rfl (by omega) (Nat.le_refl _) (Nat.le_refl _) (Nat.le_of_ble_eq_true rfl) (fun v151 h151 hq151 => ?_) (fun _ _ hq => hq.elim)
      obtain ⟨rfl, rfl⟩ := hq151
      refine r_ireturn dX3_writeCard_154 rfl rfl ?_
      first
      | (exact kk (l ++ [42]) (by rw [if_pos ⟨c120, c137⟩]))
      | (exact kk l (by rw [if_neg (fun z => by omega), List.append_nil]))
theorem c_m_writeCard {E : EV} (S : MS) (G : Nat → Nat) (r : MH) (x : Int32) (hG : gOK G) : SM E yX3_writeCard 3 [.ref 410, .int x] (JG S G r) 0 0 (fun o h' => (ix x (G 2) ∧ o = some (.int (nI (crd G x.toNatClampNeg).length)) ∧ h' = JG (ss (CDL S (crd G x.toNatClampNeg)) 12 (nI 0)) G r) ∨ (¬ ix x (G 2) ∧ o = some (.int (nI 0)) ∧ h' = JG (ss S 12 (nI 1)) G r)) (fun _ _ => False) := by
  obtain ⟨hg0, hg1, hg2, hg3, hgp, hgr, hgw⟩ := id hG
  refine SM.of (cc := cX3_writeCard) (nL := 2) (ret := (some .int)) (hh := []) (ls := [(0, .ref 410), (1, .int x)]) pl_X3 (Or.inl ⟨rfl, q2030⟩) rfl q78 rfl rfl ?_
  refine r_aload_n dX3_writeCard_0 rfl ?_
  refine r_iload_n dX3_writeCard_1 rfl ?_
  refine r_invV dX3_writeCard_2 (c_m_isPendulum S G r x hg2) q1784 q1786 qs35 (JG_410 _ _ _) k9 pn_X3_isPendulum mh_X3_isPendulum rfl (by omega) (Nat.le_refl _) (Nat.le_refl _) (Nat.le_of_ble_eq_true rfl) (fun v2 h2 hq2 => ?_) (fun _ _ hq => hq.elim)
  obtain ⟨rfl, rfl⟩ := hq2
  refine rb_if_ne (tgt := 14) dX3_writeCard_5 rfl  (fun c5 => ?_) (fun c5 => ?_)
  · obtain ⟨p, hp, rfl⟩ := ix_of (by omega) c5
    have hg_p := hgp p (by omega)
    have n1 := num_len p
    have n2 := num_len (G (4 + p))
    have n3 := num_len (G (12 + p))
    have n4 := num_len (G (20 + p))
    refine r_aload_n dX3_writeCard_14 rfl ?_
    refine r_iconst dX3_writeCard_15 ki_0 ?_
    refine rg_put11 dX3_writeCard_16 fp_X3_171_9 rfl rfl ?_
    rw [CDL_0]
    refine r_aload_n dX3_writeCard_19 rfl ?_
    refine r_iload_n dX3_writeCard_20 rfl ?_
    refine r_invV dX3_writeCard_21 (c_m_writesNumber S G r ([]) p (by first | omega | (simp only [List.length_append, List.length_cons, List.length_nil]; omega)) (by omega)) q2031 q2033 qs57 (JG_410 _ _ _) k9 pn_X3_writesNumber mh_X3_writesNumber rfl (by omega) (Nat.le_refl _) (Nat.le_refl _) (Nat.le_of_ble_eq_true rfl) (fun v21 h21 hq21 => ?_) (fun _ _ hq => hq.elim)
    obtain ⟨rfl, rfl⟩ := hq21
    refine r_aload_n dX3_writeCard_24 rfl ?_
    refine r_bipush dX3_writeCard_25 kb_58 ?_
    refine r_invV dX3_writeCard_27 (c_m_writes S G r (num p) 58 (by first | omega | (simp only [List.length_append, List.length_cons, List.length_nil]; omega)) (by decide)) q2036 q2038 qs58 (JG_410 _ _ _) k9 pn_X3_writes mh_X3_writes rfl (by omega) (Nat.le_refl _) (Nat.le_refl _) (Nat.le_of_ble_eq_true rfl) (fun v27 h27 hq27 => ?_) (fun _ _ hq => hq.elim)
    obtain ⟨rfl, rfl⟩ := hq27
    refine r_aload_n dX3_writeCard_30 rfl ?_
    refine r_aload_n dX3_writeCard_31 rfl ?_
    refine r_getfield dX3_writeCard_32 fl_X3_7_9 (JG_410 _ _ _) rfl ?_
    refine r_iconst dX3_writeCard_35 ki_4 ?_
    refine r_iload_n dX3_writeCard_36 rfl ?_
    refine rn_iadd dX3_writeCard_37 ?_
    refine rn_iaload dX3_writeCard_38 (JG_411 _ _ _) (by omega) (by omega) ?_
    refine r_invV dX3_writeCard_39 (c_m_writesNumber S G r (num p ++ [58]) (G (4 + p)) (by first | omega | (simp only [List.length_append, List.length_cons, List.length_nil]; omega)) (by omega)) q2031 q2033 qs57 (JG_410 _ _ _) k9 pn_X3_writesNumber mh_X3_writesNumber rfl (by omega) (Nat.le_refl _) (Nat.le_refl _) (Nat.le_of_ble_eq_true rfl) (fun v39 h39 hq39 => ?_) (fun _ _ hq => hq.elim)
    obtain ⟨rfl, rfl⟩ := hq39
    refine r_aload_n dX3_writeCard_42 rfl ?_
    refine r_bipush dX3_writeCard_43 kb_99 ?_
    refine r_invV dX3_writeCard_45 (c_m_writes S G r (num p ++ [58] ++ num (G (4 + p))) 99 (by first | omega | (simp only [List.length_append, List.length_cons, List.length_nil]; omega)) (by decide)) q2036 q2038 qs58 (JG_410 _ _ _) k9 pn_X3_writes mh_X3_writes rfl (by omega) (Nat.le_refl _) (Nat.le_refl _) (Nat.le_of_ble_eq_true rfl) (fun v45 h45 hq45 => ?_) (fun _ _ hq => hq.elim)
    obtain ⟨rfl, rfl⟩ := hq45
    refine r_aload_n dX3_writeCard_48 rfl ?_
    refine r_bipush dX3_writeCard_49 kb_109 ?_
    refine r_invV dX3_writeCard_51 (c_m_writes S G r (num p ++ [58] ++ num (G (4 + p)) ++ [99]) 109 (by first | omega | (simp only [List.length_append, List.length_cons, List.length_nil]; omega)) (by decide)) q2036 q2038 qs58 (JG_410 _ _ _) k9 pn_X3_writes mh_X3_writes rfl (by omega) (Nat.le_refl _) (Nat.le_refl _) (Nat.le_of_ble_eq_true rfl) (fun v51 h51 hq51 => ?_) (fun _ _ hq => hq.elim)
    obtain ⟨rfl, rfl⟩ := hq51
    refine r_aload_n dX3_writeCard_54 rfl ?_
    refine r_bipush dX3_writeCard_55 kb_32 ?_
    refine r_invV dX3_writeCard_57 (c_m_writes S G r (num p ++ [58] ++ num (G (4 + p)) ++ [99] ++ [109]) 32 (by first | omega | (simp only [List.length_append, List.length_cons, List.length_nil]; omega)) (by decide)) q2036 q2038 qs58 (JG_410 _ _ _) k9 pn_X3_writes mh_X3_writes rfl (by omega) (Nat.le_refl _) (Nat.le_refl _) (Nat.le_of_ble_eq_true rfl) (fun v57 h57 hq57 => ?_) (fun _ _ hq => hq.elim)
    obtain ⟨rfl, rfl⟩ := hq57
    refine r_aload_n dX3_writeCard_60 rfl ?_
    refine r_iload_n dX3_writeCard_61 rfl ?_
    refine r_invV dX3_writeCard_62 (c_m_rests (CDL S _) G r p (by omega) (by omega)) q1788 q1790 qs36 (JG_410 _ _ _) k9 pn_X3_rests mh_X3_rests rfl (by omega) (Nat.le_refl _) (Nat.le_refl _) (Nat.le_of_ble_eq_true rfl) (fun v62 h62 hq62 => ?_) (fun _ _ hq => hq.elim)
    obtain ⟨rfl, rfl⟩ := hq62
    refine rb_if_eq (tgt := 75) dX3_writeCard_65 rfl  (fun c65 => ?_) (fun c65 => ?_)
    · refine r_aload_n dX3_writeCard_75 rfl ?_
      refine r_aload_n dX3_writeCard_76 rfl ?_
      refine r_getfield dX3_writeCard_77 fl_X3_7_9 (JG_410 _ _ _) rfl ?_
      refine r_bipush dX3_writeCard_80 kb_12 ?_
      refine r_iload_n dX3_writeCard_82 rfl ?_
      refine rn_iadd dX3_writeCard_83 ?_
      refine rn_iaload dX3_writeCard_84 (JG_411 _ _ _) (by omega) (by omega) ?_
      refine r_invV dX3_writeCard_85 (c_m_writesNumber S G r (num p ++ [58] ++ num (G (4 + p)) ++ [99] ++ [109] ++ [32]) (G (12 + p)) (by first | omega | (simp only [List.length_append, List.length_cons, List.length_nil]; omega)) (by omega)) q2031 q2033 qs57 (JG_410 _ _ _) k9 pn_X3_writesNumber mh_X3_writesNumber rfl (by omega) (Nat.le_refl _) (Nat.le_refl _) (Nat.le_of_ble_eq_true rfl) (fun v85 h85 hq85 => ?_) (fun _ _ hq => hq.elim)
      obtain ⟨rfl, rfl⟩ := hq85
      refine r_aload_n dX3_writeCard_88 rfl ?_
      refine r_bipush dX3_writeCard_89 kb_64 ?_
      refine r_invV dX3_writeCard_91 (c_m_writes S G r (num p ++ [58] ++ num (G (4 + p)) ++ [99] ++ [109] ++ [32] ++ num (G (12 + p))) 64 (by first | omega | (simp only [List.length_append, List.length_cons, List.length_nil]; omega)) (by decide)) q2036 q2038 qs58 (JG_410 _ _ _) k9 pn_X3_writes mh_X3_writes rfl (by omega) (Nat.le_refl _) (Nat.le_refl _) (Nat.le_of_ble_eq_true rfl) (fun v91 h91 hq91 => ?_) (fun _ _ hq => hq.elim)
      obtain ⟨rfl, rfl⟩ := hq91
      refine r_aload_n dX3_writeCard_94 rfl ?_
      refine r_aload_n dX3_writeCard_95 rfl ?_
      refine r_getfield dX3_writeCard_96 fl_X3_7_9 (JG_410 _ _ _) rfl ?_
      refine r_bipush dX3_writeCard_99 kb_20 ?_
      refine r_iload_n dX3_writeCard_101 rfl ?_
      refine rn_iadd dX3_writeCard_102 ?_
      refine rn_iaload dX3_writeCard_103 (JG_411 _ _ _) (by omega) (by omega) ?_
      refine r_invV dX3_writeCard_104 (c_m_writesNumber S G r (num p ++ [58] ++ num (G (4 + p)) ++ [99] ++ [109] ++ [32] ++ num (G (12 + p)) ++ [64]) (G (20 + p)) (by first | omega | (simp only [List.length_append, List.length_cons, List.length_nil]; omega)) (by omega)) q2031 q2033 qs57 (JG_410 _ _ _) k9 pn_X3_writesNumber mh_X3_writesNumber rfl (by omega) (Nat.le_refl _) (Nat.le_refl _) (Nat.le_of_ble_eq_true rfl) (fun v104 h104 hq104 => ?_) (fun _ _ hq => hq.elim)
      obtain ⟨rfl, rfl⟩ := hq104
      refine l_m_card107 (by decide) S G r p _ hG hp (by first | omega | (simp only [List.length_append, List.length_cons, List.length_nil]; omega)) (fun m hm => Or.inl ⟨c5, ?_⟩)
      rw [show (nI p).toNatClampNeg = p from nI_clamp (by omega), show crd G p = m by rw [hm, crd]; first | (rw [if_pos c65]; simp only [List.append_assoc, List.nil_append]) | (rw [if_neg c65]; simp only [List.append_assoc, List.nil_append])]
      exact ⟨rfl, rfl⟩
    · refine r_aload_n dX3_writeCard_68 rfl ?_
      refine r_invV dX3_writeCard_69 (c_m_writesRest S G r (num p ++ [58] ++ num (G (4 + p)) ++ [99] ++ [109] ++ [32]) (by first | omega | (simp only [List.length_append, List.length_cons, List.length_nil]; omega))) q2040 q2042 qs59 (JG_410 _ _ _) k9 pn_X3_writesRest mh_X3_writesRest rfl (by omega) (Nat.le_refl _) (Nat.le_refl _) (Nat.le_of_ble_eq_true rfl) (fun v69 h69 hq69 => ?_) (fun _ _ hq => hq.elim)
      obtain ⟨rfl, rfl⟩ := hq69
      refine r_goto (tgt := 107) dX3_writeCard_72 rfl ?_
      refine l_m_card107 (by decide) S G r p _ hG hp (by first | omega | (simp only [List.length_append, List.length_cons, List.length_nil]; omega)) (fun m hm => Or.inl ⟨c5, ?_⟩)
      rw [show (nI p).toNatClampNeg = p from nI_clamp (by omega), show crd G p = m by rw [hm, crd]; first | (rw [if_pos c65]; simp only [List.append_assoc, List.nil_append]) | (rw [if_neg c65]; simp only [List.append_assoc, List.nil_append])]
      exact ⟨rfl, rfl⟩
  · refine r_aload_n dX3_writeCard_8 rfl ?_
    refine r_iconst dX3_writeCard_9 ki_1 ?_
    refine r_invV dX3_writeCard_10 (c_m_fails S G r (nI 1)) q1764 q1766 qs31 (JG_410 _ _ _) k9 pn_X3_fails mh_X3_fails rfl (by omega) (Nat.le_refl _) (Nat.le_refl _) (Nat.le_of_ble_eq_true rfl) (fun v10 h10 hq10 => ?_) (fun _ _ hq => hq.elim)
    obtain ⟨rfl, rfl⟩ := hq10
    refine r_ireturn dX3_writeCard_13 rfl rfl ?_
    exact Or.inr ⟨c5, rfl, rfl⟩
theorem l_m_cardA {E : EV} {QR : Option Value → MH → Prop} {QX : Nat → MH → Prop} {d kc ks : Nat} (S : MS) (G : Nat → Nat) (r : MH) (p : Nat) (hp : p < 60) (hch : S.2 5 p < 65536) (kk : QR (some (.int (nI (S.2 5 p)))) (JG (ss S 12 (nI 0)) G r)) : SW E yX3_cardAt cX3_cardAt 2 (some .char) [] QR QX d kc ks (JG S G r) 20 [(0, .ref 410), (1, .int (nI p))] [.int (nI 0), .ref 410] := by
  refine rg_put12 dX3_cardAt_20 fp_X3_42_9 rfl rfl ?_
  refine r_aload_n dX3_cardAt_23 rfl ?_
  refine r_getfield dX3_cardAt_24 fl_X3_42_9 (JG_410 _ _ _) rfl ?_
  refine r_ti (v := nI 0) (ss_at _ _ _) ?_
  refine rn_if_ne (tgt := 39) dX3_cardAt_27 rfl (by omega) (fun c27 => absurd rfl c27) (fun c27 => ?_)
  refine r_aload_n dX3_cardAt_30 rfl ?_
  refine r_getfield dX3_cardAt_31 fl_X3_33_9 (JG_410 _ _ _) rfl ?_
  refine r_iload_n dX3_cardAt_34 rfl ?_
  refine rn_caload dX3_cardAt_35 (JG_416 _ _ _) (by omega) (by omega) ?_
  refine r_goto (tgt := 40) dX3_cardAt_36 rfl ?_
  refine r_ireturn dX3_cardAt_40 rfl (pk_charN hch).1 ?_
  exact kk
theorem l_m_cardB {E : EV} {QR : Option Value → MH → Prop} {QX : Nat → MH → Prop} {d kc ks : Nat} (S : MS) (G : Nat → Nat) (r : MH) (x : Int32) (kk : QR (some (.int (nI 0))) (JG (ss S 12 (nI 1)) G r)) : SW E yX3_cardAt cX3_cardAt 2 (some .char) [] QR QX d kc ks (JG S G r) 20 [(0, .ref 410), (1, .int x)] [.int (nI 1), .ref 410] := by
  refine rg_put12 dX3_cardAt_20 fp_X3_42_9 rfl rfl ?_
  refine r_aload_n dX3_cardAt_23 rfl ?_
  refine r_getfield dX3_cardAt_24 fl_X3_42_9 (JG_410 _ _ _) rfl ?_
  refine r_ti (v := nI 1) (ss_at _ _ _) ?_
  refine rn_if_ne (tgt := 39) dX3_cardAt_27 rfl (by omega) (fun c27 => ?_) (fun c27 => absurd c27 (by decide))
  refine r_iconst dX3_cardAt_39 ki_0 ?_
  refine r_ireturn dX3_cardAt_40 rfl (pk_charN (by decide)).1 ?_
  exact kk
theorem c_m_cardAt {E : EV} (S : MS) (G : Nat → Nat) (r : MH) (x : Int32) (n : Nat) (hn : S.1 11 = nI n) (hn2 : n ≤ 60) (hch : ∀ k, k < n → S.2 5 k < 65536) : SM E yX3_cardAt 1 [.ref 410, .int x] (JG S G r) 0 0 (fun o h' => (ix x n ∧ o = some (.int (nI (S.2 5 x.toNatClampNeg))) ∧ h' = JG (ss S 12 (nI 0)) G r) ∨ (¬ ix x n ∧ o = some (.int (nI 0)) ∧ h' = JG (ss S 12 (nI 1)) G r)) (fun _ _ => False) := by
  refine SM.of (cc := cX3_cardAt) (nL := 2) (ret := (some .char)) (hh := []) (ls := [(0, .ref 410), (1, .int x)]) pl_X3 (Or.inl ⟨rfl, q2047⟩) rfl q78 rfl rfl ?_
  refine r_aload_n dX3_cardAt_0 rfl ?_
  refine r_iload_n dX3_cardAt_1 rfl ?_
  refine r_iconst dX3_cardAt_2 ki_0 ?_
  refine r_aload_n dX3_cardAt_3 rfl ?_
  refine r_getfield dX3_cardAt_4 fl_X3_171_9 (JG_410 _ _ _) rfl ?_
  refine r_ti hn ?_
  refine r_iconst dX3_cardAt_7 ki_1 ?_
  refine r_isub dX3_cardAt_8 ?_
  refine r_invS dX3_cardAt_9 (c_m_in (JG S G r) x (nI 0) (nI n - nI 1)) q1761 q1762 pn_X3_in mh_X3_in rfl (by omega) (Nat.le_refl _) (Nat.le_refl _) (Nat.le_of_ble_eq_true rfl) (fun v9 h9 hq9 => ?_) (fun _ _ hq => hq.elim)
  obtain ⟨rfl, rfl⟩ := hq9
  refine r_ti (bi_cg (ix_in (n := n) (by omega))) ?_
  refine rb_if_eq (tgt := 19) dX3_cardAt_12 rfl  (fun c12 => ?_) (fun c12 => ?_)
  · refine r_iconst dX3_cardAt_19 ki_1 ?_
    first
    | (have q : ¬ ix x n := c12
       exact l_m_cardB S G r x (Or.inr ⟨c12, rfl, rfl⟩))
    | (exact l_m_cardA S G r p (by omega) (hch p hp) (Or.inl ⟨c12, by rw [show (nI p).toNatClampNeg = p from nI_clamp (by omega)], rfl⟩))
  · obtain ⟨p, hp, rfl⟩ := ix_of (by omega) c12
    refine r_iconst dX3_cardAt_15 ki_0 ?_
    refine r_goto (tgt := 20) dX3_cardAt_16 rfl ?_
    first
    | (have q : ¬ ix x n := c12
       exact l_m_cardB S G r x (Or.inr ⟨c12, rfl, rfl⟩))
    | (exact l_m_cardA S G r p (by omega) (hch p hp) (Or.inl ⟨c12, by rw [show (nI p).toNatClampNeg = p from nI_clamp (by omega)], rfl⟩))
theorem c_m_type {E : EV} (S : MS) (G : Nat → Nat) (r : MH) (c t : Nat) (hc : c < 65536) (ht : S.1 7 = nI t) (ht2 : t ≤ 60) : SM E yX3_type 1 [.ref 410, .int (nI c)] (JG S G r) 0 0 (fun o h' => (¬ (32 ≤ c ∧ c ≤ 126) ∧ o = some (.int (nI 0)) ∧ h' = JG (ss S 12 (nI 1)) G r) ∨ ((32 ≤ c ∧ c ≤ 126) ∧ t = 60 ∧ o = some (.int (nI 0)) ∧ h' = JG (ss S 12 (nI 2)) G r) ∨ ((32 ≤ c ∧ c ≤ 126) ∧ t < 60 ∧ o = some (.int (nI (t + 1))) ∧ h' = JG (ss (ss (sa S 4 (va_up (S.2 4) t c)) 7 (nI (t + 1))) 12 (nI 0)) G r)) (fun _ _ => False) := by
  refine SM.of (cc := cX3_type) (nL := 2) (ret := (some .int)) (hh := []) (ls := [(0, .ref 410), (1, .int (nI c))]) pl_X3 (Or.inl ⟨rfl, q2051⟩) rfl q78 rfl rfl ?_
  refine r_iload_n dX3_type_0 rfl ?_
  refine r_bipush dX3_type_1 kb_32 ?_
  refine r_bipush dX3_type_3 kb_126 ?_
  refine r_invS dX3_type_5 (c_m_in (JG S G r) (nI c) (nI 32) (nI 126)) q1761 q1762 pn_X3_in mh_X3_in rfl (by omega) (Nat.le_refl _) (Nat.le_refl _) (Nat.le_of_ble_eq_true rfl) (fun v5 h5 hq5 => ?_) (fun _ _ hq => hq.elim)
  obtain ⟨rfl, rfl⟩ := hq5
  refine r_ti (bi_cg (c' := 32 ≤ c ∧ c ≤ 126) (and_congr (nI_leI (by decide) (by omega)) (nI_leI (by omega) (by decide)))) ?_
  refine rb_if_ne (tgt := 17) dX3_type_8 rfl  (fun c8 => ?_) (fun c8 => ?_)
  · refine r_aload_n dX3_type_17 rfl ?_
    refine r_getfield dX3_type_18 fl_X3_185_9 (JG_410 _ _ _) rfl ?_
    refine r_ti ht ?_
    refine r_bipush dX3_type_21 kb_60 ?_
    refine rn_icmp_ne (tgt := 32) dX3_type_23 rfl (by omega) (by omega) (fun c23 => ?_) (fun c23 => ?_)
    · refine r_aload_n dX3_type_32 rfl ?_
      refine r_getfield dX3_type_33 fl_X3_22_9 (JG_410 _ _ _) rfl ?_
      refine r_aload_n dX3_type_36 rfl ?_
      refine r_getfield dX3_type_37 fl_X3_185_9 (JG_410 _ _ _) rfl ?_
      refine r_ti ht ?_
      refine r_iload_n dX3_type_40 rfl ?_
      refine rg_cas4 dX3_type_41 (by omega) (by omega) ?_
      refine r_aload_n dX3_type_42 rfl ?_
      refine r_dup dX3_type_43 rfl ?_
      refine r_getfield dX3_type_44 fl_X3_185_9 (JG_410 _ _ _) rfl ?_
      refine r_ti (v := nI t) ht ?_
      refine r_iconst dX3_type_47 ki_1 ?_
      refine rn_iadd dX3_type_48 ?_
      refine rg_put7 dX3_type_49 fp_X3_185_9 rfl rfl ?_
      refine r_aload_n dX3_type_52 rfl ?_
      refine r_aload_n dX3_type_53 rfl ?_
      refine r_getfield dX3_type_54 fl_X3_185_9 (JG_410 _ _ _) rfl ?_
      refine r_ti (v := nI (t + 1)) (ss_at _ _ _) ?_
      refine r_invV dX3_type_57 (c_m_done _ G r _) q1768 q1770 qs32 (JG_410 _ _ _) k9 pn_X3_done mh_X3_done rfl (by omega) (Nat.le_refl _) (Nat.le_refl _) (Nat.le_of_ble_eq_true rfl) (fun v57 h57 hq57 => ?_) (fun _ _ hq => hq.elim)
      obtain ⟨rfl, rfl⟩ := hq57
      refine r_ireturn dX3_type_60 rfl rfl ?_
      exact Or.inr (Or.inr ⟨c8, by omega, rfl, rfl⟩)
    · refine r_aload_n dX3_type_26 rfl ?_
      refine r_iconst dX3_type_27 ki_2 ?_
      refine r_invV dX3_type_28 (c_m_fails S G r (nI 2)) q1764 q1766 qs31 (JG_410 _ _ _) k9 pn_X3_fails mh_X3_fails rfl (by omega) (Nat.le_refl _) (Nat.le_refl _) (Nat.le_of_ble_eq_true rfl) (fun v28 h28 hq28 => ?_) (fun _ _ hq => hq.elim)
      obtain ⟨rfl, rfl⟩ := hq28
      refine r_ireturn dX3_type_31 rfl rfl ?_
      exact Or.inr (Or.inl ⟨c8, c23, rfl, rfl⟩)
  · refine r_aload_n dX3_type_11 rfl ?_
    refine r_iconst dX3_type_12 ki_1 ?_
    refine r_invV dX3_type_13 (c_m_fails S G r (nI 1)) q1764 q1766 qs31 (JG_410 _ _ _) k9 pn_X3_fails mh_X3_fails rfl (by omega) (Nat.le_refl _) (Nat.le_refl _) (Nat.le_of_ble_eq_true rfl) (fun v13 h13 hq13 => ?_) (fun _ _ hq => hq.elim)
    obtain ⟨rfl, rfl⟩ := hq13
    refine r_ireturn dX3_type_16 rfl rfl ?_
    exact Or.inl ⟨c8, rfl, rfl⟩
theorem c_m_errorPosition {E : EV} (S : MS) (G : Nat → Nat) (r : MH) : SM E yX3_errorPosition 1 [.ref 410] (JG S G r) 0 0 (fun o h' => (S.1 8 = -1 ∧ o = some (.int (nI 0)) ∧ h' = JG (ss S 12 (nI 1)) G r) ∨ (¬ S.1 8 = -1 ∧ o = some (.int (S.1 8)) ∧ h' = JG (ss S 12 (nI 0)) G r)) (fun _ _ => False) := by
  refine SM.of (cc := cX3_errorPosition) (nL := 1) (ret := (some .int)) (hh := []) (ls := [(0, .ref 410)]) pl_X3 (Or.inl ⟨rfl, q2087⟩) rfl q78 rfl rfl ?_
  refine r_aload_n dX3_errorPosition_0 rfl ?_
  refine r_getfield dX3_errorPosition_1 fl_X3_26_9 (JG_410 _ _ _) rfl ?_
  refine r_iconst dX3_errorPosition_4 ki_m1 ?_
  refine r_icmp_ne (tgt := 16) dX3_errorPosition_5 rfl  (fun c5 => ?_) (fun c5 => ?_)
  · refine r_aload_n dX3_errorPosition_16 rfl ?_
    refine r_aload_n dX3_errorPosition_17 rfl ?_
    refine r_getfield dX3_errorPosition_18 fl_X3_26_9 (JG_410 _ _ _) rfl ?_
    refine r_invV dX3_errorPosition_21 (c_m_done S G r _) q1768 q1770 qs32 (JG_410 _ _ _) k9 pn_X3_done mh_X3_done rfl (by omega) (Nat.le_refl _) (Nat.le_refl _) (Nat.le_of_ble_eq_true rfl) (fun v21 h21 hq21 => ?_) (fun _ _ hq => hq.elim)
    obtain ⟨rfl, rfl⟩ := hq21
    refine r_ireturn dX3_errorPosition_24 rfl rfl ?_
    first
    | (exact Or.inl ⟨c5, rfl, rfl⟩)
    | (exact Or.inr ⟨c5, rfl, rfl⟩)
  · refine r_aload_n dX3_errorPosition_8 rfl ?_
    refine r_iconst dX3_errorPosition_9 ki_1 ?_
    refine r_invV dX3_errorPosition_10 (c_m_fails S G r (nI 1)) q1764 q1766 qs31 (JG_410 _ _ _) k9 pn_X3_fails mh_X3_fails rfl (by omega) (Nat.le_refl _) (Nat.le_refl _) (Nat.le_of_ble_eq_true rfl) (fun v10 h10 hq10 => ?_) (fun _ _ hq => hq.elim)
    obtain ⟨rfl, rfl⟩ := hq10
    refine r_goto (tgt := 24) dX3_errorPosition_13 rfl ?_
    refine r_ireturn dX3_errorPosition_24 rfl rfl ?_
    first
    | (exact Or.inl ⟨c5, rfl, rfl⟩)
    | (exact Or.inr ⟨c5, rfl, rfl⟩)
theorem c_m_failedCommand {E : EV} (S : MS) (G : Nat → Nat) (r : MH) : SM E yX3_failedCommand 1 [.ref 410] (JG S G r) 0 0 (fun o h' => (S.1 9 = -1 ∧ o = some (.int (nI 0)) ∧ h' = JG (ss S 12 (nI 1)) G r) ∨ (¬ S.1 9 = -1 ∧ o = some (.int (S.1 9)) ∧ h' = JG (ss S 12 (nI 0)) G r)) (fun _ _ => False) := by
  refine SM.of (cc := cX3_failedCommand) (nL := 1) (ret := (some .int)) (hh := []) (ls := [(0, .ref 410)]) pl_X3 (Or.inl ⟨rfl, q2091⟩) rfl q78 rfl rfl ?_
  refine r_aload_n dX3_failedCommand_0 rfl ?_
  refine r_getfield dX3_failedCommand_1 fl_X3_30_9 (JG_410 _ _ _) rfl ?_
  refine r_iconst dX3_failedCommand_4 ki_m1 ?_
  refine r_icmp_ne (tgt := 16) dX3_failedCommand_5 rfl  (fun c5 => ?_) (fun c5 => ?_)
  · refine r_aload_n dX3_failedCommand_16 rfl ?_
    refine r_aload_n dX3_failedCommand_17 rfl ?_
    refine r_getfield dX3_failedCommand_18 fl_X3_30_9 (JG_410 _ _ _) rfl ?_
    refine r_invV dX3_failedCommand_21 (c_m_done S G r _) q1768 q1770 qs32 (JG_410 _ _ _) k9 pn_X3_done mh_X3_done rfl (by omega) (Nat.le_refl _) (Nat.le_refl _) (Nat.le_of_ble_eq_true rfl) (fun v21 h21 hq21 => ?_) (fun _ _ hq => hq.elim)
    obtain ⟨rfl, rfl⟩ := hq21
    refine r_ireturn dX3_failedCommand_24 rfl rfl ?_
    first
    | (exact Or.inl ⟨c5, rfl, rfl⟩)
    | (exact Or.inr ⟨c5, rfl, rfl⟩)
  · refine r_aload_n dX3_failedCommand_8 rfl ?_
    refine r_iconst dX3_failedCommand_9 ki_1 ?_
    refine r_invV dX3_failedCommand_10 (c_m_fails S G r (nI 1)) q1764 q1766 qs31 (JG_410 _ _ _) k9 pn_X3_fails mh_X3_fails rfl (by omega) (Nat.le_refl _) (Nat.le_refl _) (Nat.le_of_ble_eq_true rfl) (fun v10 h10 hq10 => ?_) (fun _ _ hq => hq.elim)
    obtain ⟨rfl, rfl⟩ := hq10
    refine r_goto (tgt := 24) dX3_failedCommand_13 rfl ?_
    refine r_ireturn dX3_failedCommand_24 rfl rfl ?_
    first
    | (exact Or.inl ⟨c5, rfl, rfl⟩)
    | (exact Or.inr ⟨c5, rfl, rfl⟩)
theorem c_m_begin {E : EV} (S : MS) (G : Nat → Nat) (r : MH) : SM E yX3_begin 1 [.ref 410] (JG S G r) 0 0 (fun o h' => o = none ∧ h' = JG (sa S 1 (va_cpy G (S.2 1) 0 0 48)) G r) (fun _ _ => False) := by
  refine SM.of (cc := cX3_begin) (nL := 1) (ret := none) (hh := []) (ls := [(0, .ref 410)]) pl_X3 (Or.inl ⟨rfl, q1753⟩) rfl q78 rfl rfl ?_
  refine r_aload_n dX3_begin_0 rfl ?_
  refine r_getfield dX3_begin_1 fl_X3_7_9 (JG_410 _ _ _) rfl ?_
  refine r_iconst dX3_begin_4 ki_0 ?_
  refine r_aload_n dX3_begin_5 rfl ?_
  refine r_getfield dX3_begin_6 fl_X3_13_9 (JG_410 _ _ _) rfl ?_
  refine r_iconst dX3_begin_9 ki_0 ?_
  refine r_invS dX3_begin_10 (c_m_copy _ 411 412 48 48 0 0 G (S.2 1) (by decide) (by decide) (JG_411 _ _ _) (JG_412 _ _ _) (by omega) (by omega) (by decide) (by decide)) q1754 q1755 pn_X3_copy mh_X3_copy rfl (by omega) (Nat.le_refl _) (Nat.le_refl _) (Nat.le_of_ble_eq_true rfl) (fun v10 h10 hq10 => ?_) (fun _ _ hq => hq.elim)
  obtain ⟨rfl, rfl⟩ := hq10
  refine r_return dX3_begin_13 rfl ?_
  rw [JG_p1]
  exact ⟨rfl, rfl⟩
theorem l_m_kept71 {E : EV} {QR : Option Value → MH → Prop} {QX : Nat → MH → Prop} {d kc ks : Nat} (hd0 : 1 ≤ d) (S : MS) (G : Nat → Nat) (r : MH) (c1 : Nat) (v : Int32) (hc : c1 < 8) (h3 : S.1 3 = nI c1) (kk : QR (some (.int v)) (JG (ss (sa S 2 (va_cpy (S.2 1) (S.2 2) 0 (c1 * 48) 48)) 3 (nI (c1 + 1))) G r)) : SW E yX3_kept cX3_kept 3 (some .int) [] QR QX d kc ks (JG S G r) 71 [(0, .ref 410), (1, .int v)] [] := by
  refine r_aload_n dX3_kept_71 rfl ?_
  refine r_getfield dX3_kept_72 fl_X3_13_9 (JG_410 _ _ _) rfl ?_
  refine r_iconst dX3_kept_75 ki_0 ?_
  refine r_aload_n dX3_kept_76 rfl ?_
  refine r_getfield dX3_kept_77 fl_X3_16_9 (JG_410 _ _ _) rfl ?_
  refine r_aload_n dX3_kept_80 rfl ?_
  refine r_getfield dX3_kept_81 fl_X3_49_9 (JG_410 _ _ _) rfl ?_
  refine r_ti h3 ?_
  refine r_bipush dX3_kept_84 kb_48 ?_
  refine rn_imul dX3_kept_86 ?_
  refine r_invS dX3_kept_87 (c_m_copy _ 412 413 48 384 0 (c1 * 48) (S.2 1) (S.2 2) (by decide) (by decide) (JG_412 _ _ _) (JG_413 _ _ _) (by omega) (by omega) (by decide) (by decide)) q1754 q1755 pn_X3_copy mh_X3_copy rfl (by omega) (Nat.le_refl _) (Nat.le_refl _) (Nat.le_of_ble_eq_true rfl) (fun v87 h87 hq87 => ?_) (fun _ _ hq => hq.elim)
  obtain ⟨rfl, rfl⟩ := hq87
  rw [JG_p2]
  refine r_aload_n dX3_kept_90 rfl ?_
  refine r_dup dX3_kept_91 rfl ?_
  refine r_getfield dX3_kept_92 fl_X3_49_9 (JG_410 _ _ _) rfl ?_
  refine r_ti (v := nI c1) h3 ?_
  refine r_iconst dX3_kept_95 ki_1 ?_
  refine rn_iadd dX3_kept_96 ?_
  refine rg_put3 dX3_kept_97 fp_X3_49_9 rfl rfl ?_
  refine r_iload_n dX3_kept_100 rfl ?_
  refine r_ireturn dX3_kept_101 rfl rfl ?_
  exact kk
theorem l_m_kept33 {E : EV} {QR : Option Value → MH → Prop} {QX : Nat → MH → Prop} {d kc ks : Nat} (S : MS) (G : Nat → Nat) (r : MH) (v : Int32) (H : Nat → Nat) (kk : SW E yX3_kept cX3_kept 3 (some .int) [] QR QX d kc ks (JG (sa S 2 (va_cpy H H 48 0 336)) G r) 61 [(0, .ref 410), (1, .int v), (2, .int (nI 336))] []) : ∀ (n0 k : Nat), k ≤ 336 → 337 ≤ n0 + k → SW E yX3_kept cX3_kept 3 (some .int) [] QR QX d kc ks (JG (sa S 2 (va_cpy H H 48 0 k)) G r) 33 [(0, .ref 410), (1, .int v), (2, .int (nI k))] [] := by
  intro n0
  induction n0 with
  | zero => intro k h1 h2; omega
  | succ n0 ih =>
    intro k h1 h2
    refine r_iload_n dX3_kept_33 rfl ?_
    refine r_sipush dX3_kept_34 ks_336 ?_
    refine rn_icmp_ge (tgt := 61) dX3_kept_37 rfl (by omega) (by omega) (fun hc => ?_) (fun hc => ?_)
    · have e : k = 336 := by omega
      rw [e]
      exact kk
    · refine r_aload_n dX3_kept_40 rfl ?_
      refine r_getfield dX3_kept_41 fl_X3_16_9 (JG_410 _ _ _) rfl ?_
      refine r_iload_n dX3_kept_44 rfl ?_
      refine r_aload_n dX3_kept_45 rfl ?_
      refine r_getfield dX3_kept_46 fl_X3_16_9 (JG_410 _ _ _) rfl ?_
      refine r_iload_n dX3_kept_49 rfl ?_
      refine r_bipush dX3_kept_50 kb_48 ?_
      refine rn_iadd dX3_kept_52 ?_
      refine rn_iaload dX3_kept_53 (JG_413 _ _ _) (by omega) (by omega) ?_
      rw [sa_at, pk_cpy_out (show k + 48 < 0 ∨ 0 + k ≤ k + 48 by omega)]
      refine rg_ias2 dX3_kept_54 (by omega) ?_
      refine r_heap (h' := JG (sa S 2 (va_cpy H H 48 0 (k + 1))) G r) (by rw [sa_at, sa_sa]; exact congrArg (fun A => JG (sa S 2 A) G r) (funext fun j => by have e := cpy_up H H 48 0 k j; rw [Nat.zero_add, Nat.add_comm 48 k] at e; exact e)) ?_
      refine rn_iinc (n := 1) (ls' := [(0, _), (1, _), (2, _)]) dX3_kept_55 rfl rfl rfl ?_
      refine r_goto (tgt := 33) dX3_kept_58 rfl ?_
      exact ih (k + 1) (by omega) (by omega)
theorem c_m_kept {E : EV} (S : MS) (G : Nat → Nat) (r : MH) (G0 : Nat → Nat) (code c : Nat) (v : Int32) (hcd : code < 2 ^ 30) (h12 : S.1 12 = nI code) (h3 : S.1 3 = nI c) (hc : c ≤ 8) (hb : eq48 (S.2 1) G0) : SM E yX3_kept 1 [.ref 410, .int v] (JG S G r) 0 0 (fun o h' => (code = 0 ∧ o = some (.int v) ∧ ∃ H, hpu c (S.2 2) G0 H ∧ h' = JG (ss (sa S 2 H) 3 (nI (ncn c))) G r) ∨ (¬ code = 0 ∧ o = some (.int (nI 0)) ∧ ∃ G2, eq48 G2 G0 ∧ h' = JG S G2 r)) (fun _ _ => False) := by
  refine SM.of (cc := cX3_kept) (nL := 3) (ret := (some .int)) (hh := []) (ls := [(0, .ref 410), (1, .int v)]) pl_X3 (Or.inl ⟨rfl, q1775⟩) rfl q78 rfl rfl ?_
  refine r_aload_n dX3_kept_0 rfl ?_
  refine r_getfield dX3_kept_1 fl_X3_42_9 (JG_410 _ _ _) rfl ?_
  refine r_ti h12 ?_
  refine rn_if_eq (tgt := 22) dX3_kept_4 rfl (by omega) (fun c4 => ?_) (fun c4 => ?_)
  · refine r_aload_n dX3_kept_22 rfl ?_
    refine r_getfield dX3_kept_23 fl_X3_49_9 (JG_410 _ _ _) rfl ?_
    refine r_ti h3 ?_
    refine r_bipush dX3_kept_26 kb_8 ?_
    refine rn_icmp_ne (tgt := 71) dX3_kept_28 rfl (by omega) (by omega) (fun c28 => ?_) (fun c28 => ?_)
    · first
      | (have q8 : ¬ c = 8 := c28
         refine l_m_kept71 (by decide) S G r c v (by omega) h3 ?_
         refine Or.inl ⟨c4, rfl, va_cpy (S.2 1) (S.2 2) 0 (c * 48) 48, ?_, ?_⟩
         · refine ⟨fun j hj => ?_, fun i j hj hi => ?_⟩
           · rw [ncn, if_neg c28, pk_cpy_in (by omega) (by omega), show 0 + ((c + 1 - 1) * 48 + j - c * 48) = j by omega]
             exact hb j hj
           · rw [ncn, if_neg c28] at hi
             rw [pk_cpy_out (by omega), if_neg c28, Nat.add_zero]
         · rw [ncn, if_neg c28])
      | (refine r_drop (a := [(0, _), (1, _)]) (b := [(2, _)]) ?_
         refine l_m_kept71 (by decide) (ss (sa S 2 (va_cpy (S.2 2) (S.2 2) 48 0 336)) 3 (nI (c - 1))) G r 7 v (by decide) (by rw [c28]; exact ss_at _ _ _) ?_
         refine Or.inl ⟨c4, rfl, va_cpy (S.2 1) (va_cpy (S.2 2) (S.2 2) 48 0 336) 0 (7 * 48) 48, ?_, ?_⟩
         · refine ⟨fun j hj => ?_, fun i j hj hi => ?_⟩
           · rw [ncn, if_pos c28, pk_cpy_in (by omega) (by omega), show 0 + ((8 - 1) * 48 + j - 7 * 48) = j by omega]
             exact hb j hj
           · rw [ncn, if_pos c28] at hi
             rw [pk_cpy_out (by omega), pk_cpy_in (by omega) (by omega), if_pos c28, show 48 + (i * 48 + j - 0) = (i + 1) * 48 + j by omega]
         · rw [ncn, if_pos c28, show ((ss (sa S 2 (va_cpy (S.2 2) (S.2 2) 48 0 336)) 3 (nI (c - 1))).2 2) = va_cpy (S.2 2) (S.2 2) 48 0 336 from sa_at S 2 (va_cpy (S.2 2) (S.2 2) 48 0 336), show ((ss (sa S 2 (va_cpy (S.2 2) (S.2 2) 48 0 336)) 3 (nI (c - 1))).2 1) = S.2 1 from sa_ne S (va_cpy (S.2 2) (S.2 2) 48 0 336) (i := 2) (j := 1) (by decide)]
           rw [show sa (ss (sa S 2 (va_cpy (S.2 2) (S.2 2) 48 0 336)) 3 (nI (c - 1))) 2 (va_cpy (S.2 1) (va_cpy (S.2 2) (S.2 2) 48 0 336) 0 (7 * 48) 48) = ss (sa S 2 (va_cpy (S.2 1) (va_cpy (S.2 2) (S.2 2) 48 0 336) 0 (7 * 48) 48)) 3 (nI (c - 1)) by rw [ss_sa, ss_sa, sa_sa], ss_ss])
    · refine r_iconst dX3_kept_31 ki_0 ?_
      refine r_istore_n (ls' := [(0, _), (1, _), (2, _)]) dX3_kept_32 rfl rfl ?_
      refine r_heap (h' := JG (sa S 2 (va_cpy (S.2 2) (S.2 2) 48 0 0)) G r) (by rw [cpy_0, sa_self]) ?_
      refine l_m_kept33 S G r v (S.2 2) ?_ 337 0 (by decide) (by decide)
      refine r_aload_n dX3_kept_61 rfl ?_
      refine r_dup dX3_kept_62 rfl ?_
      refine r_getfield dX3_kept_63 fl_X3_49_9 (JG_410 _ _ _) rfl ?_
      refine r_ti (v := nI c) h3 ?_
      refine r_iconst dX3_kept_66 ki_1 ?_
      refine rn_isub dX3_kept_67 (by omega) ?_
      refine rg_put3 dX3_kept_68 fp_X3_49_9 rfl rfl ?_
      first
      | (have q8 : ¬ c = 8 := c28
         refine l_m_kept71 (by decide) S G r c v (by omega) h3 ?_
         refine Or.inl ⟨c4, rfl, va_cpy (S.2 1) (S.2 2) 0 (c * 48) 48, ?_, ?_⟩
         · refine ⟨fun j hj => ?_, fun i j hj hi => ?_⟩
           · rw [ncn, if_neg c28, pk_cpy_in (by omega) (by omega), show 0 + ((c + 1 - 1) * 48 + j - c * 48) = j by omega]
             exact hb j hj
           · rw [ncn, if_neg c28] at hi
             rw [pk_cpy_out (by omega), if_neg c28, Nat.add_zero]
         · rw [ncn, if_neg c28])
      | (refine r_drop (a := [(0, _), (1, _)]) (b := [(2, _)]) ?_
         refine l_m_kept71 (by decide) (ss (sa S 2 (va_cpy (S.2 2) (S.2 2) 48 0 336)) 3 (nI (c - 1))) G r 7 v (by decide) (by rw [c28]; exact ss_at _ _ _) ?_
         refine Or.inl ⟨c4, rfl, va_cpy (S.2 1) (va_cpy (S.2 2) (S.2 2) 48 0 336) 0 (7 * 48) 48, ?_, ?_⟩
         · refine ⟨fun j hj => ?_, fun i j hj hi => ?_⟩
           · rw [ncn, if_pos c28, pk_cpy_in (by omega) (by omega), show 0 + ((8 - 1) * 48 + j - 7 * 48) = j by omega]
             exact hb j hj
           · rw [ncn, if_pos c28] at hi
             rw [pk_cpy_out (by omega), pk_cpy_in (by omega) (by omega), if_pos c28, show 48 + (i * 48 + j - 0) = (i + 1) * 48 + j by omega]
         · rw [ncn, if_pos c28, show ((ss (sa S 2 (va_cpy (S.2 2) (S.2 2) 48 0 336)) 3 (nI (c - 1))).2 2) = va_cpy (S.2 2) (S.2 2) 48 0 336 from sa_at S 2 (va_cpy (S.2 2) (S.2 2) 48 0 336), show ((ss (sa S 2 (va_cpy (S.2 2) (S.2 2) 48 0 336)) 3 (nI (c - 1))).2 1) = S.2 1 from sa_ne S (va_cpy (S.2 2) (S.2 2) 48 0 336) (i := 2) (j := 1) (by decide)]
           rw [show sa (ss (sa S 2 (va_cpy (S.2 2) (S.2 2) 48 0 336)) 3 (nI (c - 1))) 2 (va_cpy (S.2 1) (va_cpy (S.2 2) (S.2 2) 48 0 336) 0 (7 * 48) 48) = ss (sa S 2 (va_cpy (S.2 1) (va_cpy (S.2 2) (S.2 2) 48 0 336) 0 (7 * 48) 48)) 3 (nI (c - 1)) by rw [ss_sa, ss_sa, sa_sa], ss_ss])
  · refine r_aload_n dX3_kept_7 rfl ?_
    refine r_getfield dX3_kept_8 fl_X3_13_9 (JG_410 _ _ _) rfl ?_
    refine r_iconst dX3_kept_11 ki_0 ?_
    refine r_aload_n dX3_kept_12 rfl ?_
    refine r_getfield dX3_kept_13 fl_X3_7_9 (JG_410 _ _ _) rfl ?_
    refine r_iconst dX3_kept_16 ki_0 ?_
    refine r_invS dX3_kept_17 (c_m_copy _ 412 411 48 48 0 0 (S.2 1) G (by decide) (by decide) (JG_412 _ _ _) (JG_411 _ _ _) (by omega) (by omega) (by decide) (by decide)) q1754 q1755 pn_X3_copy mh_X3_copy rfl (by omega) (Nat.le_refl _) (Nat.le_refl _) (Nat.le_of_ble_eq_true rfl) (fun v17 h17 hq17 => ?_) (fun _ _ hq => hq.elim)
    obtain ⟨rfl, rfl⟩ := hq17
    refine r_iconst dX3_kept_20 ki_0 ?_
    refine r_ireturn dX3_kept_21 rfl rfl ?_
    rw [JG_p0]
    exact Or.inr ⟨c4, rfl, _, fun j hj => (eq48_cpy _ _ j hj).trans (hb j hj), rfl⟩
