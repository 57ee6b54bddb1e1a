set_option maxRecDepth 100000
theorem c_m_pendulumCount {E : EV} (S : MS) (G : Nat → Nat) (r : MH) (hG : gOK G) : SM E yX3_pendulumCount 1 [.ref 410] (JG S G r) 0 0 (fun o h' => o = some (.int (nI (G 2))) ∧ h' = JG (ss S 12 (nI 0)) G r) (fun _ _ => False) := by
  refine SM.of (cc := cX3_pendulumCount) (nL := 1) (ret := (some .int)) (hh := []) (ls := [(0, .ref 410)]) pl_X3 (Or.inl ⟨rfl, q1835⟩) rfl q78 rfl rfl ?_
  refine r_aload_n dX3_pendulumCount_0 rfl ?_
  refine r_aload_n dX3_pendulumCount_1 rfl ?_
  refine r_getfield dX3_pendulumCount_2 fl_X3_7_9 (JG_410 _ _ _) rfl ?_
  refine r_iconst dX3_pendulumCount_5 ki_2 ?_
  refine rn_iaload dX3_pendulumCount_6 (JG_411 _ _ _) (by omega) (by omega) ?_
  refine r_invV dX3_pendulumCount_7 (c_m_done S G r (nI (G 2))) q1768 q1770 qs32 (JG_410 _ _ _) k9 pn_X3_done mh_X3_done rfl (by omega) (Nat.le_refl _) (Nat.le_refl _) (Nat.le_of_ble_eq_true rfl) (fun v7 h7 hq7 => ?_) (fun _ _ hq => hq.elim)
  obtain ⟨rfl, rfl⟩ := hq7
  refine r_ireturn dX3_pendulumCount_10 rfl rfl ?_
  exact ⟨rfl, rfl⟩
theorem c_m_clock {E : EV} (S : MS) (G : Nat → Nat) (r : MH) (hG : gOK G) : SM E yX3_clock 1 [.ref 410] (JG S G r) 0 0 (fun o h' => o = some (.int (nI (G 0))) ∧ h' = JG (ss S 12 (nI 0)) G r) (fun _ _ => False) := by
  refine SM.of (cc := cX3_clock) (nL := 1) (ret := (some .int)) (hh := []) (ls := [(0, .ref 410)]) pl_X3 (Or.inl ⟨rfl, q1872⟩) rfl q78 rfl rfl ?_
  refine r_aload_n dX3_clock_0 rfl ?_
  refine r_aload_n dX3_clock_1 rfl ?_
  refine r_getfield dX3_clock_2 fl_X3_7_9 (JG_410 _ _ _) rfl ?_
  refine r_iconst dX3_clock_5 ki_0 ?_
  refine rn_iaload dX3_clock_6 (JG_411 _ _ _) (by omega) (by omega) ?_
  refine r_invV dX3_clock_7 (c_m_done S G r (nI (G 0))) q1768 q1770 qs32 (JG_410 _ _ _) k9 pn_X3_done mh_X3_done rfl (by omega) (Nat.le_refl _) (Nat.le_refl _) (Nat.le_of_ble_eq_true rfl) (fun v7 h7 hq7 => ?_) (fun _ _ hq => hq.elim)
  obtain ⟨rfl, rfl⟩ := hq7
  refine r_ireturn dX3_clock_10 rfl rfl ?_
  exact ⟨rfl, rfl⟩
theorem c_m_friction {E : EV} (S : MS) (G : Nat → Nat) (r : MH) (hG : gOK G) : SM E yX3_friction 1 [.ref 410] (JG S G r) 0 0 (fun o h' => o = some (.int (nI (G 1))) ∧ h' = JG (ss S 12 (nI 0)) G r) (fun _ _ => False) := by
  refine SM.of (cc := cX3_friction) (nL := 1) (ret := (some .int)) (hh := []) (ls := [(0, .ref 410)]) pl_X3 (Or.inl ⟨rfl, q1876⟩) rfl q78 rfl rfl ?_
  refine r_aload_n dX3_friction_0 rfl ?_
  refine r_aload_n dX3_friction_1 rfl ?_
  refine r_getfield dX3_friction_2 fl_X3_7_9 (JG_410 _ _ _) rfl ?_
  refine r_iconst dX3_friction_5 ki_1 ?_
  refine rn_iaload dX3_friction_6 (JG_411 _ _ _) (by omega) (by omega) ?_
  refine r_invV dX3_friction_7 (c_m_done S G r (nI (G 1))) q1768 q1770 qs32 (JG_410 _ _ _) k9 pn_X3_done mh_X3_done rfl (by omega) (Nat.le_refl _) (Nat.le_refl _) (Nat.le_of_ble_eq_true rfl) (fun v7 h7 hq7 => ?_) (fun _ _ hq => hq.elim)
  obtain ⟨rfl, rfl⟩ := hq7
  refine r_ireturn dX3_friction_10 rfl rfl ?_
  exact ⟨rfl, rfl⟩
theorem c_m_pendulumNumber {E : EV} (S : MS) (G : Nat → Nat) (r : MH) (a : Nat) (x : Int32) (hG : gOK G) (ha : a ≤ 40) : SM E yX3_pendulumNumber 2 [.ref 410, .int (nI a), .int x] (JG S G r) 0 0 (fun o h' => o = some (.int (sp_num G a x).2) ∧ h' = JG (ss S 12 (nI (sp_num G a x).1)) G r) (fun _ _ => False) := by
  obtain ⟨hg0, hg1, hg2, hg3, hgp, hgr, hgw⟩ := id hG
  refine SM.of (cc := cX3_pendulumNumber) (nL := 3) (ret := (some .int)) (hh := []) (ls := [(0, .ref 410), (1, .int (nI a)), (2, .int x)]) pl_X3 (Or.inl ⟨rfl, q1843⟩) rfl q78 rfl rfl ?_
  refine r_aload_n dX3_pendulumNumber_0 rfl ?_
  refine r_iload_n dX3_pendulumNumber_1 rfl ?_
  refine r_invV dX3_pendulumNumber_2 (c_m_isPendulum S G r x hg2) q1784 q1786 qs35 (JG_410 _ _ _) k9 pn_X3_isPendulum mh_X3_isPendulum rfl (by omega) (Nat.le_refl _) (Nat.le_refl _) (Nat.le_of_ble_eq_true rfl) (fun v2 h2 hq2 => ?_) (fun _ _ hq => hq.elim)
  obtain ⟨rfl, rfl⟩ := hq2
  refine rb_if_eq (tgt := 23) dX3_pendulumNumber_5 rfl  (fun c5 => ?_) (fun c5 => ?_)
  · refine r_aload_n dX3_pendulumNumber_23 rfl ?_
    refine r_iconst dX3_pendulumNumber_24 ki_1 ?_
    refine r_invV dX3_pendulumNumber_25 (c_m_fails S G r (nI 1)) q1764 q1766 qs31 (JG_410 _ _ _) k9 pn_X3_fails mh_X3_fails rfl (by omega) (Nat.le_refl _) (Nat.le_refl _) (Nat.le_of_ble_eq_true rfl) (fun v25 h25 hq25 => ?_) (fun _ _ hq => hq.elim)
    obtain ⟨rfl, rfl⟩ := hq25
    refine r_ireturn dX3_pendulumNumber_28 rfl rfl ?_
    first
    | (rw [sp_num, if_pos c5, nI_clamp (show p < 2 ^ 31 by omega)]
       exact ⟨rfl, rfl⟩)
    | (rw [sp_num, if_neg c5]
       exact ⟨rfl, rfl⟩)
  · obtain ⟨p, hp, rfl⟩ := ix_of (by omega) c5
    have hg_p := hgp p (by omega)
    refine r_aload_n dX3_pendulumNumber_8 rfl ?_
    refine r_aload_n dX3_pendulumNumber_9 rfl ?_
    refine r_getfield dX3_pendulumNumber_10 fl_X3_7_9 (JG_410 _ _ _) rfl ?_
    refine r_iload_n dX3_pendulumNumber_13 rfl ?_
    refine r_iload_n dX3_pendulumNumber_14 rfl ?_
    refine rn_iadd dX3_pendulumNumber_15 ?_
    refine rn_iaload dX3_pendulumNumber_16 (JG_411 _ _ _) (by omega) (by omega) ?_
    refine r_invV dX3_pendulumNumber_17 (c_m_done S G r (nI (G (a + p)))) q1768 q1770 qs32 (JG_410 _ _ _) k9 pn_X3_done mh_X3_done rfl (by omega) (Nat.le_refl _) (Nat.le_refl _) (Nat.le_of_ble_eq_true rfl) (fun v17 h17 hq17 => ?_) (fun _ _ hq => hq.elim)
    obtain ⟨rfl, rfl⟩ := hq17
    refine r_goto (tgt := 28) dX3_pendulumNumber_20 rfl ?_
    refine r_ireturn dX3_pendulumNumber_28 rfl rfl ?_
    first
    | (rw [sp_num, if_pos c5, nI_clamp (show p < 2 ^ 31 by omega)]
       exact ⟨rfl, rfl⟩)
    | (rw [sp_num, if_neg c5]
       exact ⟨rfl, rfl⟩)
theorem c_m_lengthOf {E : EV} (S : MS) (G : Nat → Nat) (r : MH) (x : Int32) (hG : gOK G) : SM E yX3_lengthOf 3 [.ref 410, .int x] (JG S G r) 0 0 (fun o h' => o = some (.int (sp_num G 4 x).2) ∧ h' = JG (ss S 12 (nI (sp_num G 4 x).1)) G r) (fun _ _ => False) := by
  refine SM.of (cc := cX3_lengthOf) (nL := 2) (ret := (some .int)) (hh := []) (ls := [(0, .ref 410), (1, .int x)]) pl_X3 (Or.inl ⟨rfl, q1839⟩) rfl q78 rfl rfl ?_
  refine r_aload_n dX3_lengthOf_0 rfl ?_
  refine r_iconst dX3_lengthOf_1 ki_4 ?_
  refine r_iload_n dX3_lengthOf_2 rfl ?_
  refine r_invV dX3_lengthOf_3 (c_m_pendulumNumber S G r 4 x hG (by decide)) q1840 q1842 qs44 (JG_410 _ _ _) k9 pn_X3_pendulumNumber mh_X3_pendulumNumber rfl (by omega) (Nat.le_refl _) (Nat.le_refl _) (Nat.le_of_ble_eq_true rfl) (fun v3 h3 hq3 => ?_) (fun _ _ hq => hq.elim)
  obtain ⟨rfl, rfl⟩ := hq3
  refine r_ireturn dX3_lengthOf_6 rfl rfl ?_
  exact ⟨rfl, rfl⟩
theorem c_m_amplitudeOf {E : EV} (S : MS) (G : Nat → Nat) (r : MH) (x : Int32) (hG : gOK G) : SM E yX3_amplitudeOf 3 [.ref 410, .int x] (JG S G r) 0 0 (fun o h' => o = some (.int (sp_num G 12 x).2) ∧ h' = JG (ss S 12 (nI (sp_num G 12 x).1)) G r) (fun _ _ => False) := by
  refine SM.of (cc := cX3_amplitudeOf) (nL := 2) (ret := (some .int)) (hh := []) (ls := [(0, .ref 410), (1, .int x)]) pl_X3 (Or.inl ⟨rfl, q1851⟩) rfl q78 rfl rfl ?_
  refine r_aload_n dX3_amplitudeOf_0 rfl ?_
  refine r_bipush dX3_amplitudeOf_1 kb_12 ?_
  refine r_iload_n dX3_amplitudeOf_3 rfl ?_
  refine r_invV dX3_amplitudeOf_4 (c_m_pendulumNumber S G r 12 x hG (by decide)) q1840 q1842 qs44 (JG_410 _ _ _) k9 pn_X3_pendulumNumber mh_X3_pendulumNumber rfl (by omega) (Nat.le_refl _) (Nat.le_refl _) (Nat.le_of_ble_eq_true rfl) (fun v4 h4 hq4 => ?_) (fun _ _ hq => hq.elim)
  obtain ⟨rfl, rfl⟩ := hq4
  refine r_ireturn dX3_amplitudeOf_7 rfl rfl ?_
  exact ⟨rfl, rfl⟩
theorem c_m_swingsOf {E : EV} (S : MS) (G : Nat → Nat) (r : MH) (x : Int32) (hG : gOK G) : SM E yX3_swingsOf 3 [.ref 410, .int x] (JG S G r) 0 0 (fun o h' => o = some (.int (sp_num G 28 x).2) ∧ h' = JG (ss S 12 (nI (sp_num G 28 x).1)) G r) (fun _ _ => False) := by
  refine SM.of (cc := cX3_swingsOf) (nL := 2) (ret := (some .int)) (hh := []) (ls := [(0, .ref 410), (1, .int x)]) pl_X3 (Or.inl ⟨rfl, q1868⟩) rfl q78 rfl rfl ?_
  refine r_aload_n dX3_swingsOf_0 rfl ?_
  refine r_bipush dX3_swingsOf_1 kb_28 ?_
  refine r_iload_n dX3_swingsOf_3 rfl ?_
  refine r_invV dX3_swingsOf_4 (c_m_pendulumNumber S G r 28 x hG (by decide)) q1840 q1842 qs44 (JG_410 _ _ _) k9 pn_X3_pendulumNumber mh_X3_pendulumNumber rfl (by omega) (Nat.le_refl _) (Nat.le_refl _) (Nat.le_of_ble_eq_true rfl) (fun v4 h4 hq4 => ?_) (fun _ _ hq => hq.elim)
  obtain ⟨rfl, rfl⟩ := hq4
  refine r_ireturn dX3_swingsOf_7 rfl rfl ?_
  exact ⟨rfl, rfl⟩
theorem c_m_classOf {E : EV} (S : MS) (G : Nat → Nat) (r : MH) (x : Int32) (hG : gOK G) : SM E yX3_classOf 2 [.ref 410, .int x] (JG S G r) 0 0 (fun o h' => o = some (.int (sp_class G x).2) ∧ h' = JG (ss S 12 (nI (sp_class G x).1)) G r) (fun _ _ => False) := by
  obtain ⟨hg0, hg1, hg2, hg3, hgp, hgr, hgw⟩ := id hG
  refine SM.of (cc := cX3_classOf) (nL := 2) (ret := (some .int)) (hh := []) (ls := [(0, .ref 410), (1, .int x)]) pl_X3 (Or.inl ⟨rfl, q1847⟩) rfl q78 rfl rfl ?_
  refine r_aload_n dX3_classOf_0 rfl ?_
  refine r_iload_n dX3_classOf_1 rfl ?_
  refine r_invV dX3_classOf_2 (c_m_isPendulum S G r x hg2) q1784 q1786 qs35 (JG_410 _ _ _) k9 pn_X3_isPendulum mh_X3_isPendulum rfl (by omega) (Nat.le_refl _) (Nat.le_refl _) (Nat.le_of_ble_eq_true rfl) (fun v2 h2 hq2 => ?_) (fun _ _ hq => hq.elim)
  obtain ⟨rfl, rfl⟩ := hq2
  refine rb_if_eq (tgt := 20) dX3_classOf_5 rfl  (fun c5 => ?_) (fun c5 => ?_)
  · refine r_aload_n dX3_classOf_20 rfl ?_
    refine r_iconst dX3_classOf_21 ki_1 ?_
    refine r_invV dX3_classOf_22 (c_m_fails S G r (nI 1)) q1764 q1766 qs31 (JG_410 _ _ _) k9 pn_X3_fails mh_X3_fails rfl (by omega) (Nat.le_refl _) (Nat.le_refl _) (Nat.le_of_ble_eq_true rfl) (fun v22 h22 hq22 => ?_) (fun _ _ hq => hq.elim)
    obtain ⟨rfl, rfl⟩ := hq22
    refine r_ireturn dX3_classOf_25 rfl rfl ?_
    first
    | (rw [sp_class, if_pos c5, nI_clamp (show p < 2 ^ 31 by omega)]
       exact ⟨rfl, rfl⟩)
    | (rw [sp_class, if_neg c5]
       exact ⟨rfl, rfl⟩)
  · obtain ⟨p, hp, rfl⟩ := ix_of (by omega) c5
    have hg_p := hgp p (by omega)
    refine r_aload_n dX3_classOf_8 rfl ?_
    refine r_aload_n dX3_classOf_9 rfl ?_
    refine r_iload_n dX3_classOf_10 rfl ?_
    refine r_invV dX3_classOf_11 (c_m_kind S G r p (by omega) (by omega)) q1792 q1794 qs37 (JG_410 _ _ _) k9 pn_X3_kind mh_X3_kind rfl (by omega) (Nat.le_refl _) (Nat.le_refl _) (Nat.le_of_ble_eq_true rfl) (fun v11 h11 hq11 => ?_) (fun _ _ hq => hq.elim)
    obtain ⟨rfl, rfl⟩ := hq11
    refine r_invV dX3_classOf_14 (c_m_done S G r _) q1768 q1770 qs32 (JG_410 _ _ _) k9 pn_X3_done mh_X3_done rfl (by omega) (Nat.le_refl _) (Nat.le_refl _) (Nat.le_of_ble_eq_true rfl) (fun v14 h14 hq14 => ?_) (fun _ _ hq => hq.elim)
    obtain ⟨rfl, rfl⟩ := hq14
    refine r_goto (tgt := 25) dX3_classOf_17 rfl ?_
    refine r_ireturn dX3_classOf_25 rfl rfl ?_
    first
    | (rw [sp_class, if_pos c5, nI_clamp (show p < 2 ^ 31 by omega)]
       exact ⟨rfl, rfl⟩)
    | (rw [sp_class, if_neg c5]
       exact ⟨rfl, rfl⟩)
theorem c_m_periodOf {E : EV} (S : MS) (G : Nat → Nat) (r : MH) (x : Int32) (hG : gOK G) : SM E yX3_periodOf 2 [.ref 410, .int x] (JG S G r) 0 0 (fun o h' => o = some (.int (sp_period G x).2) ∧ h' = JG (ss S 12 (nI (sp_period G x).1)) G r) (fun _ _ => False) := by
  obtain ⟨hg0, hg1, hg2, hg3, hgp, hgr, hgw⟩ := id hG
  refine SM.of (cc := cX3_periodOf) (nL := 2) (ret := (some .int)) (hh := []) (ls := [(0, .ref 410), (1, .int x)]) pl_X3 (Or.inl ⟨rfl, q1859⟩) rfl q78 rfl rfl ?_
  refine r_aload_n dX3_periodOf_0 rfl ?_
  refine r_iload_n dX3_periodOf_1 rfl ?_
  refine r_invV dX3_periodOf_2 (c_m_isPendulum S G r x hg2) q1784 q1786 qs35 (JG_410 _ _ _) k9 pn_X3_isPendulum mh_X3_isPendulum rfl (by omega) (Nat.le_refl _) (Nat.le_refl _) (Nat.le_of_ble_eq_true rfl) (fun v2 h2 hq2 => ?_) (fun _ _ hq => hq.elim)
  obtain ⟨rfl, rfl⟩ := hq2
  refine rb_if_eq (tgt := 20) dX3_periodOf_5 rfl  (fun c5 => ?_) (fun c5 => ?_)
  · refine r_aload_n dX3_periodOf_20 rfl ?_
    refine r_iconst dX3_periodOf_21 ki_1 ?_
    refine r_invV dX3_periodOf_22 (c_m_fails S G r (nI 1)) q1764 q1766 qs31 (JG_410 _ _ _) k9 pn_X3_fails mh_X3_fails rfl (by omega) (Nat.le_refl _) (Nat.le_refl _) (Nat.le_of_ble_eq_true rfl) (fun v22 h22 hq22 => ?_) (fun _ _ hq => hq.elim)
    obtain ⟨rfl, rfl⟩ := hq22
    refine r_ireturn dX3_periodOf_25 rfl rfl ?_
    first
    | (rw [sp_period, if_pos c5, nI_clamp (show p < 2 ^ 31 by omega)]
       exact ⟨rfl, rfl⟩)
    | (rw [sp_period, if_neg c5]
       exact ⟨rfl, rfl⟩)
  · obtain ⟨p, hp, rfl⟩ := ix_of (by omega) c5
    have hg_p := hgp p (by omega)
    refine r_aload_n dX3_periodOf_8 rfl ?_
    refine r_aload_n dX3_periodOf_9 rfl ?_
    refine r_iload_n dX3_periodOf_10 rfl ?_
    refine r_invV dX3_periodOf_11 (c_m_period S G r p (by omega) (by omega)) q1824 q1826 qs42 (JG_410 _ _ _) k9 pn_X3_period mh_X3_period rfl (by omega) (Nat.le_refl _) (Nat.le_refl _) (Nat.le_of_ble_eq_true rfl) (fun v11 h11 hq11 => ?_) (fun _ _ hq => hq.elim)
    obtain ⟨rfl, rfl⟩ := hq11
    refine r_invV dX3_periodOf_14 (c_m_done S G r _) q1768 q1770 qs32 (JG_410 _ _ _) k9 pn_X3_done mh_X3_done rfl (by omega) (Nat.le_refl _) (Nat.le_refl _) (Nat.le_of_ble_eq_true rfl) (fun v14 h14 hq14 => ?_) (fun _ _ hq => hq.elim)
    obtain ⟨rfl, rfl⟩ := hq14
    refine r_goto (tgt := 25) dX3_periodOf_17 rfl ?_
    refine r_ireturn dX3_periodOf_25 rfl rfl ?_
    first
    | (rw [sp_period, if_pos c5, nI_clamp (show p < 2 ^ 31 by omega)]
       exact ⟨rfl, rfl⟩)
    | (rw [sp_period, if_neg c5]
       exact ⟨rfl, rfl⟩)
theorem c_m_periodByEstimates {E : EV} (S : MS) (G : Nat → Nat) (r : MH) (x : Int32) (hG : gOK G) : SM E yX3_periodByEstimates 3 [.ref 410, .int x] (JG S G r) 0 0 (fun o h' => o = some (.int (sp_period G x).2) ∧ h' = JG (ss S 12 (nI (sp_period G x).1)) G r) (fun _ _ => False) := by
  refine SM.of (cc := cX3_periodByEstimates) (nL := 2) (ret := (some .int)) (hh := []) (ls := [(0, .ref 410), (1, .int x)]) pl_X3 (Or.inl ⟨rfl, q1863⟩) rfl q78 rfl rfl ?_
  refine r_aload_n dX3_periodByEstimates_0 rfl ?_
  refine r_iload_n dX3_periodByEstimates_1 rfl ?_
  refine r_invV dX3_periodByEstimates_2 (c_m_periodOf S G r x hG) q1864 q1857 q1858 (JG_410 _ _ _) k9 pn_X3_periodOf mh_X3_periodOf rfl (by omega) (Nat.le_refl _) (Nat.le_refl _) (Nat.le_of_ble_eq_true rfl) (fun v2 h2 hq2 => ?_) (fun _ _ hq => hq.elim)
  obtain ⟨rfl, rfl⟩ := hq2
  refine r_ireturn dX3_periodByEstimates_5 rfl rfl ?_
  exact ⟨rfl, rfl⟩
theorem c_m_startOf {E : EV} (S : MS) (G : Nat → Nat) (r : MH) (x : Int32) (hG : gOK G) : SM E yX3_startOf 2 [.ref 410, .int x] (JG S G r) 0 0 (fun o h' => o = some (.int (sp_start G x).2) ∧ h' = JG (ss S 12 (nI (sp_start G x).1)) G r) (fun _ _ => False) := by
  obtain ⟨hg0, hg1, hg2, hg3, hgp, hgr, hgw⟩ := id hG
  refine SM.of (cc := cX3_startOf) (nL := 2) (ret := (some .int)) (hh := []) (ls := [(0, .ref 410), (1, .int x)]) pl_X3 (Or.inl ⟨rfl, q1855⟩) rfl q78 rfl rfl ?_
  refine r_aload_n dX3_startOf_0 rfl ?_
  refine r_iload_n dX3_startOf_1 rfl ?_
  refine r_invV dX3_startOf_2 (c_m_isPendulum S G r x hg2) q1784 q1786 qs35 (JG_410 _ _ _) k9 pn_X3_isPendulum mh_X3_isPendulum rfl (by omega) (Nat.le_refl _) (Nat.le_refl _) (Nat.le_of_ble_eq_true rfl) (fun v2 h2 hq2 => ?_) (fun _ _ hq => hq.elim)
  obtain ⟨rfl, rfl⟩ := hq2
  refine rb_if_ne (tgt := 14) dX3_startOf_5 rfl  (fun c5 => ?_) (fun c5 => ?_)
  · obtain ⟨p, hp, rfl⟩ := ix_of (by omega) c5
    have hg_p := hgp p (by omega)
    refine r_aload_n dX3_startOf_14 rfl ?_
    refine r_iload_n dX3_startOf_15 rfl ?_
    refine r_invV dX3_startOf_16 (c_m_rests S G r p (by omega) (by omega)) q1788 q1790 qs36 (JG_410 _ _ _) k9 pn_X3_rests mh_X3_rests rfl (by omega) (Nat.le_refl _) (Nat.le_refl _) (Nat.le_of_ble_eq_true rfl) (fun v16 h16 hq16 => ?_) (fun _ _ hq => hq.elim)
    obtain ⟨rfl, rfl⟩ := hq16
    refine rb_if_eq (tgt := 30) dX3_startOf_19 rfl  (fun c19 => ?_) (fun c19 => ?_)
    · refine r_aload_n dX3_startOf_30 rfl ?_
      refine r_aload_n dX3_startOf_31 rfl ?_
      refine r_getfield dX3_startOf_32 fl_X3_7_9 (JG_410 _ _ _) rfl ?_
      refine r_bipush dX3_startOf_35 kb_20 ?_
      refine r_iload_n dX3_startOf_37 rfl ?_
      refine rn_iadd dX3_startOf_38 ?_
      refine rn_iaload dX3_startOf_39 (JG_411 _ _ _) (by omega) (by omega) ?_
      refine r_invV dX3_startOf_40 (c_m_done S G r _) q1768 q1770 qs32 (JG_410 _ _ _) k9 pn_X3_done mh_X3_done rfl (by omega) (Nat.le_refl _) (Nat.le_refl _) (Nat.le_of_ble_eq_true rfl) (fun v40 h40 hq40 => ?_) (fun _ _ hq => hq.elim)
      obtain ⟨rfl, rfl⟩ := hq40
      refine r_ireturn dX3_startOf_43 rfl rfl ?_
      first
      | (rw [sp_start, if_pos c5, nI_clamp (show p < 2 ^ 31 by omega), if_pos c19]
         exact ⟨rfl, rfl⟩)
      | (rw [sp_start, if_pos c5, nI_clamp (show p < 2 ^ 31 by omega), if_neg c19]
         exact ⟨rfl, rfl⟩)
    · refine r_aload_n dX3_startOf_22 rfl ?_
      refine r_iconst dX3_startOf_23 ki_2 ?_
      refine r_invV dX3_startOf_24 (c_m_fails S G r (nI 2)) q1764 q1766 qs31 (JG_410 _ _ _) k9 pn_X3_fails mh_X3_fails rfl (by omega) (Nat.le_refl _) (Nat.le_refl _) (Nat.le_of_ble_eq_true rfl) (fun v24 h24 hq24 => ?_) (fun _ _ hq => hq.elim)
      obtain ⟨rfl, rfl⟩ := hq24
      refine r_goto (tgt := 43) dX3_startOf_27 rfl ?_
      refine r_ireturn dX3_startOf_43 rfl rfl ?_
      first
      | (rw [sp_start, if_pos c5, nI_clamp (show p < 2 ^ 31 by omega), if_pos c19]
         exact ⟨rfl, rfl⟩)
      | (rw [sp_start, if_pos c5, nI_clamp (show p < 2 ^ 31 by omega), if_neg c19]
         exact ⟨rfl, rfl⟩)
  · refine r_aload_n dX3_startOf_8 rfl ?_
    refine r_iconst dX3_startOf_9 ki_1 ?_
    refine r_invV dX3_startOf_10 (c_m_fails S G r (nI 1)) q1764 q1766 qs31 (JG_410 _ _ _) k9 pn_X3_fails mh_X3_fails rfl (by omega) (Nat.le_refl _) (Nat.le_refl _) (Nat.le_of_ble_eq_true rfl) (fun v10 h10 hq10 => ?_) (fun _ _ hq => hq.elim)
    obtain ⟨rfl, rfl⟩ := hq10
    refine r_ireturn dX3_startOf_13 rfl rfl ?_
    rw [sp_start, if_neg c5]
    exact ⟨rfl, rfl⟩
theorem c_m_whyNoRecord {E : EV} (S : MS) (G : Nat → Nat) (r : MH) (x : Int32) (hG : gOK G) : SM E yX3_whyNoRecord 1 [.ref 410, .int x] (JG S G r) 0 0 (fun o h' => o = some (.int (nI (wnr G x))) ∧ h' = JG S G r) (fun _ _ => False) := by
  obtain ⟨hg0, hg1, hg2, hg3, hgp, hgr, hgw⟩ := id hG
  refine SM.of (cc := cX3_whyNoRecord) (nL := 2) (ret := (some .int)) (hh := []) (ls := [(0, .ref 410), (1, .int x)]) pl_X3 (Or.inl ⟨rfl, q1884⟩) rfl q78 rfl rfl ?_
  refine r_iload_n dX3_whyNoRecord_0 rfl ?_
  refine r_iconst dX3_whyNoRecord_1 ki_0 ?_
  refine r_iconst dX3_whyNoRecord_2 ki_2 ?_
  refine r_invS dX3_whyNoRecord_3 (c_m_in (JG S G r) x (nI 0) (nI 2)) q1761 q1762 pn_X3_in mh_X3_in rfl (by omega) (Nat.le_refl _) (Nat.le_refl _) (Nat.le_of_ble_eq_true rfl) (fun v3 h3 hq3 => ?_) (fun _ _ hq => hq.elim)
  obtain ⟨rfl, rfl⟩ := hq3
  refine rb_if_ne (tgt := 13) dX3_whyNoRecord_6 rfl  (fun c6 => ?_) (fun c6 => ?_)
  · obtain ⟨p, hp1, hp2, rfl⟩ := rg_of (by decide) c6.1 c6.2 (by decide)
    have hgk := hgr p (by omega)
    refine r_aload_n dX3_whyNoRecord_13 rfl ?_
    refine r_getfield dX3_whyNoRecord_14 fl_X3_7_9 (JG_410 _ _ _) rfl ?_
    refine r_bipush dX3_whyNoRecord_17 kb_36 ?_
    refine r_iload_n dX3_whyNoRecord_19 rfl ?_
    refine rn_iadd dX3_whyNoRecord_20 ?_
    refine rn_iaload dX3_whyNoRecord_21 (JG_411 _ _ _) (by omega) (by omega) ?_
    refine rn_if_ne (tgt := 29) dX3_whyNoRecord_22 rfl (by omega) (fun c22 => ?_) (fun c22 => ?_)
    · refine r_iconst dX3_whyNoRecord_29 ki_0 ?_
      refine r_ireturn dX3_whyNoRecord_30 rfl rfl ?_
      first
      | (rw [wnr, if_neg c6]
         exact ⟨rfl, rfl⟩)
      | (rw [wnr, if_pos c6, nI_clamp (show p < 2 ^ 31 by omega), if_pos c22]
         exact ⟨rfl, rfl⟩)
      | (rw [wnr, if_pos c6, nI_clamp (show p < 2 ^ 31 by omega), if_neg c22]
         exact ⟨rfl, rfl⟩)
    · refine r_iconst dX3_whyNoRecord_25 ki_2 ?_
      refine r_goto (tgt := 30) dX3_whyNoRecord_26 rfl ?_
      refine r_ireturn dX3_whyNoRecord_30 rfl rfl ?_
      first
      | (rw [wnr, if_neg c6]
         exact ⟨rfl, rfl⟩)
      | (rw [wnr, if_pos c6, nI_clamp (show p < 2 ^ 31 by omega), if_pos c22]
         exact ⟨rfl, rfl⟩)
      | (rw [wnr, if_pos c6, nI_clamp (show p < 2 ^ 31 by omega), if_neg c22]
         exact ⟨rfl, rfl⟩)
  · refine r_iconst dX3_whyNoRecord_9 ki_1 ?_
    refine r_goto (tgt := 30) dX3_whyNoRecord_10 rfl ?_
    refine r_ireturn dX3_whyNoRecord_30 rfl rfl ?_
    first
    | (rw [wnr, if_neg c6]
       exact ⟨rfl, rfl⟩)
    | (rw [wnr, if_pos c6, nI_clamp (show p < 2 ^ 31 by omega), if_pos c22]
       exact ⟨rfl, rfl⟩)
    | (rw [wnr, if_pos c6, nI_clamp (show p < 2 ^ 31 by omega), if_neg c22]
       exact ⟨rfl, rfl⟩)
theorem c_m_recordOf {E : EV} (S : MS) (G : Nat → Nat) (r : MH) (x : Int32) (hG : gOK G) : SM E yX3_recordOf 2 [.ref 410, .int x] (JG S G r) 0 0 (fun o h' => o = some (.int (sp_rec G 36 x).2) ∧ h' = JG (ss S 12 (nI (sp_rec G 36 x).1)) G r) (fun _ _ => False) := by
  have hw := wnr_lt G x
  refine SM.of (cc := cX3_recordOf) (nL := 3) (ret := (some .int)) (hh := []) (ls := [(0, .ref 410), (1, .int x)]) pl_X3 (Or.inl ⟨rfl, q1880⟩) rfl q78 rfl rfl ?_
  refine r_aload_n dX3_recordOf_0 rfl ?_
  refine r_iload_n dX3_recordOf_1 rfl ?_
  refine r_invV dX3_recordOf_2 (c_m_whyNoRecord S G r x hG) q1881 q1883 qs45 (JG_410 _ _ _) k9 pn_X3_whyNoRecord mh_X3_whyNoRecord rfl (by omega) (Nat.le_refl _) (Nat.le_refl _) (Nat.le_of_ble_eq_true rfl) (fun v2 h2 hq2 => ?_) (fun _ _ hq => hq.elim)
  obtain ⟨rfl, rfl⟩ := hq2
  refine r_istore_n (ls' := [(0, _), (1, _), (2, _)]) dX3_recordOf_5 rfl rfl ?_
  refine r_iload_n dX3_recordOf_6 rfl ?_
  refine rn_if_le (tgt := 18) dX3_recordOf_7 rfl (by omega) (fun c7 => ?_) (fun c7 => ?_)
  · obtain ⟨p, hp, rfl, e⟩ := wnr_0 c7 36
    refine r_aload_n dX3_recordOf_18 rfl ?_
    refine r_aload_n dX3_recordOf_19 rfl ?_
    refine r_getfield dX3_recordOf_20 fl_X3_7_9 (JG_410 _ _ _) rfl ?_
    refine r_bipush dX3_recordOf_23 kb_36 ?_
    refine r_iload_n dX3_recordOf_25 rfl ?_
    refine rn_iadd dX3_recordOf_26 ?_
    refine rn_iaload dX3_recordOf_27 (JG_411 _ _ _) (by omega) (by omega) ?_
    refine r_invV dX3_recordOf_28 (c_m_done S G r _) q1768 q1770 qs32 (JG_410 _ _ _) k9 pn_X3_done mh_X3_done rfl (by omega) (Nat.le_refl _) (Nat.le_refl _) (Nat.le_of_ble_eq_true rfl) (fun v28 h28 hq28 => ?_) (fun _ _ hq => hq.elim)
    obtain ⟨rfl, rfl⟩ := hq28
    refine r_ireturn dX3_recordOf_31 rfl rfl ?_
    rw [e]
    exact ⟨rfl, rfl⟩
  · have e := wnr_1 c7 36
    refine r_aload_n dX3_recordOf_10 rfl ?_
    refine r_iload_n dX3_recordOf_11 rfl ?_
    refine r_invV dX3_recordOf_12 (c_m_fails S G r _) q1764 q1766 qs31 (JG_410 _ _ _) k9 pn_X3_fails mh_X3_fails rfl (by omega) (Nat.le_refl _) (Nat.le_refl _) (Nat.le_of_ble_eq_true rfl) (fun v12 h12 hq12 => ?_) (fun _ _ hq => hq.elim)
    obtain ⟨rfl, rfl⟩ := hq12
    refine r_goto (tgt := 31) dX3_recordOf_15 rfl ?_
    refine r_ireturn dX3_recordOf_31 rfl rfl ?_
    rw [e]
    exact ⟨rfl, rfl⟩
theorem c_m_holderOf {E : EV} (S : MS) (G : Nat → Nat) (r : MH) (x : Int32) (hG : gOK G) : SM E yX3_holderOf 2 [.ref 410, .int x] (JG S G r) 0 0 (fun o h' => o = some (.int (sp_rec G 39 x).2) ∧ h' = JG (ss S 12 (nI (sp_rec G 39 x).1)) G r) (fun _ _ => False) := by
  have hw := wnr_lt G x
  refine SM.of (cc := cX3_holderOf) (nL := 3) (ret := (some .int)) (hh := []) (ls := [(0, .ref 410), (1, .int x)]) pl_X3 (Or.inl ⟨rfl, q1888⟩) rfl q78 rfl rfl ?_
  refine r_aload_n dX3_holderOf_0 rfl ?_
  refine r_iload_n dX3_holderOf_1 rfl ?_
  refine r_invV dX3_holderOf_2 (c_m_whyNoRecord S G r x hG) q1881 q1883 qs45 (JG_410 _ _ _) k9 pn_X3_whyNoRecord mh_X3_whyNoRecord rfl (by omega) (Nat.le_refl _) (Nat.le_refl _) (Nat.le_of_ble_eq_true rfl) (fun v2 h2 hq2 => ?_) (fun _ _ hq => hq.elim)
  obtain ⟨rfl, rfl⟩ := hq2
  refine r_istore_n (ls' := [(0, _), (1, _), (2, _)]) dX3_holderOf_5 rfl rfl ?_
  refine r_iload_n dX3_holderOf_6 rfl ?_
  refine rn_if_le (tgt := 18) dX3_holderOf_7 rfl (by omega) (fun c7 => ?_) (fun c7 => ?_)
  · obtain ⟨p, hp, rfl, e⟩ := wnr_0 c7 39
    refine r_aload_n dX3_holderOf_18 rfl ?_
    refine r_aload_n dX3_holderOf_19 rfl ?_
    refine r_getfield dX3_holderOf_20 fl_X3_7_9 (JG_410 _ _ _) rfl ?_
    refine r_bipush dX3_holderOf_23 kb_39 ?_
    refine r_iload_n dX3_holderOf_25 rfl ?_
    refine rn_iadd dX3_holderOf_26 ?_
    refine rn_iaload dX3_holderOf_27 (JG_411 _ _ _) (by omega) (by omega) ?_
    refine r_invV dX3_holderOf_28 (c_m_done S G r _) q1768 q1770 qs32 (JG_410 _ _ _) k9 pn_X3_done mh_X3_done rfl (by omega) (Nat.le_refl _) (Nat.le_refl _) (Nat.le_of_ble_eq_true rfl) (fun v28 h28 hq28 => ?_) (fun _ _ hq => hq.elim)
    obtain ⟨rfl, rfl⟩ := hq28
    refine r_ireturn dX3_holderOf_31 rfl rfl ?_
    rw [e]
    exact ⟨rfl, rfl⟩
  · have e := wnr_1 c7 39
    refine r_aload_n dX3_holderOf_10 rfl ?_
    refine r_iload_n dX3_holderOf_11 rfl ?_
    refine r_invV dX3_holderOf_12 (c_m_fails S G r _) q1764 q1766 qs31 (JG_410 _ _ _) k9 pn_X3_fails mh_X3_fails rfl (by omega) (Nat.le_refl _) (Nat.le_refl _) (Nat.le_of_ble_eq_true rfl) (fun v12 h12 hq12 => ?_) (fun _ _ hq => hq.elim)
    obtain ⟨rfl, rfl⟩ := hq12
    refine r_goto (tgt := 31) dX3_holderOf_15 rfl ?_
    refine r_ireturn dX3_holderOf_31 rfl rfl ?_
    rw [e]
    exact ⟨rfl, rfl⟩
theorem c_m_isAhead {E : EV} (S : MS) (G : Nat → Nat) (r : MH) (a b : Nat) (hG : gOK G) (ha : a < 8) (hb : b < 8) : SM E yX3_isAhead 0 [.ref 410, .int (nI a), .int (nI b)] (JG S G r) 0 0 (fun o h' => o = some (.int (bi (ahd G a b))) ∧ h' = JG S G r) (fun _ _ => False) := by
  obtain ⟨hg0, hg1, hg2, hg3, hgp, hgr, hgw⟩ := id hG
  have hg_a := hgp a ha
  have hg_b := hgp b hb
  refine SM.of (cc := cX3_isAhead) (nL := 5) (ret := (some .boolean)) (hh := []) (ls := [(0, .ref 410), (1, .int (nI a)), (2, .int (nI b))]) pl_X3 (Or.inl ⟨rfl, q1896⟩) rfl q78 rfl rfl ?_
  refine r_aload_n dX3_isAhead_0 rfl ?_
  refine r_getfield dX3_isAhead_1 fl_X3_7_9 (JG_410 _ _ _) rfl ?_
  refine r_bipush dX3_isAhead_4 kb_12 ?_
  refine r_iload_n dX3_isAhead_6 rfl ?_
  refine rn_iadd dX3_isAhead_7 ?_
  refine rn_iaload dX3_isAhead_8 (JG_411 _ _ _) (by omega) (by omega) ?_
  refine r_aload_n dX3_isAhead_9 rfl ?_
  refine r_getfield dX3_isAhead_10 fl_X3_7_9 (JG_410 _ _ _) rfl ?_
  refine r_bipush dX3_isAhead_13 kb_12 ?_
  refine r_iload_n dX3_isAhead_15 rfl ?_
  refine rn_iadd dX3_isAhead_16 ?_
  refine rn_iaload dX3_isAhead_17 (JG_411 _ _ _) (by omega) (by omega) ?_
  refine r_isub dX3_isAhead_18 ?_
  refine r_istore_n (ls' := [(0, _), (1, _), (2, _), (3, _)]) dX3_isAhead_19 rfl rfl ?_
  refine r_aload_n dX3_isAhead_20 rfl ?_
  refine r_getfield dX3_isAhead_21 fl_X3_7_9 (JG_410 _ _ _) rfl ?_
  refine r_bipush dX3_isAhead_24 kb_28 ?_
  refine r_iload_n dX3_isAhead_26 rfl ?_
  refine rn_iadd dX3_isAhead_27 ?_
  refine rn_iaload dX3_isAhead_28 (JG_411 _ _ _) (by omega) (by omega) ?_
  refine r_aload_n dX3_isAhead_29 rfl ?_
  refine r_getfield dX3_isAhead_30 fl_X3_7_9 (JG_410 _ _ _) rfl ?_
  refine r_bipush dX3_isAhead_33 kb_28 ?_
  refine r_iload_n dX3_isAhead_35 rfl ?_
  refine rn_iadd dX3_isAhead_36 ?_
  refine rn_iaload dX3_isAhead_37 (JG_411 _ _ _) (by omega) (by omega) ?_
  refine r_isub dX3_isAhead_38 ?_
  refine r_istore (ls' := [(0, _), (1, _), (2, _), (3, _), (4, _)]) dX3_isAhead_39 rfl rfl ?_
  refine r_iload_n dX3_isAhead_41 rfl ?_
  refine r_if_gt (tgt := 64) dX3_isAhead_42 rfl  (fun c42 => ?_) (fun c42 => ?_)
  · rw [dgt (by omega) (by omega)] at c42
    refine r_iconst dX3_isAhead_64 ki_1 ?_
    refine r_goto (tgt := 69) dX3_isAhead_65 rfl ?_
    refine r_ireturn dX3_isAhead_69 rfl (by first | exact nz1 | exact nz0) ?_
    first
    | exact ⟨by rw [bi_t (show ahd G a b by omega)], rfl⟩
    | exact ⟨by rw [bi_f (show ¬ ahd G a b by omega)], rfl⟩
  · rw [dgt (by omega) (by omega)] at c42
    refine r_iload_n dX3_isAhead_45 rfl ?_
    refine r_if_ne (tgt := 68) dX3_isAhead_46 rfl  (fun c46 => ?_) (fun c46 => ?_)
    · rw [deq (by omega) (by omega)] at c46
      refine r_iconst dX3_isAhead_68 ki_0 ?_
      refine r_ireturn dX3_isAhead_69 rfl (by first | exact nz1 | exact nz0) ?_
      first
      | exact ⟨by rw [bi_t (show ahd G a b by omega)], rfl⟩
      | exact ⟨by rw [bi_f (show ¬ ahd G a b by omega)], rfl⟩
    · rw [deq (by omega) (by omega)] at c46
      refine r_iload dX3_isAhead_49 rfl ?_
      refine r_if_gt (tgt := 64) dX3_isAhead_51 rfl  (fun c51 => ?_) (fun c51 => ?_)
      · rw [dgt (by omega) (by omega)] at c51
        refine r_iconst dX3_isAhead_64 ki_1 ?_
        refine r_goto (tgt := 69) dX3_isAhead_65 rfl ?_
        refine r_ireturn dX3_isAhead_69 rfl (by first | exact nz1 | exact nz0) ?_
        first
        | exact ⟨by rw [bi_t (show ahd G a b by omega)], rfl⟩
        | exact ⟨by rw [bi_f (show ¬ ahd G a b by omega)], rfl⟩
      · rw [dgt (by omega) (by omega)] at c51
        refine r_iload dX3_isAhead_54 rfl ?_
        refine r_if_ne (tgt := 68) dX3_isAhead_56 rfl  (fun c56 => ?_) (fun c56 => ?_)
        · rw [deq (by omega) (by omega)] at c56
          refine r_iconst dX3_isAhead_68 ki_0 ?_
          refine r_ireturn dX3_isAhead_69 rfl (by first | exact nz1 | exact nz0) ?_
          first
          | exact ⟨by rw [bi_t (show ahd G a b by omega)], rfl⟩
          | exact ⟨by rw [bi_f (show ¬ ahd G a b by omega)], rfl⟩
        · rw [deq (by omega) (by omega)] at c56
          refine r_iload_n dX3_isAhead_59 rfl ?_
          refine r_iload_n dX3_isAhead_60 rfl ?_
          refine rn_icmp_ge (tgt := 68) dX3_isAhead_61 rfl (by omega) (by omega) (fun c61 => ?_) (fun c61 => ?_)
          · refine r_iconst dX3_isAhead_68 ki_0 ?_
            refine r_ireturn dX3_isAhead_69 rfl (by first | exact nz1 | exact nz0) ?_
            first
            | exact ⟨by rw [bi_t (show ahd G a b by omega)], rfl⟩
            | exact ⟨by rw [bi_f (show ¬ ahd G a b by omega)], rfl⟩
          · refine r_iconst dX3_isAhead_64 ki_1 ?_
            refine r_goto (tgt := 69) dX3_isAhead_65 rfl ?_
            refine r_ireturn dX3_isAhead_69 rfl (by first | exact nz1 | exact nz0) ?_
            first
            | exact ⟨by rw [bi_t (show ahd G a b by omega)], rfl⟩
            | exact ⟨by rw [bi_f (show ¬ ahd G a b by omega)], rfl⟩
theorem l_m_rank17 {E : EV} {QR : Option Value → MH → Prop} {QX : Nat → MH → Prop} {d kc ks : Nat} (hd0 : 2 ≤ d) (S : MS) (G : Nat → Nat) (r : MH) (x : Int32) (hG : gOK G) (k : Nat) (hk : k < G 2) (kk : SW E yX3_pendulumAtRank cX3_pendulumAtRank 5 (some .int) [] QR QX d kc ks (JG S G r) 52 [(0, .ref 410), (1, .int x), (2, .int (nI k)), (3, .int (nI (rk G k))), (4, .int (nI (G 2)))] []) : ∀ (n0 o c : Nat), o ≤ G 2 → 9 ≤ n0 + o → c = cnt (fun o => decide (ahd G o k)) o → SW E yX3_pendulumAtRank cX3_pendulumAtRank 5 (some .int) [] QR QX d kc ks (JG S G r) 17 [(0, .ref 410), (1, .int x), (2, .int (nI k)), (3, .int (nI c)), (4, .int (nI o))] [] := by
  obtain ⟨hg0, hg1, hg2, hg3, hgp, hgr, hgw⟩ := id hG
  intro n0
  induction n0 with
  | zero => intro o c h1 h2; omega
  | succ n0 ih =>
    intro o c h1 h2 h3
    have hcn := cnt_le (fun o => decide (ahd G o k)) o
    refine r_iload dX3_pendulumAtRank_17 rfl ?_
    refine r_aload_n dX3_pendulumAtRank_19 rfl ?_
    refine r_getfield dX3_pendulumAtRank_20 fl_X3_7_9 (JG_410 _ _ _) rfl ?_
    refine r_iconst dX3_pendulumAtRank_23 ki_2 ?_
    refine rn_iaload dX3_pendulumAtRank_24 (JG_411 _ _ _) (by omega) (by omega) ?_
    refine rn_icmp_ge (tgt := 52) dX3_pendulumAtRank_25 rfl (by omega) (by omega) (fun hc => ?_) (fun hc => ?_)
    · have eo : o = G 2 := by omega
      subst h3
      rw [eo]
      exact kk
    · refine r_iload_n dX3_pendulumAtRank_28 rfl ?_
      refine r_aload_n dX3_pendulumAtRank_29 rfl ?_
      refine r_iload dX3_pendulumAtRank_30 rfl ?_
      refine r_iload_n dX3_pendulumAtRank_32 rfl ?_
      refine r_invV dX3_pendulumAtRank_33 (c_m_isAhead S G r o k hG (by omega) (by omega)) q1893 q1895 qs46 (JG_410 _ _ _) k9 pn_X3_isAhead mh_X3_isAhead rfl (by omega) (Nat.le_refl _) (Nat.le_refl _) (Nat.le_of_ble_eq_true rfl) (fun v33 h33 hq33 => ?_) (fun _ _ hq => hq.elim)
      obtain ⟨rfl, rfl⟩ := hq33
      refine rb_if_eq (tgt := 43) dX3_pendulumAtRank_36 rfl  (fun h36 => ?_) (fun h36 => ?_)
      · refine r_iconst dX3_pendulumAtRank_43 ki_0 ?_
        refine rn_iadd dX3_pendulumAtRank_44 ?_
        refine r_istore_n (ls' := [(0, _), (1, _), (2, _), (3, _), (4, _)]) dX3_pendulumAtRank_45 rfl rfl ?_
        refine rn_iinc (n := 1) (ls' := [(0, _), (1, _), (2, _), (3, _), (4, _)]) dX3_pendulumAtRank_46 rfl rfl rfl ?_
        refine r_goto (tgt := 17) dX3_pendulumAtRank_49 rfl ?_
        first
        | (exact ih (o + 1) (c + 1) (by omega) (by omega) (by rw [h3]; exact (cnt_t (decide_eq_true h36)).symm))
        | (exact ih (o + 1) (c + 0) (by omega) (by omega) (by rw [h3]; exact (cnt_f (decide_eq_false h36)).symm))
      · refine r_iconst dX3_pendulumAtRank_39 ki_1 ?_
        refine r_goto (tgt := 44) dX3_pendulumAtRank_40 rfl ?_
        refine rn_iadd dX3_pendulumAtRank_44 ?_
        refine r_istore_n (ls' := [(0, _), (1, _), (2, _), (3, _), (4, _)]) dX3_pendulumAtRank_45 rfl rfl ?_
        refine rn_iinc (n := 1) (ls' := [(0, _), (1, _), (2, _), (3, _), (4, _)]) dX3_pendulumAtRank_46 rfl rfl rfl ?_
        refine r_goto (tgt := 17) dX3_pendulumAtRank_49 rfl ?_
        first
        | (exact ih (o + 1) (c + 1) (by omega) (by omega) (by rw [h3]; exact (cnt_t (decide_eq_true h36)).symm))
        | (exact ih (o + 1) (c + 0) (by omega) (by omega) (by rw [h3]; exact (cnt_f (decide_eq_false h36)).symm))
theorem l_m_rank2 {E : EV} {QR : Option Value → MH → Prop} {QX : Nat → MH → Prop} {d kc ks : Nat} (hd0 : 3 ≤ d) (S : MS) (G : Nat → Nat) (r : MH) (x : Int32) (hG : gOK G) (kk : ∀ q, sp_rank G x = q → QR (some (.int q.2)) (JG (ss S 12 (nI q.1)) G r)) : ∀ (n0 k : Nat), k ≤ G 2 → 9 ≤ n0 + k → (∀ j, j < k → decide (nI (rk G j) = x) = false) → SW E yX3_pendulumAtRank cX3_pendulumAtRank 5 (some .int) [] QR QX d kc ks (JG S G r) 2 [(0, .ref 410), (1, .int x), (2, .int (nI k))] [] := by
  obtain ⟨hg0, hg1, hg2, hg3, hgp, hgr, hgw⟩ := id hG
  intro n0
  induction n0 with
  | zero => intro k h1 h2; omega
  | succ n0 ih =>
    intro k h1 h2 h3
    refine r_iload_n dX3_pendulumAtRank_2 rfl ?_
    refine r_aload_n dX3_pendulumAtRank_3 rfl ?_
    refine r_getfield dX3_pendulumAtRank_4 fl_X3_7_9 (JG_410 _ _ _) rfl ?_
    refine r_iconst dX3_pendulumAtRank_7 ki_2 ?_
    refine rn_iaload dX3_pendulumAtRank_8 (JG_411 _ _ _) (by omega) (by omega) ?_
    refine rn_icmp_ge (tgt := 69) dX3_pendulumAtRank_9 rfl (by omega) (by omega) (fun hc => ?_) (fun hc => ?_)
    · refine r_aload_n dX3_pendulumAtRank_69 rfl ?_
      refine r_iconst dX3_pendulumAtRank_70 ki_1 ?_
      refine r_invV dX3_pendulumAtRank_71 (c_m_fails S G r (nI 1)) q1764 q1766 qs31 (JG_410 _ _ _) k9 pn_X3_fails mh_X3_fails rfl (by omega) (Nat.le_refl _) (Nat.le_refl _) (Nat.le_of_ble_eq_true rfl) (fun v71 h71 hq71 => ?_) (fun _ _ hq => hq.elim)
      obtain ⟨rfl, rfl⟩ := hq71
      refine r_ireturn dX3_pendulumAtRank_74 rfl rfl ?_
      exact kk (1, nI 0) (by rw [sp_rank, fst1_none fun j hj => h3 j (by omega)])
    · refine r_iconst dX3_pendulumAtRank_12 ki_0 ?_
      refine r_istore_n (ls' := [(0, _), (1, _), (2, _), (3, _)]) dX3_pendulumAtRank_13 rfl rfl ?_
      refine r_iconst dX3_pendulumAtRank_14 ki_0 ?_
      refine r_istore (ls' := [(0, _), (1, _), (2, _), (3, _), (4, _)]) dX3_pendulumAtRank_15 rfl rfl ?_
      refine l_m_rank17 (by omega) S G r x hG k hc ?_ 9 0 0 (Nat.zero_le _) (by decide) rfl
      refine r_iload_n dX3_pendulumAtRank_52 rfl ?_
      refine r_iload_n dX3_pendulumAtRank_53 rfl ?_
      refine r_icmp_ne (tgt := 63) dX3_pendulumAtRank_54 rfl  (fun h54 => ?_) (fun h54 => ?_)
      · refine rn_iinc (n := 1) (ls' := [(0, _), (1, _), (2, _), (3, _), (4, _)]) dX3_pendulumAtRank_63 rfl rfl rfl ?_
        refine r_goto (tgt := 2) dX3_pendulumAtRank_66 rfl ?_
        exact r_sub (by simp) (ih (k + 1) (by omega) (by omega) (fun j hj => by
          rcases Nat.lt_or_ge j k with e | e
          · exact h3 j e
          · rw [show j = k by omega]
            exact decide_eq_false h54))
      · refine r_aload_n dX3_pendulumAtRank_57 rfl ?_
        refine r_iload_n dX3_pendulumAtRank_58 rfl ?_
        refine r_invV dX3_pendulumAtRank_59 (c_m_done S G r (nI k)) q1768 q1770 qs32 (JG_410 _ _ _) k9 pn_X3_done mh_X3_done rfl (by omega) (Nat.le_refl _) (Nat.le_refl _) (Nat.le_of_ble_eq_true rfl) (fun v59 h59 hq59 => ?_) (fun _ _ hq => hq.elim)
        obtain ⟨rfl, rfl⟩ := hq59
        refine r_ireturn dX3_pendulumAtRank_62 rfl rfl ?_
        exact kk (0, nI k) (by rw [sp_rank, fst1_some (decide_eq_true h54) h3 hc])
theorem c_m_pendulumAtRank {E : EV} (S : MS) (G : Nat → Nat) (r : MH) (x : Int32) (hG : gOK G) : SM E yX3_pendulumAtRank 3 [.ref 410, .int x] (JG S G r) 0 0 (fun o h' => o = some (.int (sp_rank G x).2) ∧ h' = JG (ss S 12 (nI (sp_rank G x).1)) G r) (fun _ _ => False) := by
  refine SM.of (cc := cX3_pendulumAtRank) (nL := 5) (ret := (some .int)) (hh := []) (ls := [(0, .ref 410), (1, .int x)]) pl_X3 (Or.inl ⟨rfl, q1892⟩) rfl q78 rfl rfl ?_
  refine r_iconst dX3_pendulumAtRank_0 ki_0 ?_
  refine r_istore_n (ls' := [(0, _), (1, _), (2, _)]) dX3_pendulumAtRank_1 rfl rfl ?_
  exact l_m_rank2 (by decide) S G r x hG (fun q e => by rw [e]; exact ⟨rfl, rfl⟩) 9 0 (Nat.zero_le _) (by decide) (fun j hj => absurd hj (Nat.not_lt_zero _))
theorem l_m_swl {E : EV} {QR : Option Value → MH → Prop} {QX : Nat → MH → Prop} {d kc ks : Nat} (hd0 : 1 ≤ d) (S : MS) (G : Nat → Nat) (r : MH) (p N : Nat) (hG : gOK G) (kk : QR (some (.int (nI N))) (JG S G r)) : ∀ (n0 c a : Nat), a < n0 → a ≤ 60 → c + swl (G 1) n0 a = N → SW E yX3_swingsLeft cX3_swingsLeft 4 (some .int) [] QR QX d kc ks (JG S G r) 12 [(0, .ref 410), (1, .int (nI p)), (2, .int (nI c)), (3, .int (nI a))] [] := by
  obtain ⟨hg0, hg1, hg2, hg3, hgp, hgr, hgw⟩ := id hG
  intro n0
  induction n0 with
  | zero => intro c a h1; omega
  | succ n0 ih =>
    intro c a h1 h2 h3
    rw [swl] at h3
    refine r_iload_n dX3_swingsLeft_12 rfl ?_
    refine rn_if_le (tgt := 28) dX3_swingsLeft_13 rfl (by omega) (fun hc => ?_) (fun hc => ?_)
    · rw [if_pos hc] at h3
      refine r_iload_n dX3_swingsLeft_28 rfl ?_
      refine r_ireturn dX3_swingsLeft_29 rfl rfl ?_
      rw [← h3] at kk
      exact kk
    · rw [if_neg (by omega)] at h3
      have hb := beh_lt (a := a) (f := G 1) (by omega)
      refine rn_iinc (n := 1) (ls' := [(0, _), (1, _), (2, _), (3, _)]) dX3_swingsLeft_16 rfl rfl rfl ?_
      refine r_aload_n dX3_swingsLeft_19 rfl ?_
      refine r_iload_n dX3_swingsLeft_20 rfl ?_
      refine r_invV dX3_swingsLeft_21 (c_m_behindSwing S G r a (by omega) (by omega) hg1) q1828 q1830 qs43 (JG_410 _ _ _) k9 pn_X3_behindSwing mh_X3_behindSwing rfl (by omega) (Nat.le_refl _) (Nat.le_refl _) (Nat.le_of_ble_eq_true rfl) (fun v21 h21 hq21 => ?_) (fun _ _ hq => hq.elim)
      obtain ⟨rfl, rfl⟩ := hq21
      refine r_istore_n (ls' := [(0, _), (1, _), (2, _), (3, _)]) dX3_swingsLeft_24 rfl rfl ?_
      refine r_goto (tgt := 12) dX3_swingsLeft_25 rfl ?_
      exact ih (c + 1) _ (by omega) (by omega) (by omega)
theorem c_m_swingsLeft {E : EV} (S : MS) (G : Nat → Nat) (r : MH) (p : Nat) (hG : gOK G) (hp : p < 8) : SM E yX3_swingsLeft 1 [.ref 410, .int (nI p)] (JG S G r) 0 0 (fun o h' => o = some (.int (nI (swl (G 1) 61 (G (12 + p))))) ∧ h' = JG S G r) (fun _ _ => False) := by
  obtain ⟨hg0, hg1, hg2, hg3, hgp, hgr, hgw⟩ := id hG
  have hg_p := hgp p hp
  refine SM.of (cc := cX3_swingsLeft) (nL := 4) (ret := (some .int)) (hh := []) (ls := [(0, .ref 410), (1, .int (nI p))]) pl_X3 (Or.inl ⟨rfl, q1904⟩) rfl q78 rfl rfl ?_
  refine r_iconst dX3_swingsLeft_0 ki_0 ?_
  refine r_istore_n (ls' := [(0, _), (1, _), (2, _)]) dX3_swingsLeft_1 rfl rfl ?_
  refine r_aload_n dX3_swingsLeft_2 rfl ?_
  refine r_getfield dX3_swingsLeft_3 fl_X3_7_9 (JG_410 _ _ _) rfl ?_
  refine r_bipush dX3_swingsLeft_6 kb_12 ?_
  refine r_iload_n dX3_swingsLeft_8 rfl ?_
  refine rn_iadd dX3_swingsLeft_9 ?_
  refine rn_iaload dX3_swingsLeft_10 (JG_411 _ _ _) (by omega) (by omega) ?_
  refine r_istore_n (ls' := [(0, _), (1, _), (2, _), (3, _)]) dX3_swingsLeft_11 rfl rfl ?_
  exact l_m_swl (by decide) S G r p _ hG ⟨rfl, rfl⟩ 61 0 (G (12 + p)) (by omega) (by omega) (Nat.zero_add _)
theorem c_m_swingsToRest {E : EV} (S : MS) (G : Nat → Nat) (r : MH) (x : Int32) (hG : gOK G) : SM E yX3_swingsToRest 2 [.ref 410, .int x] (JG S G r) 0 0 (fun o h' => o = some (.int (sp_left G x).2) ∧ h' = JG (ss S 12 (nI (sp_left G x).1)) G r) (fun _ _ => False) := by
  obtain ⟨hg0, hg1, hg2, hg3, hgp, hgr, hgw⟩ := id hG
  refine SM.of (cc := cX3_swingsToRest) (nL := 2) (ret := (some .int)) (hh := []) (ls := [(0, .ref 410), (1, .int x)]) pl_X3 (Or.inl ⟨rfl, q1900⟩) rfl q78 rfl rfl ?_
  refine r_aload_n dX3_swingsToRest_0 rfl ?_
  refine r_iload_n dX3_swingsToRest_1 rfl ?_
  refine r_invV dX3_swingsToRest_2 (c_m_isPendulum S G r x hg2) q1784 q1786 qs35 (JG_410 _ _ _) k9 pn_X3_isPendulum mh_X3_isPendulum rfl (by omega) (Nat.le_refl _) (Nat.le_refl _) (Nat.le_of_ble_eq_true rfl) (fun v2 h2 hq2 => ?_) (fun _ _ hq => hq.elim)
  obtain ⟨rfl, rfl⟩ := hq2
  refine rb_if_eq (tgt := 20) dX3_swingsToRest_5 rfl  (fun c5 => ?_) (fun c5 => ?_)
  · refine r_aload_n dX3_swingsToRest_20 rfl ?_
    refine r_iconst dX3_swingsToRest_21 ki_1 ?_
    refine r_invV dX3_swingsToRest_22 (c_m_fails S G r (nI 1)) q1764 q1766 qs31 (JG_410 _ _ _) k9 pn_X3_fails mh_X3_fails rfl (by omega) (Nat.le_refl _) (Nat.le_refl _) (Nat.le_of_ble_eq_true rfl) (fun v22 h22 hq22 => ?_) (fun _ _ hq => hq.elim)
    obtain ⟨rfl, rfl⟩ := hq22
    refine r_ireturn dX3_swingsToRest_25 rfl rfl ?_
    first
    | (rw [sp_left, if_pos c5, nI_clamp (show p < 2 ^ 31 by omega)]
       exact ⟨rfl, rfl⟩)
    | (rw [sp_left, if_neg c5]
       exact ⟨rfl, rfl⟩)
  · obtain ⟨p, hp, rfl⟩ := ix_of (by omega) c5
    have hg_p := hgp p (by omega)
    refine r_aload_n dX3_swingsToRest_8 rfl ?_
    refine r_aload_n dX3_swingsToRest_9 rfl ?_
    refine r_iload_n dX3_swingsToRest_10 rfl ?_
    refine r_invV dX3_swingsToRest_11 (c_m_swingsLeft S G r p hG (by omega)) q1901 q1903 qs47 (JG_410 _ _ _) k9 pn_X3_swingsLeft mh_X3_swingsLeft rfl (by omega) (Nat.le_refl _) (Nat.le_refl _) (Nat.le_of_ble_eq_true rfl) (fun v11 h11 hq11 => ?_) (fun _ _ hq => hq.elim)
    obtain ⟨rfl, rfl⟩ := hq11
    refine r_invV dX3_swingsToRest_14 (c_m_done S G r _) q1768 q1770 qs32 (JG_410 _ _ _) k9 pn_X3_done mh_X3_done rfl (by omega) (Nat.le_refl _) (Nat.le_refl _) (Nat.le_of_ble_eq_true rfl) (fun v14 h14 hq14 => ?_) (fun _ _ hq => hq.elim)
    obtain ⟨rfl, rfl⟩ := hq14
    refine r_goto (tgt := 25) dX3_swingsToRest_17 rfl ?_
    refine r_ireturn dX3_swingsToRest_25 rfl rfl ?_
    first
    | (rw [sp_left, if_pos c5, nI_clamp (show p < 2 ^ 31 by omega)]
       exact ⟨rfl, rfl⟩)
    | (rw [sp_left, if_neg c5]
       exact ⟨rfl, rfl⟩)
theorem c_m_swingsToRestByTable {E : EV} (S : MS) (G : Nat → Nat) (r : MH) (x : Int32) (hG : gOK G) : SM E yX3_swingsToRestByTable 3 [.ref 410, .int x] (JG S G r) 0 0 (fun o h' => o = some (.int (sp_left G x).2) ∧ h' = JG (ss S 12 (nI (sp_left G x).1)) G r) (fun _ _ => False) := by
  refine SM.of (cc := cX3_swingsToRestByTable) (nL := 2) (ret := (some .int)) (hh := []) (ls := [(0, .ref 410), (1, .int x)]) pl_X3 (Or.inl ⟨rfl, q1908⟩) rfl q78 rfl rfl ?_
  refine r_aload_n dX3_swingsToRestByTable_0 rfl ?_
  refine r_iload_n dX3_swingsToRestByTable_1 rfl ?_
  refine r_invV dX3_swingsToRestByTable_2 (c_m_swingsToRest S G r x hG) q1909 q1898 q1899 (JG_410 _ _ _) k9 pn_X3_swingsToRest mh_X3_swingsToRest rfl (by omega) (Nat.le_refl _) (Nat.le_refl _) (Nat.le_of_ble_eq_true rfl) (fun v2 h2 hq2 => ?_) (fun _ _ hq => hq.elim)
  obtain ⟨rfl, rfl⟩ := hq2
  refine r_ireturn dX3_swingsToRestByTable_5 rfl rfl ?_
  exact ⟨rfl, rfl⟩
theorem c_m_swingsUntil {E : EV} (S : MS) (G : Nat → Nat) (r : MH) (p t : Nat) (hG : gOK G) (hp : p < G 2) (ht : G 0 ≤ t) (ht2 : t < 2 ^ 30) : SM E yX3_swingsUntil 1 [.ref 410, .int (nI p), .int (nI t)] (JG S G r) 0 0 (fun o h' => o = some (.int (nI (unt G p t))) ∧ h' = JG S G r) (fun _ _ => False) := by
  obtain ⟨hg0, hg1, hg2, hg3, hgp, hgr, hgw⟩ := id hG
  have hg_p := hgp p (by omega)
  have hpe := per_ge (hg_p.2.2.2.2.1 hp)
  have hpl := per_le (G (4 + p))
  refine SM.of (cc := cX3_swingsUntil) (nL := 3) (ret := (some .int)) (hh := []) (ls := [(0, .ref 410), (1, .int (nI p)), (2, .int (nI t))]) pl_X3 (Or.inl ⟨rfl, q1917⟩) rfl q78 rfl rfl ?_
  refine r_iload_n dX3_swingsUntil_0 rfl ?_
  refine r_aload_n dX3_swingsUntil_1 rfl ?_
  refine r_getfield dX3_swingsUntil_2 fl_X3_7_9 (JG_410 _ _ _) rfl ?_
  refine r_bipush dX3_swingsUntil_5 kb_20 ?_
  refine r_iload_n dX3_swingsUntil_7 rfl ?_
  refine rn_iadd dX3_swingsUntil_8 ?_
  refine rn_iaload dX3_swingsUntil_9 (JG_411 _ _ _) (by omega) (by omega) ?_
  refine rn_isub dX3_swingsUntil_10 (by omega) ?_
  refine r_aload_n dX3_swingsUntil_11 rfl ?_
  refine r_iload_n dX3_swingsUntil_12 rfl ?_
  refine r_invV dX3_swingsUntil_13 (c_m_period S G r p (by omega) (by omega)) q1824 q1826 qs42 (JG_410 _ _ _) k9 pn_X3_period mh_X3_period rfl (by omega) (Nat.le_refl _) (Nat.le_refl _) (Nat.le_of_ble_eq_true rfl) (fun v13 h13 hq13 => ?_) (fun _ _ hq => hq.elim)
  obtain ⟨rfl, rfl⟩ := hq13
  refine rn_idiv dX3_swingsUntil_16 (by omega) (by omega) (by omega) ?_
  refine r_ireturn dX3_swingsUntil_17 rfl rfl ?_
  exact ⟨rfl, rfl⟩
theorem c_m_restTick {E : EV} (S : MS) (G : Nat → Nat) (r : MH) (x : Int32) (hG : gOK G) : SM E yX3_restTick 2 [.ref 410, .int x] (JG S G r) 0 0 (fun o h' => o = some (.int (sp_rest G x).2) ∧ h' = JG (ss S 12 (nI (sp_rest G x).1)) G r) (fun _ _ => False) := by
  obtain ⟨hg0, hg1, hg2, hg3, hgp, hgr, hgw⟩ := id hG
  refine SM.of (cc := cX3_restTick) (nL := 3) (ret := (some .int)) (hh := []) (ls := [(0, .ref 410), (1, .int x)]) pl_X3 (Or.inl ⟨rfl, q1913⟩) rfl q78 rfl rfl ?_
  refine r_aload_n dX3_restTick_0 rfl ?_
  refine r_iload_n dX3_restTick_1 rfl ?_
  refine r_invV dX3_restTick_2 (c_m_isPendulum S G r x hg2) q1784 q1786 qs35 (JG_410 _ _ _) k9 pn_X3_isPendulum mh_X3_isPendulum rfl (by omega) (Nat.le_refl _) (Nat.le_refl _) (Nat.le_of_ble_eq_true rfl) (fun v2 h2 hq2 => ?_) (fun _ _ hq => hq.elim)
  obtain ⟨rfl, rfl⟩ := hq2
  refine rb_if_ne (tgt := 14) dX3_restTick_5 rfl  (fun c5 => ?_) (fun c5 => ?_)
  · obtain ⟨p, hp, rfl⟩ := ix_of (by omega) c5
    have hg_p := hgp p (by omega)
    refine r_aload_n dX3_restTick_14 rfl ?_
    refine r_iload_n dX3_restTick_15 rfl ?_
    refine r_invV dX3_restTick_16 (c_m_rests S G r p (by omega) (by omega)) q1788 q1790 qs36 (JG_410 _ _ _) k9 pn_X3_rests mh_X3_rests rfl (by omega) (Nat.le_refl _) (Nat.le_refl _) (Nat.le_of_ble_eq_true rfl) (fun v16 h16 hq16 => ?_) (fun _ _ hq => hq.elim)
    obtain ⟨rfl, rfl⟩ := hq16
    refine rb_if_eq (tgt := 28) dX3_restTick_19 rfl  (fun c19 => ?_) (fun c19 => ?_)
    · refine r_aload_n dX3_restTick_28 rfl ?_
      refine r_iload_n dX3_restTick_29 rfl ?_
      refine r_aload_n dX3_restTick_30 rfl ?_
      refine r_getfield dX3_restTick_31 fl_X3_7_9 (JG_410 _ _ _) rfl ?_
      refine r_iconst dX3_restTick_34 ki_0 ?_
      refine rn_iaload dX3_restTick_35 (JG_411 _ _ _) (by omega) (by omega) ?_
      refine r_invV dX3_restTick_36 (c_m_swingsUntil S G r p (G 0) hG hp (Nat.le_refl _) (by omega)) q1914 q1916 qs48 (JG_410 _ _ _) k9 pn_X3_swingsUntil mh_X3_swingsUntil rfl (by omega) (Nat.le_refl _) (Nat.le_refl _) (Nat.le_of_ble_eq_true rfl) (fun v36 h36 hq36 => ?_) (fun _ _ hq => hq.elim)
      obtain ⟨rfl, rfl⟩ := hq36
      refine r_aload_n dX3_restTick_39 rfl ?_
      refine r_iload_n dX3_restTick_40 rfl ?_
      refine r_invV dX3_restTick_41 (c_m_swingsLeft S G r p hG (by omega)) q1901 q1903 qs47 (JG_410 _ _ _) k9 pn_X3_swingsLeft mh_X3_swingsLeft rfl (by omega) (Nat.le_refl _) (Nat.le_refl _) (Nat.le_of_ble_eq_true rfl) (fun v41 h41 hq41 => ?_) (fun _ _ hq => hq.elim)
      obtain ⟨rfl, rfl⟩ := hq41
      refine rn_iadd dX3_restTick_44 ?_
      refine r_istore_n (ls' := [(0, _), (1, _), (2, _)]) dX3_restTick_45 rfl rfl ?_
      refine r_aload_n dX3_restTick_46 rfl ?_
      refine r_aload_n dX3_restTick_47 rfl ?_
      refine r_getfield dX3_restTick_48 fl_X3_7_9 (JG_410 _ _ _) rfl ?_
      refine r_bipush dX3_restTick_51 kb_20 ?_
      refine r_iload_n dX3_restTick_53 rfl ?_
      refine rn_iadd dX3_restTick_54 ?_
      refine rn_iaload dX3_restTick_55 (JG_411 _ _ _) (by omega) (by omega) ?_
      refine r_iload_n dX3_restTick_56 rfl ?_
      refine r_aload_n dX3_restTick_57 rfl ?_
      refine r_iload_n dX3_restTick_58 rfl ?_
      refine r_invV dX3_restTick_59 (c_m_period S G r p (by omega) (by omega)) q1824 q1826 qs42 (JG_410 _ _ _) k9 pn_X3_period mh_X3_period rfl (by omega) (Nat.le_refl _) (Nat.le_refl _) (Nat.le_of_ble_eq_true rfl) (fun v59 h59 hq59 => ?_) (fun _ _ hq => hq.elim)
      obtain ⟨rfl, rfl⟩ := hq59
      refine rn_imul dX3_restTick_62 ?_
      refine rn_iadd dX3_restTick_63 ?_
      refine r_invV dX3_restTick_64 (c_m_done S G r _) q1768 q1770 qs32 (JG_410 _ _ _) k9 pn_X3_done mh_X3_done rfl (by omega) (Nat.le_refl _) (Nat.le_refl _) (Nat.le_of_ble_eq_true rfl) (fun v64 h64 hq64 => ?_) (fun _ _ hq => hq.elim)
      obtain ⟨rfl, rfl⟩ := hq64
      refine r_ireturn dX3_restTick_67 rfl rfl ?_
      rw [sp_rest, if_pos c5, nI_clamp (show p < 2 ^ 31 by omega), if_neg c19]
      exact ⟨rfl, rfl⟩
    · refine r_aload_n dX3_restTick_22 rfl ?_
      refine r_iconst dX3_restTick_23 ki_2 ?_
      refine r_invV dX3_restTick_24 (c_m_fails S G r (nI 2)) q1764 q1766 qs31 (JG_410 _ _ _) k9 pn_X3_fails mh_X3_fails rfl (by omega) (Nat.le_refl _) (Nat.le_refl _) (Nat.le_of_ble_eq_true rfl) (fun v24 h24 hq24 => ?_) (fun _ _ hq => hq.elim)
      obtain ⟨rfl, rfl⟩ := hq24
      refine r_ireturn dX3_restTick_27 rfl rfl ?_
      rw [sp_rest, if_pos c5, nI_clamp (show p < 2 ^ 31 by omega), if_pos c19]
      exact ⟨rfl, rfl⟩
  · refine r_aload_n dX3_restTick_8 rfl ?_
    refine r_iconst dX3_restTick_9 ki_1 ?_
    refine r_invV dX3_restTick_10 (c_m_fails S G r (nI 1)) q1764 q1766 qs31 (JG_410 _ _ _) k9 pn_X3_fails mh_X3_fails rfl (by omega) (Nat.le_refl _) (Nat.le_refl _) (Nat.le_of_ble_eq_true rfl) (fun v10 h10 hq10 => ?_) (fun _ _ hq => hq.elim)
    obtain ⟨rfl, rfl⟩ := hq10
    refine r_ireturn dX3_restTick_13 rfl rfl ?_
    rw [sp_rest, if_neg c5]
    exact ⟨rfl, rfl⟩
theorem l_m_aft {E : EV} {QR : Option Value → MH → Prop} {QX : Nat → MH → Prop} {d kc ks : Nat} (hd0 : 1 ≤ d) (S : MS) (G : Nat → Nat) (r : MH) (p t m N : Nat) (hG : gOK G) (hm : m < 2 ^ 30) (kk : QR (some (.int (nI N))) (JG (ss S 12 (nI 0)) G r)) : ∀ (n0 k a : Nat), k ≤ m → m < n0 + k → a ≤ 60 → behN (G 1) (m - k) a = N → SW E yX3_amplitudeAfter cX3_amplitudeAfter 6 (some .int) [] QR QX d kc ks (JG S G r) 79 [(0, .ref 410), (1, .int (nI p)), (2, .int (nI t)), (3, .int (nI a)), (4, .int (nI m)), (5, .int (nI k))] [] := by
  obtain ⟨hg0, hg1, hg2, hg3, hgp, hgr, hgw⟩ := id hG
  intro n0
  induction n0 with
  | zero => intro k a h1 h2; omega
  | succ n0 ih =>
    intro k a h1 h2 h3 h4
    refine r_iload dX3_amplitudeAfter_79 rfl ?_
    refine r_iload dX3_amplitudeAfter_81 rfl ?_
    refine rn_icmp_ge (tgt := 102) dX3_amplitudeAfter_83 rfl (by omega) (by omega) (fun hc => ?_) (fun hc => ?_)
    · rw [show m - k = 0 by omega] at h4
      refine r_aload_n dX3_amplitudeAfter_102 rfl ?_
      refine r_iload_n dX3_amplitudeAfter_103 rfl ?_
      refine r_invV dX3_amplitudeAfter_104 (c_m_done S G r (nI a)) q1768 q1770 qs32 (JG_410 _ _ _) k9 pn_X3_done mh_X3_done rfl (by omega) (Nat.le_refl _) (Nat.le_refl _) (Nat.le_of_ble_eq_true rfl) (fun v104 h104 hq104 => ?_) (fun _ _ hq => hq.elim)
      obtain ⟨rfl, rfl⟩ := hq104
      refine r_ireturn dX3_amplitudeAfter_107 rfl rfl ?_
      have e : a = N := by first | omega | exact h4
      rw [e]
      exact kk
    · refine r_iload_n dX3_amplitudeAfter_86 rfl ?_
      refine rn_if_le (tgt := 102) dX3_amplitudeAfter_87 rfl (by omega) (fun h87 => ?_) (fun h87 => ?_)
      · rw [h87, behN_0] at h4
        refine r_aload_n dX3_amplitudeAfter_102 rfl ?_
        refine r_iload_n dX3_amplitudeAfter_103 rfl ?_
        refine r_invV dX3_amplitudeAfter_104 (c_m_done S G r (nI a)) q1768 q1770 qs32 (JG_410 _ _ _) k9 pn_X3_done mh_X3_done rfl (by omega) (Nat.le_refl _) (Nat.le_refl _) (Nat.le_of_ble_eq_true rfl) (fun v104 h104 hq104 => ?_) (fun _ _ hq => hq.elim)
        obtain ⟨rfl, rfl⟩ := hq104
        refine r_ireturn dX3_amplitudeAfter_107 rfl rfl ?_
        have e : a = N := by first | omega | exact h4
        rw [e]
        exact kk
      · rw [show m - k = (m - (k + 1)) + 1 by omega] at h4
        have hb := beh_le a (G 1)
        refine r_aload_n dX3_amplitudeAfter_90 rfl ?_
        refine r_iload_n dX3_amplitudeAfter_91 rfl ?_
        refine r_invV dX3_amplitudeAfter_92 (c_m_behindSwing S G r a (by omega) (by omega) hg1) q1828 q1830 qs43 (JG_410 _ _ _) k9 pn_X3_behindSwing mh_X3_behindSwing rfl (by omega) (Nat.le_refl _) (Nat.le_refl _) (Nat.le_of_ble_eq_true rfl) (fun v92 h92 hq92 => ?_) (fun _ _ hq => hq.elim)
        obtain ⟨rfl, rfl⟩ := hq92
        refine r_istore_n (ls' := [(0, _), (1, _), (2, _), (3, _), (4, _), (5, _)]) dX3_amplitudeAfter_95 rfl rfl ?_
        refine rn_iinc (n := 1) (ls' := [(0, _), (1, _), (2, _), (3, _), (4, _), (5, _)]) dX3_amplitudeAfter_96 rfl rfl rfl ?_
        refine r_goto (tgt := 79) dX3_amplitudeAfter_99 rfl ?_
        exact ih (k + 1) _ (by omega) (by omega) (by omega) h4
theorem c_m_amplitudeAfter {E : EV} (S : MS) (G : Nat → Nat) (r : MH) (x z : Int32) (hG : gOK G) : SM E yX3_amplitudeAfter 2 [.ref 410, .int x, .int z] (JG S G r) 0 0 (fun o h' => o = some (.int (sp_after G x z).2) ∧ h' = JG (ss S 12 (nI (sp_after G x z).1)) G r) (fun _ _ => False) := by
  obtain ⟨hg0, hg1, hg2, hg3, hgp, hgr, hgw⟩ := id hG
  refine SM.of (cc := cX3_amplitudeAfter) (nL := 6) (ret := (some .int)) (hh := []) (ls := [(0, .ref 410), (1, .int x), (2, .int z)]) pl_X3 (Or.inl ⟨rfl, q1921⟩) rfl q78 rfl rfl ?_
  refine r_aload_n dX3_amplitudeAfter_0 rfl ?_
  refine r_iload_n dX3_amplitudeAfter_1 rfl ?_
  refine r_invV dX3_amplitudeAfter_2 (c_m_isPendulum S G r x hg2) q1784 q1786 qs35 (JG_410 _ _ _) k9 pn_X3_isPendulum mh_X3_isPendulum rfl (by omega) (Nat.le_refl _) (Nat.le_refl _) (Nat.le_of_ble_eq_true rfl) (fun v2 h2 hq2 => ?_) (fun _ _ hq => hq.elim)
  obtain ⟨rfl, rfl⟩ := hq2
  refine rb_if_ne (tgt := 14) dX3_amplitudeAfter_5 rfl  (fun c5 => ?_) (fun c5 => ?_)
  · obtain ⟨p, hp, rfl⟩ := ix_of (by omega) c5
    have hg_p := hgp p (by omega)
    refine r_iload_n dX3_amplitudeAfter_14 rfl ?_
    refine r_iconst dX3_amplitudeAfter_15 ki_0 ?_
    refine r_sipush dX3_amplitudeAfter_16 ks_500 ?_
    refine r_invS dX3_amplitudeAfter_19 (c_m_in (JG S G r) z (nI 0) (nI 500)) q1761 q1762 pn_X3_in mh_X3_in rfl (by omega) (Nat.le_refl _) (Nat.le_refl _) (Nat.le_of_ble_eq_true rfl) (fun v19 h19 hq19 => ?_) (fun _ _ hq => hq.elim)
    obtain ⟨rfl, rfl⟩ := hq19
    refine rb_if_ne (tgt := 31) dX3_amplitudeAfter_22 rfl  (fun c22 => ?_) (fun c22 => ?_)
    · obtain ⟨w, hw1, hw2, rfl⟩ := rg_of (by decide) c22.1 c22.2 (by decide)
      refine r_aload_n dX3_amplitudeAfter_31 rfl ?_
      refine r_getfield dX3_amplitudeAfter_32 fl_X3_7_9 (JG_410 _ _ _) rfl ?_
      refine r_bipush dX3_amplitudeAfter_35 kb_12 ?_
      refine r_iload_n dX3_amplitudeAfter_37 rfl ?_
      refine rn_iadd dX3_amplitudeAfter_38 ?_
      refine rn_iaload dX3_amplitudeAfter_39 (JG_411 _ _ _) (by omega) (by omega) ?_
      refine r_istore_n (ls' := [(0, _), (1, _), (2, _), (3, _)]) dX3_amplitudeAfter_40 rfl rfl ?_
      refine r_iload_n dX3_amplitudeAfter_41 rfl ?_
      refine rn_if_le (tgt := 73) dX3_amplitudeAfter_42 rfl (by omega) (fun c42 => ?_) (fun c42 => ?_)
      · refine r_iconst dX3_amplitudeAfter_73 ki_0 ?_
        refine r_istore (ls' := [(0, _), (1, _), (2, _), (3, _), (4, _)]) dX3_amplitudeAfter_74 rfl rfl ?_
        refine r_iconst dX3_amplitudeAfter_76 ki_0 ?_
        refine r_istore (ls' := [(0, _), (1, _), (2, _), (3, _), (4, _), (5, _)]) dX3_amplitudeAfter_77 rfl rfl ?_
        first
        | (have e42 : G (12 + p) = 0 := by omega
           exact l_m_aft (by decide) S G r p w 0 0 hG (by decide) (by rw [sp_after, if_pos c5, if_pos c22, nI_clamp (show p < 2 ^ 31 by omega), nI_clamp (show w < 2 ^ 31 by omega), e42, behN_0]; exact ⟨rfl, rfl⟩) 1 0 (G (12 + p)) (Nat.zero_le _) (Nat.lt_succ_self _) (by omega) e42)
        | (have hun := Nat.div_le_self (G 0 + w - G (20 + p)) (per (G (4 + p)))
           refine l_m_aft (by decide) S G r p w (unt G p (G 0 + w) - unt G p (G 0)) (behN (G 1) (unt G p (G 0 + w) - unt G p (G 0)) (G (12 + p))) hG (Nat.lt_of_le_of_lt (Nat.sub_le _ _) (Nat.lt_of_le_of_lt hun (by omega))) ?_ _ 0 (G (12 + p)) (Nat.zero_le _) (Nat.lt_succ_self _) (by omega) rfl
           rw [sp_after, if_pos c5, if_pos c22, nI_clamp (show p < 2 ^ 31 by omega), nI_clamp (show w < 2 ^ 31 by omega)]
           exact ⟨rfl, rfl⟩)
      · refine r_aload_n dX3_amplitudeAfter_45 rfl ?_
        refine r_iload_n dX3_amplitudeAfter_46 rfl ?_
        refine r_aload_n dX3_amplitudeAfter_47 rfl ?_
        refine r_getfield dX3_amplitudeAfter_48 fl_X3_7_9 (JG_410 _ _ _) rfl ?_
        refine r_iconst dX3_amplitudeAfter_51 ki_0 ?_
        refine rn_iaload dX3_amplitudeAfter_52 (JG_411 _ _ _) (by omega) (by omega) ?_
        refine r_iload_n dX3_amplitudeAfter_53 rfl ?_
        refine rn_iadd dX3_amplitudeAfter_54 ?_
        refine r_invV dX3_amplitudeAfter_55 (c_m_swingsUntil S G r p (G 0 + w) hG hp (by omega) (by omega)) q1914 q1916 qs48 (JG_410 _ _ _) k9 pn_X3_swingsUntil mh_X3_swingsUntil rfl (by omega) (Nat.le_refl _) (Nat.le_refl _) (Nat.le_of_ble_eq_true rfl) (fun v55 h55 hq55 => ?_) (fun _ _ hq => hq.elim)
        obtain ⟨rfl, rfl⟩ := hq55
        refine r_aload_n dX3_amplitudeAfter_58 rfl ?_
        refine r_iload_n dX3_amplitudeAfter_59 rfl ?_
        refine r_aload_n dX3_amplitudeAfter_60 rfl ?_
        refine r_getfield dX3_amplitudeAfter_61 fl_X3_7_9 (JG_410 _ _ _) rfl ?_
        refine r_iconst dX3_amplitudeAfter_64 ki_0 ?_
        refine rn_iaload dX3_amplitudeAfter_65 (JG_411 _ _ _) (by omega) (by omega) ?_
        refine r_invV dX3_amplitudeAfter_66 (c_m_swingsUntil S G r p (G 0) hG hp (Nat.le_refl _) (by omega)) q1914 q1916 qs48 (JG_410 _ _ _) k9 pn_X3_swingsUntil mh_X3_swingsUntil rfl (by omega) (Nat.le_refl _) (Nat.le_refl _) (Nat.le_of_ble_eq_true rfl) (fun v66 h66 hq66 => ?_) (fun _ _ hq => hq.elim)
        obtain ⟨rfl, rfl⟩ := hq66
        refine rn_isub dX3_amplitudeAfter_69 (Nat.div_le_div_right (by omega)) ?_
        refine r_goto (tgt := 74) dX3_amplitudeAfter_70 rfl ?_
        refine r_istore (ls' := [(0, _), (1, _), (2, _), (3, _), (4, _)]) dX3_amplitudeAfter_74 rfl rfl ?_
        refine r_iconst dX3_amplitudeAfter_76 ki_0 ?_
        refine r_istore (ls' := [(0, _), (1, _), (2, _), (3, _), (4, _), (5, _)]) dX3_amplitudeAfter_77 rfl rfl ?_
        first
        | (have e42 : G (12 + p) = 0 := by omega
           exact l_m_aft (by decide) S G r p w 0 0 hG (by decide) (by rw [sp_after, if_pos c5, if_pos c22, nI_clamp (show p < 2 ^ 31 by omega), nI_clamp (show w < 2 ^ 31 by omega), e42, behN_0]; exact ⟨rfl, rfl⟩) 1 0 (G (12 + p)) (Nat.zero_le _) (Nat.lt_succ_self _) (by omega) e42)
        | (have hun := Nat.div_le_self (G 0 + w - G (20 + p)) (per (G (4 + p)))
           refine l_m_aft (by decide) S G r p w (unt G p (G 0 + w) - unt G p (G 0)) (behN (G 1) (unt G p (G 0 + w) - unt G p (G 0)) (G (12 + p))) hG (Nat.lt_of_le_of_lt (Nat.sub_le _ _) (Nat.lt_of_le_of_lt hun (by omega))) ?_ _ 0 (G (12 + p)) (Nat.zero_le _) (Nat.lt_succ_self _) (by omega) rfl
           rw [sp_after, if_pos c5, if_pos c22, nI_clamp (show p < 2 ^ 31 by omega), nI_clamp (show w < 2 ^ 31 by omega)]
           exact ⟨rfl, rfl⟩)
    · refine r_aload_n dX3_amplitudeAfter_25 rfl ?_
      refine r_iconst dX3_amplitudeAfter_26 ki_2 ?_
      refine r_invV dX3_amplitudeAfter_27 (c_m_fails S G r (nI 2)) q1764 q1766 qs31 (JG_410 _ _ _) k9 pn_X3_fails mh_X3_fails rfl (by omega) (Nat.le_refl _) (Nat.le_refl _) (Nat.le_of_ble_eq_true rfl) (fun v27 h27 hq27 => ?_) (fun _ _ hq => hq.elim)
      obtain ⟨rfl, rfl⟩ := hq27
      refine r_ireturn dX3_amplitudeAfter_30 rfl rfl ?_
      rw [sp_after, if_pos c5, if_neg c22]
      exact ⟨rfl, rfl⟩
  · refine r_aload_n dX3_amplitudeAfter_8 rfl ?_
    refine r_iconst dX3_amplitudeAfter_9 ki_1 ?_
    refine r_invV dX3_amplitudeAfter_10 (c_m_fails S G r (nI 1)) q1764 q1766 qs31 (JG_410 _ _ _) k9 pn_X3_fails mh_X3_fails rfl (by omega) (Nat.le_refl _) (Nat.le_refl _) (Nat.le_of_ble_eq_true rfl) (fun v10 h10 hq10 => ?_) (fun _ _ hq => hq.elim)
    obtain ⟨rfl, rfl⟩ := hq10
    refine r_ireturn dX3_amplitudeAfter_13 rfl rfl ?_
    rw [sp_after, if_neg c5]
    exact ⟨rfl, rfl⟩
theorem c_m_cycle {E : EV} (S : MS) (G : Nat → Nat) (r : MH) (p q : Nat) (hG : gOK G) (hp : p < G 2) (hq : q < G 2) : SM E yX3_cycle 1 [.ref 410, .int (nI p), .int (nI q)] (JG S G r) 0 0 (fun o h' => o = some (.int (nI (cyc G p q))) ∧ h' = JG S G r) (fun _ _ => False) := by
  obtain ⟨hg0, hg1, hg2, hg3, hgp, hgr, hgw⟩ := id hG
  have hg_p := hgp p (by omega)
  have hpep := per_ge (hg_p.2.2.2.2.1 hp)
  have hplp := per_le (G (4 + p))
  have hg_q := hgp q (by omega)
  have hpeq := per_ge (hg_q.2.2.2.2.1 hq)
  have hplq := per_le (G (4 + q))
  have hgc := Nat.gcd_pos_of_pos_left (per (G (4 + q))) (show 0 < per (G (4 + p)) by omega)
  have hgl := Nat.gcd_le_left (per (G (4 + q))) (show 0 < per (G (4 + p)) by omega)
  refine SM.of (cc := cX3_cycle) (nL := 3) (ret := (some .int)) (hh := []) (ls := [(0, .ref 410), (1, .int (nI p)), (2, .int (nI q))]) pl_X3 (Or.inl ⟨rfl, q1933⟩) rfl q78 rfl rfl ?_
  refine r_aload_n dX3_cycle_0 rfl ?_
  refine r_iload_n dX3_cycle_1 rfl ?_
  refine r_invV dX3_cycle_2 (c_m_period S G r p (by omega) (by omega)) q1824 q1826 qs42 (JG_410 _ _ _) k9 pn_X3_period mh_X3_period rfl (by omega) (Nat.le_refl _) (Nat.le_refl _) (Nat.le_of_ble_eq_true rfl) (fun v2 h2 hq2 => ?_) (fun _ _ hq => hq.elim)
  obtain ⟨rfl, rfl⟩ := hq2
  refine r_aload_n dX3_cycle_5 rfl ?_
  refine r_iload_n dX3_cycle_6 rfl ?_
  refine r_invV dX3_cycle_7 (c_m_period S G r p (by omega) (by omega)) q1824 q1826 qs42 (JG_410 _ _ _) k9 pn_X3_period mh_X3_period rfl (by omega) (Nat.le_refl _) (Nat.le_refl _) (Nat.le_of_ble_eq_true rfl) (fun v7 h7 hq7 => ?_) (fun _ _ hq => hq.elim)
  obtain ⟨rfl, rfl⟩ := hq7
  refine r_aload_n dX3_cycle_10 rfl ?_
  refine r_iload_n dX3_cycle_11 rfl ?_
  refine r_invV dX3_cycle_12 (c_m_period S G r q (by omega) (by omega)) q1824 q1826 qs42 (JG_410 _ _ _) k9 pn_X3_period mh_X3_period rfl (by omega) (Nat.le_refl _) (Nat.le_refl _) (Nat.le_of_ble_eq_true rfl) (fun v12 h12 hq12 => ?_) (fun _ _ hq => hq.elim)
  obtain ⟨rfl, rfl⟩ := hq12
  refine r_invS dX3_cycle_15 (c_m_divisor (JG S G r) _ _ (by omega) (by omega)) q1934 q1935 pn_X3_divisor mh_X3_divisor rfl (by omega) (Nat.le_refl _) (Nat.le_refl _) (Nat.le_of_ble_eq_true rfl) (fun v15 h15 hq15 => ?_) (fun _ _ hq => hq.elim)
  obtain ⟨rfl, rfl⟩ := hq15
  refine rn_idiv dX3_cycle_18 (by omega) (by omega) (by omega) ?_
  refine r_aload_n dX3_cycle_19 rfl ?_
  refine r_iload_n dX3_cycle_20 rfl ?_
  refine r_invV dX3_cycle_21 (c_m_period S G r q (by omega) (by omega)) q1824 q1826 qs42 (JG_410 _ _ _) k9 pn_X3_period mh_X3_period rfl (by omega) (Nat.le_refl _) (Nat.le_refl _) (Nat.le_of_ble_eq_true rfl) (fun v21 h21 hq21 => ?_) (fun _ _ hq => hq.elim)
  obtain ⟨rfl, rfl⟩ := hq21
  refine rn_imul dX3_cycle_24 ?_
  refine r_ireturn dX3_cycle_25 rfl rfl ?_
  exact ⟨rfl, rfl⟩
theorem l_m_meets {E : EV} {QR : Option Value → MH → Prop} {QX : Nat → MH → Prop} {d kc ks : Nat} (hd0 : 1 ≤ d) (S : MS) (G : Nat → Nat) (r : MH) (p q : Nat) (hG : gOK G) (hp : p < G 2) (hq : q < G 2) (kk : ∀ o, meet G p q = o → QR (some (.int (match o with | some k => nI (G 0 + 1 + k) | none => (-1)))) (JG S G r)) : ∀ (n0 k : Nat), k ≤ cyc G p q → cyc G p q < n0 + k → (∀ j, j < k → decide (mts G p q (G 0 + 1 + j)) = false) → SW E yX3_meets cX3_meets 5 (some .int) [] QR QX d kc ks (JG S G r) 17 [(0, .ref 410), (1, .int (nI p)), (2, .int (nI q)), (3, .int (nI (cyc G p q))), (4, .int (nI (G 0 + 1 + k)))] [] := by
  obtain ⟨hg0, hg1, hg2, hg3, hgp, hgr, hgw⟩ := id hG
  have hcy := cyc_le (G := G) (a := p) (b := q)
  have hg_p := hgp p (by omega)
  have hpep := per_ge (hg_p.2.2.2.2.1 hp)
  have hplp := per_le (G (4 + p))
  have hg_q := hgp q (by omega)
  have hpeq := per_ge (hg_q.2.2.2.2.1 hq)
  have hplq := per_le (G (4 + q))
  intro n0
  induction n0 with
  | zero => intro k h1 h2; omega
  | succ n0 ih =>
    intro k h1 h2 h3
    refine r_iload dX3_meets_17 rfl ?_
    refine r_aload_n dX3_meets_19 rfl ?_
    refine r_getfield dX3_meets_20 fl_X3_7_9 (JG_410 _ _ _) rfl ?_
    refine r_iconst dX3_meets_23 ki_0 ?_
    refine rn_iaload dX3_meets_24 (JG_411 _ _ _) (by omega) (by omega) ?_
    refine r_iload_n dX3_meets_25 rfl ?_
    refine rn_iadd dX3_meets_26 ?_
    refine rn_icmp_gt (tgt := 81) dX3_meets_27 rfl (by omega) (by omega) (fun hc => ?_) (fun hc => ?_)
    · refine r_iconst dX3_meets_81 ki_m1 ?_
      refine r_ireturn dX3_meets_82 rfl rfl ?_
      exact kk none (fst1_none fun j hj => h3 j (by omega))
    · refine r_iload dX3_meets_30 rfl ?_
      refine r_aload_n dX3_meets_32 rfl ?_
      refine r_getfield dX3_meets_33 fl_X3_7_9 (JG_410 _ _ _) rfl ?_
      refine r_bipush dX3_meets_36 kb_20 ?_
      refine r_iload_n dX3_meets_38 rfl ?_
      refine rn_iadd dX3_meets_39 ?_
      refine rn_iaload dX3_meets_40 (JG_411 _ _ _) (by omega) (by omega) ?_
      refine rn_isub dX3_meets_41 (by omega) ?_
      refine r_aload_n dX3_meets_42 rfl ?_
      refine r_iload_n dX3_meets_43 rfl ?_
      refine r_invV dX3_meets_44 (c_m_period S G r p (by omega) (by omega)) q1824 q1826 qs42 (JG_410 _ _ _) k9 pn_X3_period mh_X3_period rfl (by omega) (Nat.le_refl _) (Nat.le_refl _) (Nat.le_of_ble_eq_true rfl) (fun v44 h44 hq44 => ?_) (fun _ _ hq => hq.elim)
      obtain ⟨rfl, rfl⟩ := hq44
      refine rn_irem dX3_meets_47 (by omega) (by omega) (by omega) ?_
      have hm1 := Nat.mod_lt (G 0 + 1 + k - G (20 + p)) (show 0 < per (G (4 + p)) by omega)
      refine rn_if_ne (tgt := 75) dX3_meets_48 rfl (by omega) (fun h48 => ?_) (fun h48 => ?_)
      · refine rn_iinc (n := 1) (ls' := [(0, _), (1, _), (2, _), (3, _), (4, _)]) dX3_meets_75 rfl rfl rfl ?_
        refine r_goto (tgt := 17) dX3_meets_78 rfl ?_
        exact ih (k + 1) (by omega) (by omega) (fun j hj => by
          rcases Nat.lt_or_ge j k with e | e
          · exact h3 j e
          · rw [show j = k by omega]
            exact decide_eq_false (fun z => by first | exact h48 z.1 | exact h69 z.2))
      · refine r_iload dX3_meets_51 rfl ?_
        refine r_aload_n dX3_meets_53 rfl ?_
        refine r_getfield dX3_meets_54 fl_X3_7_9 (JG_410 _ _ _) rfl ?_
        refine r_bipush dX3_meets_57 kb_20 ?_
        refine r_iload_n dX3_meets_59 rfl ?_
        refine rn_iadd dX3_meets_60 ?_
        refine rn_iaload dX3_meets_61 (JG_411 _ _ _) (by omega) (by omega) ?_
        refine rn_isub dX3_meets_62 (by omega) ?_
        refine r_aload_n dX3_meets_63 rfl ?_
        refine r_iload_n dX3_meets_64 rfl ?_
        refine r_invV dX3_meets_65 (c_m_period S G r q (by omega) (by omega)) q1824 q1826 qs42 (JG_410 _ _ _) k9 pn_X3_period mh_X3_period rfl (by omega) (Nat.le_refl _) (Nat.le_refl _) (Nat.le_of_ble_eq_true rfl) (fun v65 h65 hq65 => ?_) (fun _ _ hq => hq.elim)
        obtain ⟨rfl, rfl⟩ := hq65
        refine rn_irem dX3_meets_68 (by omega) (by omega) (by omega) ?_
        have hm2 := Nat.mod_lt (G 0 + 1 + k - G (20 + q)) (show 0 < per (G (4 + q)) by omega)
        refine rn_if_ne (tgt := 75) dX3_meets_69 rfl (by omega) (fun h69 => ?_) (fun h69 => ?_)
        · refine rn_iinc (n := 1) (ls' := [(0, _), (1, _), (2, _), (3, _), (4, _)]) dX3_meets_75 rfl rfl rfl ?_
          refine r_goto (tgt := 17) dX3_meets_78 rfl ?_
          exact ih (k + 1) (by omega) (by omega) (fun j hj => by
            rcases Nat.lt_or_ge j k with e | e
            · exact h3 j e
            · rw [show j = k by omega]
              exact decide_eq_false (fun z => by first | exact h48 z.1 | exact h69 z.2))
        · refine r_iload dX3_meets_72 rfl ?_
          refine r_ireturn dX3_meets_74 rfl rfl ?_
          exact kk (some k) (fst1_some (decide_eq_true ⟨h48, h69⟩) h3 (by omega))
theorem c_m_meets {E : EV} (S : MS) (G : Nat → Nat) (r : MH) (p q : Nat) (hG : gOK G) (hp : p < G 2) (hq : q < G 2) : SM E yX3_meets 2 [.ref 410, .int (nI p), .int (nI q)] (JG S G r) 0 0 (fun o h' => o = some (.int (match meet G p q with | some k => nI (G 0 + 1 + k) | none => (-1))) ∧ h' = JG S G r) (fun _ _ => False) := by
  refine SM.of (cc := cX3_meets) (nL := 5) (ret := (some .int)) (hh := []) (ls := [(0, .ref 410), (1, .int (nI p)), (2, .int (nI q))]) pl_X3 (Or.inl ⟨rfl, q1929⟩) rfl q78 rfl rfl ?_
  refine r_aload_n dX3_meets_0 rfl ?_
  refine r_iload_n dX3_meets_1 rfl ?_
  refine r_iload_n dX3_meets_2 rfl ?_
  refine r_invV dX3_meets_3 (c_m_cycle S G r p q hG hp hq) q1930 q1932 qs50 (JG_410 _ _ _) k9 pn_X3_cycle mh_X3_cycle rfl (by omega) (Nat.le_refl _) (Nat.le_refl _) (Nat.le_of_ble_eq_true rfl) (fun v3 h3 hq3 => ?_) (fun _ _ hq => hq.elim)
  obtain ⟨rfl, rfl⟩ := hq3
  refine r_istore_n (ls' := [(0, _), (1, _), (2, _), (3, _)]) dX3_meets_6 rfl rfl ?_
  refine r_aload_n dX3_meets_7 rfl ?_
  refine r_getfield dX3_meets_8 fl_X3_7_9 (JG_410 _ _ _) rfl ?_
  refine r_iconst dX3_meets_11 ki_0 ?_
  refine rn_iaload dX3_meets_12 (JG_411 _ _ _) (by omega) (by omega) ?_
  refine r_iconst dX3_meets_13 ki_1 ?_
  refine rn_iadd dX3_meets_14 ?_
  refine r_istore (ls' := [(0, _), (1, _), (2, _), (3, _), (4, _)]) dX3_meets_15 rfl rfl ?_
  exact l_m_meets (by decide) S G r p q hG hp hq (fun o e => by rw [e]; exact ⟨rfl, rfl⟩) _ 0 (Nat.zero_le _) (Nat.lt_succ_self _) (fun j hj => absurd hj (Nat.not_lt_zero _))
theorem l_m_meetn {E : EV} {QR : Option Value → MH → Prop} {QX : Nat → MH → Prop} {d kc ks : Nat} (hd0 : 1 ≤ d) (S : MS) (G : Nat → Nat) (r : MH) (p q : Nat) (kk : QR (some (.int (nI 0))) (JG (ss S 12 (nI 3)) G r)) : SW E yX3_meeting cX3_meeting 4 (some .int) [] QR QX d kc ks (JG S G r) 50 [(0, .ref 410), (1, .int (nI p)), (2, .int (nI q))] [.int (-1)] := by
  refine r_istore_n (ls' := [(0, _), (1, _), (2, _), (3, _)]) dX3_meeting_50 rfl rfl ?_
  refine r_iload_n dX3_meeting_51 rfl ?_
  refine r_iconst dX3_meeting_52 ki_m1 ?_
  refine r_icmp_ne (tgt := 64) dX3_meeting_53 rfl  (fun c53 => absurd rfl c53) (fun c53 => ?_)
  refine r_aload_n dX3_meeting_56 rfl ?_
  refine r_iconst dX3_meeting_57 ki_3 ?_
  refine r_invV dX3_meeting_58 (c_m_fails S G r (nI 3)) q1764 q1766 qs31 (JG_410 _ _ _) k9 pn_X3_fails mh_X3_fails rfl (by omega) (Nat.le_refl _) (Nat.le_refl _) (Nat.le_of_ble_eq_true rfl) (fun v58 h58 hq58 => ?_) (fun _ _ hq => hq.elim)
  obtain ⟨rfl, rfl⟩ := hq58
  refine r_goto (tgt := 69) dX3_meeting_61 rfl ?_
  refine r_ireturn dX3_meeting_69 rfl rfl ?_
  exact kk
theorem l_m_meets2 {E : EV} {QR : Option Value → MH → Prop} {QX : Nat → MH → Prop} {d kc ks : Nat} (hd0 : 1 ≤ d) (S : MS) (G : Nat → Nat) (r : MH) (p q t : Nat) (ht : t < 2 ^ 31) (kk : QR (some (.int (nI t))) (JG (ss S 12 (nI 0)) G r)) : SW E yX3_meeting cX3_meeting 4 (some .int) [] QR QX d kc ks (JG S G r) 50 [(0, .ref 410), (1, .int (nI p)), (2, .int (nI q))] [.int (nI t)] := by
  refine r_istore_n (ls' := [(0, _), (1, _), (2, _), (3, _)]) dX3_meeting_50 rfl rfl ?_
  refine r_iload_n dX3_meeting_51 rfl ?_
  refine r_iconst dX3_meeting_52 ki_m1 ?_
  refine r_icmp_ne (tgt := 64) dX3_meeting_53 rfl  (fun c53 => ?_) (fun c53 => (nI_m1 ht c53).elim)
  refine r_aload_n dX3_meeting_64 rfl ?_
  refine r_iload_n dX3_meeting_65 rfl ?_
  refine r_invV dX3_meeting_66 (c_m_done S G r (nI t)) q1768 q1770 qs32 (JG_410 _ _ _) k9 pn_X3_done mh_X3_done rfl (by omega) (Nat.le_refl _) (Nat.le_refl _) (Nat.le_of_ble_eq_true rfl) (fun v66 h66 hq66 => ?_) (fun _ _ hq => hq.elim)
  obtain ⟨rfl, rfl⟩ := hq66
  refine r_ireturn dX3_meeting_69 rfl rfl ?_
  exact kk
theorem c_m_meeting {E : EV} (S : MS) (G : Nat → Nat) (r : MH) (x z : Int32) (hG : gOK G) : SM E yX3_meeting 3 [.ref 410, .int x, .int z] (JG S G r) 0 0 (fun o h' => o = some (.int (sp_meet G x z).2) ∧ h' = JG (ss S 12 (nI (sp_meet G x z).1)) G r) (fun _ _ => False) := by
  obtain ⟨hg0, hg1, hg2, hg3, hgp, hgr, hgw⟩ := id hG
  refine SM.of (cc := cX3_meeting) (nL := 4) (ret := (some .int)) (hh := []) (ls := [(0, .ref 410), (1, .int x), (2, .int z)]) pl_X3 (Or.inl ⟨rfl, q1925⟩) rfl q78 rfl rfl ?_
  refine r_aload_n dX3_meeting_0 rfl ?_
  refine r_iload_n dX3_meeting_1 rfl ?_
  refine r_invV dX3_meeting_2 (c_m_isPendulum S G r x hg2) q1784 q1786 qs35 (JG_410 _ _ _) k9 pn_X3_isPendulum mh_X3_isPendulum rfl (by omega) (Nat.le_refl _) (Nat.le_refl _) (Nat.le_of_ble_eq_true rfl) (fun v2 h2 hq2 => ?_) (fun _ _ hq => hq.elim)
  obtain ⟨rfl, rfl⟩ := hq2
  refine rb_if_eq (tgt := 16) dX3_meeting_5 rfl  (fun c5 => ?_) (fun c5 => ?_)
  · refine r_aload_n dX3_meeting_16 rfl ?_
    refine r_iconst dX3_meeting_17 ki_1 ?_
    refine r_invV dX3_meeting_18 (c_m_fails S G r (nI 1)) q1764 q1766 qs31 (JG_410 _ _ _) k9 pn_X3_fails mh_X3_fails rfl (by omega) (Nat.le_refl _) (Nat.le_refl _) (Nat.le_of_ble_eq_true rfl) (fun v18 h18 hq18 => ?_) (fun _ _ hq => hq.elim)
    obtain ⟨rfl, rfl⟩ := hq18
    refine r_ireturn dX3_meeting_21 rfl rfl ?_
    first
    | (rw [sp_meet, if_neg (fun w => c5 w.1)]
       exact ⟨rfl, rfl⟩)
    | (rw [sp_meet, if_neg (fun w => c13 w.2)]
       exact ⟨rfl, rfl⟩)
  · obtain ⟨p, hp, rfl⟩ := ix_of (by omega) c5
    have hg_p := hgp p (by omega)
    refine r_aload_n dX3_meeting_8 rfl ?_
    refine r_iload_n dX3_meeting_9 rfl ?_
    refine r_invV dX3_meeting_10 (c_m_isPendulum S G r z hg2) q1784 q1786 qs35 (JG_410 _ _ _) k9 pn_X3_isPendulum mh_X3_isPendulum rfl (by omega) (Nat.le_refl _) (Nat.le_refl _) (Nat.le_of_ble_eq_true rfl) (fun v10 h10 hq10 => ?_) (fun _ _ hq => hq.elim)
    obtain ⟨rfl, rfl⟩ := hq10
    refine rb_if_ne (tgt := 22) dX3_meeting_13 rfl  (fun c13 => ?_) (fun c13 => ?_)
    · obtain ⟨q, hq, rfl⟩ := ix_of (by omega) c13
      have hg_q := hgp q (by omega)
      refine r_aload_n dX3_meeting_22 rfl ?_
      refine r_iload_n dX3_meeting_23 rfl ?_
      refine r_invV dX3_meeting_24 (c_m_rests S G r p (by omega) (by omega)) q1788 q1790 qs36 (JG_410 _ _ _) k9 pn_X3_rests mh_X3_rests rfl (by omega) (Nat.le_refl _) (Nat.le_refl _) (Nat.le_of_ble_eq_true rfl) (fun v24 h24 hq24 => ?_) (fun _ _ hq => hq.elim)
      obtain ⟨rfl, rfl⟩ := hq24
      refine rb_if_ne (tgt := 38) dX3_meeting_27 rfl  (fun c27 => ?_) (fun c27 => ?_)
      · refine r_aload_n dX3_meeting_38 rfl ?_
        refine r_iconst dX3_meeting_39 ki_2 ?_
        refine r_invV dX3_meeting_40 (c_m_fails S G r (nI 2)) q1764 q1766 qs31 (JG_410 _ _ _) k9 pn_X3_fails mh_X3_fails rfl (by omega) (Nat.le_refl _) (Nat.le_refl _) (Nat.le_of_ble_eq_true rfl) (fun v40 h40 hq40 => ?_) (fun _ _ hq => hq.elim)
        obtain ⟨rfl, rfl⟩ := hq40
        refine r_ireturn dX3_meeting_43 rfl rfl ?_
        first
        | (rw [sp_meet, if_pos ⟨c5, c13⟩, nI_clamp (show p < 2 ^ 31 by omega), nI_clamp (show q < 2 ^ 31 by omega), if_pos (Or.inl c27)]
           exact ⟨rfl, rfl⟩)
        | (rw [sp_meet, if_pos ⟨c5, c13⟩, nI_clamp (show p < 2 ^ 31 by omega), nI_clamp (show q < 2 ^ 31 by omega), if_pos (Or.inr c35)]
           exact ⟨rfl, rfl⟩)
      · refine r_aload_n dX3_meeting_30 rfl ?_
        refine r_iload_n dX3_meeting_31 rfl ?_
        refine r_invV dX3_meeting_32 (c_m_rests S G r q (by omega) (by omega)) q1788 q1790 qs36 (JG_410 _ _ _) k9 pn_X3_rests mh_X3_rests rfl (by omega) (Nat.le_refl _) (Nat.le_refl _) (Nat.le_of_ble_eq_true rfl) (fun v32 h32 hq32 => ?_) (fun _ _ hq => hq.elim)
        obtain ⟨rfl, rfl⟩ := hq32
        refine rb_if_eq (tgt := 44) dX3_meeting_35 rfl  (fun c35 => ?_) (fun c35 => ?_)
        · refine r_aload_n dX3_meeting_44 rfl ?_
          refine r_iload_n dX3_meeting_45 rfl ?_
          refine r_iload_n dX3_meeting_46 rfl ?_
          refine r_invV dX3_meeting_47 (c_m_meets S G r p q hG hp hq) q1926 q1928 qs49 (JG_410 _ _ _) k9 pn_X3_meets mh_X3_meets rfl (by omega) (Nat.le_refl _) (Nat.le_refl _) (Nat.le_of_ble_eq_true rfl) (fun v47 h47 hq47 => ?_) (fun _ _ hq => hq.elim)
          obtain ⟨rfl, rfl⟩ := hq47
          rcases hme : meet G p q with _ | k
          · exact l_m_meetn (by decide) S G r p q (by rw [sp_meet, if_pos ⟨c5, c13⟩, nI_clamp (show p < 2 ^ 31 by omega), nI_clamp (show q < 2 ^ 31 by omega), if_neg (fun w => w.elim c27 c35), hme]; exact ⟨rfl, rfl⟩)
          · have hlt := Nat.lt_of_lt_of_le (fst1_lt hme) cyc_le
            exact l_m_meets2 (by decide) S G r p q _ (by omega) (by rw [sp_meet, if_pos ⟨c5, c13⟩, nI_clamp (show p < 2 ^ 31 by omega), nI_clamp (show q < 2 ^ 31 by omega), if_neg (fun w => w.elim c27 c35), hme]; exact ⟨rfl, rfl⟩)
        · refine r_aload_n dX3_meeting_38 rfl ?_
          refine r_iconst dX3_meeting_39 ki_2 ?_
          refine r_invV dX3_meeting_40 (c_m_fails S G r (nI 2)) q1764 q1766 qs31 (JG_410 _ _ _) k9 pn_X3_fails mh_X3_fails rfl (by omega) (Nat.le_refl _) (Nat.le_refl _) (Nat.le_of_ble_eq_true rfl) (fun v40 h40 hq40 => ?_) (fun _ _ hq => hq.elim)
          obtain ⟨rfl, rfl⟩ := hq40
          refine r_ireturn dX3_meeting_43 rfl rfl ?_
          first
          | (rw [sp_meet, if_pos ⟨c5, c13⟩, nI_clamp (show p < 2 ^ 31 by omega), nI_clamp (show q < 2 ^ 31 by omega), if_pos (Or.inl c27)]
             exact ⟨rfl, rfl⟩)
          | (rw [sp_meet, if_pos ⟨c5, c13⟩, nI_clamp (show p < 2 ^ 31 by omega), nI_clamp (show q < 2 ^ 31 by omega), if_pos (Or.inr c35)]
             exact ⟨rfl, rfl⟩)
    · refine r_aload_n dX3_meeting_16 rfl ?_
      refine r_iconst dX3_meeting_17 ki_1 ?_
      refine r_invV dX3_meeting_18 (c_m_fails S G r (nI 1)) q1764 q1766 qs31 (JG_410 _ _ _) k9 pn_X3_fails mh_X3_fails rfl (by omega) (Nat.le_refl _) (Nat.le_refl _) (Nat.le_of_ble_eq_true rfl) (fun v18 h18 hq18 => ?_) (fun _ _ hq => hq.elim)
      obtain ⟨rfl, rfl⟩ := hq18
      refine r_ireturn dX3_meeting_21 rfl rfl ?_
      first
      | (rw [sp_meet, if_neg (fun w => c5 w.1)]
         exact ⟨rfl, rfl⟩)
      | (rw [sp_meet, if_neg (fun w => c13 w.2)]
         exact ⟨rfl, rfl⟩)
theorem c_m_meetingByDivisors {E : EV} (S : MS) (G : Nat → Nat) (r : MH) (x z : Int32) (hG : gOK G) : SM E yX3_meetingByDivisors 4 [.ref 410, .int x, .int z] (JG S G r) 0 0 (fun o h' => o = some (.int (sp_meet G x z).2) ∧ h' = JG (ss S 12 (nI (sp_meet G x z).1)) G r) (fun _ _ => False) := by
  refine SM.of (cc := cX3_meetingByDivisors) (nL := 3) (ret := (some .int)) (hh := []) (ls := [(0, .ref 410), (1, .int x), (2, .int z)]) pl_X3 (Or.inl ⟨rfl, q1940⟩) rfl q78 rfl rfl ?_
  refine r_aload_n dX3_meetingByDivisors_0 rfl ?_
  refine r_iload_n dX3_meetingByDivisors_1 rfl ?_
  refine r_iload_n dX3_meetingByDivisors_2 rfl ?_
  refine r_invV dX3_meetingByDivisors_3 (c_m_meeting S G r x z hG) q1941 q1923 q1924 (JG_410 _ _ _) k9 pn_X3_meeting mh_X3_meeting rfl (by omega) (Nat.le_refl _) (Nat.le_refl _) (Nat.le_of_ble_eq_true rfl) (fun v3 h3 hq3 => ?_) (fun _ _ hq => hq.elim)
  obtain ⟨rfl, rfl⟩ := hq3
  refine r_ireturn dX3_meetingByDivisors_6 rfl rfl ?_
  exact ⟨rfl, rfl⟩
theorem c_m_cycleOf {E : EV} (S : MS) (G : Nat → Nat) (r : MH) (x z : Int32) (hG : gOK G) : SM E yX3_cycleOf 2 [.ref 410, .int x, .int z] (JG S G r) 0 0 (fun o h' => o = some (.int (sp_cycle G x z).2) ∧ h' = JG (ss S 12 (nI (sp_cycle G x z).1)) G r) (fun _ _ => False) := by
  obtain ⟨hg0, hg1, hg2, hg3, hgp, hgr, hgw⟩ := id hG
  refine SM.of (cc := cX3_cycleOf) (nL := 3) (ret := (some .int)) (hh := []) (ls := [(0, .ref 410), (1, .int x), (2, .int z)]) pl_X3 (Or.inl ⟨rfl, q1952⟩) rfl q78 rfl rfl ?_
  refine r_aload_n dX3_cycleOf_0 rfl ?_
  refine r_iload_n dX3_cycleOf_1 rfl ?_
  refine r_invV dX3_cycleOf_2 (c_m_isPendulum S G r x hg2) q1784 q1786 qs35 (JG_410 _ _ _) k9 pn_X3_isPendulum mh_X3_isPendulum rfl (by omega) (Nat.le_refl _) (Nat.le_refl _) (Nat.le_of_ble_eq_true rfl) (fun v2 h2 hq2 => ?_) (fun _ _ hq => hq.elim)
  obtain ⟨rfl, rfl⟩ := hq2
  refine rb_if_eq (tgt := 29) dX3_cycleOf_5 rfl  (fun c5 => ?_) (fun c5 => ?_)
  · refine r_aload_n dX3_cycleOf_29 rfl ?_
    refine r_iconst dX3_cycleOf_30 ki_1 ?_
    refine r_invV dX3_cycleOf_31 (c_m_fails S G r (nI 1)) q1764 q1766 qs31 (JG_410 _ _ _) k9 pn_X3_fails mh_X3_fails rfl (by omega) (Nat.le_refl _) (Nat.le_refl _) (Nat.le_of_ble_eq_true rfl) (fun v31 h31 hq31 => ?_) (fun _ _ hq => hq.elim)
    obtain ⟨rfl, rfl⟩ := hq31
    refine r_ireturn dX3_cycleOf_34 rfl rfl ?_
    first
    | (rw [sp_cycle, if_neg (fun w => c5 w.1)]
       exact ⟨rfl, rfl⟩)
    | (rw [sp_cycle, if_neg (fun w => c13 w.2)]
       exact ⟨rfl, rfl⟩)
    | (rw [sp_cycle, if_pos ⟨c5, c13⟩, nI_clamp (show p < 2 ^ 31 by omega), nI_clamp (show q < 2 ^ 31 by omega)]
       exact ⟨rfl, rfl⟩)
  · obtain ⟨p, hp, rfl⟩ := ix_of (by omega) c5
    have hg_p := hgp p (by omega)
    refine r_aload_n dX3_cycleOf_8 rfl ?_
    refine r_iload_n dX3_cycleOf_9 rfl ?_
    refine r_invV dX3_cycleOf_10 (c_m_isPendulum S G r z hg2) q1784 q1786 qs35 (JG_410 _ _ _) k9 pn_X3_isPendulum mh_X3_isPendulum rfl (by omega) (Nat.le_refl _) (Nat.le_refl _) (Nat.le_of_ble_eq_true rfl) (fun v10 h10 hq10 => ?_) (fun _ _ hq => hq.elim)
    obtain ⟨rfl, rfl⟩ := hq10
    refine rb_if_eq (tgt := 29) dX3_cycleOf_13 rfl  (fun c13 => ?_) (fun c13 => ?_)
    · refine r_aload_n dX3_cycleOf_29 rfl ?_
      refine r_iconst dX3_cycleOf_30 ki_1 ?_
      refine r_invV dX3_cycleOf_31 (c_m_fails S G r (nI 1)) q1764 q1766 qs31 (JG_410 _ _ _) k9 pn_X3_fails mh_X3_fails rfl (by omega) (Nat.le_refl _) (Nat.le_refl _) (Nat.le_of_ble_eq_true rfl) (fun v31 h31 hq31 => ?_) (fun _ _ hq => hq.elim)
      obtain ⟨rfl, rfl⟩ := hq31
      refine r_ireturn dX3_cycleOf_34 rfl rfl ?_
      first
      | (rw [sp_cycle, if_neg (fun w => c5 w.1)]
         exact ⟨rfl, rfl⟩)
      | (rw [sp_cycle, if_neg (fun w => c13 w.2)]
         exact ⟨rfl, rfl⟩)
      | (rw [sp_cycle, if_pos ⟨c5, c13⟩, nI_clamp (show p < 2 ^ 31 by omega), nI_clamp (show q < 2 ^ 31 by omega)]
         exact ⟨rfl, rfl⟩)
    · obtain ⟨q, hq, rfl⟩ := ix_of (by omega) c13
      have hg_q := hgp q (by omega)
      refine r_aload_n dX3_cycleOf_16 rfl ?_
      refine r_aload_n dX3_cycleOf_17 rfl ?_
      refine r_iload_n dX3_cycleOf_18 rfl ?_
      refine r_iload_n dX3_cycleOf_19 rfl ?_
      refine r_invV dX3_cycleOf_20 (c_m_cycle S G r p q hG hp hq) q1930 q1932 qs50 (JG_410 _ _ _) k9 pn_X3_cycle mh_X3_cycle rfl (by omega) (Nat.le_refl _) (Nat.le_refl _) (Nat.le_of_ble_eq_true rfl) (fun v20 h20 hq20 => ?_) (fun _ _ hq => hq.elim)
      obtain ⟨rfl, rfl⟩ := hq20
      refine r_invV dX3_cycleOf_23 (c_m_done S G r _) q1768 q1770 qs32 (JG_410 _ _ _) k9 pn_X3_done mh_X3_done rfl (by omega) (Nat.le_refl _) (Nat.le_refl _) (Nat.le_of_ble_eq_true rfl) (fun v23 h23 hq23 => ?_) (fun _ _ hq => hq.elim)
      obtain ⟨rfl, rfl⟩ := hq23
      refine r_goto (tgt := 34) dX3_cycleOf_26 rfl ?_
      refine r_ireturn dX3_cycleOf_34 rfl rfl ?_
      first
      | (rw [sp_cycle, if_neg (fun w => c5 w.1)]
         exact ⟨rfl, rfl⟩)
      | (rw [sp_cycle, if_neg (fun w => c13 w.2)]
         exact ⟨rfl, rfl⟩)
      | (rw [sp_cycle, if_pos ⟨c5, c13⟩, nI_clamp (show p < 2 ^ 31 by omega), nI_clamp (show q < 2 ^ 31 by omega)]
         exact ⟨rfl, rfl⟩)
theorem c_m_size {E : EV} (h : MH) (a b : Nat) (ha : a < 2 ^ 30) (hb : b < 2 ^ 30) : SM E yX3_size 0 [.int (nI a - nI b)] h 0 0 (fun o h' => o = some (.int (nI (dst a b))) ∧ h' = h) (fun _ _ => False) := by
  refine SM.of (cc := cX3_size) (nL := 1) (ret := (some .int)) (hh := []) (ls := [(0, .int (nI a - nI b))]) pl_X3 (Or.inl ⟨rfl, q1948⟩) rfl q78 rfl rfl ?_
  refine r_iload_n dX3_size_0 rfl ?_
  refine r_if_ge (tgt := 9) dX3_size_1 rfl  (fun c1 => ?_) (fun c1 => ?_)
  · rw [dge ha hb] at c1
    refine r_iload_n dX3_size_9 rfl ?_
    refine r_ireturn dX3_size_10 rfl rfl ?_
    first
    | exact ⟨by rw [dst, show a - b = 0 by omega, Nat.zero_add], rfl⟩
    | exact ⟨by rw [dst, show b - a = 0 by omega, Nat.add_zero, pk_sub (show b ≤ a by omega)], rfl⟩
  · rw [dge ha hb] at c1
    refine r_iload_n dX3_size_4 rfl ?_
    refine r_ineg dX3_size_5 ?_
    rw [dneg, pk_sub (show a ≤ b by omega)]
    refine r_goto (tgt := 10) dX3_size_6 rfl ?_
    refine r_ireturn dX3_size_10 rfl rfl ?_
    first
    | exact ⟨by rw [dst, show a - b = 0 by omega, Nat.zero_add], rfl⟩
    | exact ⟨by rw [dst, show b - a = 0 by omega, Nat.add_zero, pk_sub (show b ≤ a by omega)], rfl⟩
theorem l_m_pairs66 {E : EV} {QR : Option Value → MH → Prop} {QX : Nat → MH → Prop} {d kc ks : Nat} (hd0 : 1 ≤ d) (S : MS) (G : Nat → Nat) (r : MH) (a b c : Nat) (hG : gOK G) (ha : a < G 2) (hb : b < G 2) (kk : ∀ z, z = (if pair G a b then 1 else 0) → SW E yX3_meetingPairs cX3_meetingPairs 6 (some .int) [] QR QX d kc ks (JG S G r) 98 [(0, .ref 410), (1, .int (nI c)), (2, .int (nI b)), (3, .int (nI a)), (4, .int (nI (dst (G (20 + a)) (G (20 + b))))), (5, .int (bi (¬ G (12 + a) = 0 ∧ ¬ G (12 + b) = 0)))] [.int (nI z), .int (nI c)]) : SW E yX3_meetingPairs cX3_meetingPairs 6 (some .int) [] QR QX d kc ks (JG S G r) 66 [(0, .ref 410), (1, .int (nI c)), (2, .int (nI b)), (3, .int (nI a)), (4, .int (nI (dst (G (20 + a)) (G (20 + b)))))] [.int (bi (¬ G (12 + a) = 0 ∧ ¬ G (12 + b) = 0))] := by
  obtain ⟨hg0, hg1, hg2, hg3, hgp, hgr, hgw⟩ := id hG
  have hg_a := hgp a (by omega)
  have hg_b := hgp b (by omega)
  have hpe := per_ge (hg_a.2.2.2.2.1 (by omega))
  have hpl := per_le (G (4 + a))
  have hpe2 := per_ge (hg_b.2.2.2.2.1 (by omega))
  have hpl2 := per_le (G (4 + b))
  have hgc := Nat.gcd_pos_of_pos_left (per (G (4 + b))) (show 0 < per (G (4 + a)) by omega)
  have hgl := Nat.gcd_le_left (per (G (4 + b))) (show 0 < per (G (4 + a)) by omega)
  have hdst : dst (G (20 + a)) (G (20 + b)) ≤ G 0 := by unfold dst; omega
  refine r_istore (ls' := [(0, _), (1, _), (2, _), (3, _), (4, _), (5, _)]) dX3_meetingPairs_66 rfl rfl ?_
  refine r_iload_n dX3_meetingPairs_68 rfl ?_
  refine r_iload dX3_meetingPairs_69 rfl ?_
  refine rb_if_eq (tgt := 97) dX3_meetingPairs_71 rfl  (fun c71 => ?_) (fun c71 => ?_)
  · refine r_iconst dX3_meetingPairs_97 ki_0 ?_
    first
    | (exact kk 1 (if_pos ⟨c71, c90⟩).symm)
    | (exact kk 0 (if_neg (fun w => by first | exact c71 w.1 | exact c90 w.2)).symm)
  · refine r_iload dX3_meetingPairs_74 rfl ?_
    refine r_aload_n dX3_meetingPairs_76 rfl ?_
    refine r_iload_n dX3_meetingPairs_77 rfl ?_
    refine r_invV dX3_meetingPairs_78 (c_m_period S G r a (by omega) (by omega)) q1824 q1826 qs42 (JG_410 _ _ _) k9 pn_X3_period mh_X3_period rfl (by omega) (Nat.le_refl _) (Nat.le_refl _) (Nat.le_of_ble_eq_true rfl) (fun v78 h78 hq78 => ?_) (fun _ _ hq => hq.elim)
    obtain ⟨rfl, rfl⟩ := hq78
    refine r_aload_n dX3_meetingPairs_81 rfl ?_
    refine r_iload_n dX3_meetingPairs_82 rfl ?_
    refine r_invV dX3_meetingPairs_83 (c_m_period S G r b (by omega) (by omega)) q1824 q1826 qs42 (JG_410 _ _ _) k9 pn_X3_period mh_X3_period rfl (by omega) (Nat.le_refl _) (Nat.le_refl _) (Nat.le_of_ble_eq_true rfl) (fun v83 h83 hq83 => ?_) (fun _ _ hq => hq.elim)
    obtain ⟨rfl, rfl⟩ := hq83
    refine r_invS dX3_meetingPairs_86 (c_m_divisor (JG S G r) _ _ (by omega) (by omega)) q1934 q1935 pn_X3_divisor mh_X3_divisor rfl (by omega) (Nat.le_refl _) (Nat.le_refl _) (Nat.le_of_ble_eq_true rfl) (fun v86 h86 hq86 => ?_) (fun _ _ hq => hq.elim)
    obtain ⟨rfl, rfl⟩ := hq86
    refine rn_irem dX3_meetingPairs_89 (by omega) (by omega) (by omega) ?_
    refine rn_if_ne (tgt := 97) dX3_meetingPairs_90 rfl (Nat.lt_trans (Nat.mod_lt _ hgc) (by omega)) (fun c90 => ?_) (fun c90 => ?_)
    · refine r_iconst dX3_meetingPairs_97 ki_0 ?_
      first
      | (exact kk 1 (if_pos ⟨c71, c90⟩).symm)
      | (exact kk 0 (if_neg (fun w => by first | exact c71 w.1 | exact c90 w.2)).symm)
    · refine r_iconst dX3_meetingPairs_93 ki_1 ?_
      refine r_goto (tgt := 98) dX3_meetingPairs_94 rfl ?_
      first
      | (exact kk 1 (if_pos ⟨c71, c90⟩).symm)
      | (exact kk 0 (if_neg (fun w => by first | exact c71 w.1 | exact c90 w.2)).symm)
theorem l_m_pairs16 {E : EV} {QR : Option Value → MH → Prop} {QX : Nat → MH → Prop} {d kc ks : Nat} (hd0 : 2 ≤ d) (S : MS) (G : Nat → Nat) (r : MH) (b c0 : Nat) (hG : gOK G) (hb : b < G 2) (hc0 : c0 ≤ 64) (kk : SW E yX3_meetingPairs cX3_meetingPairs 6 (some .int) [] QR QX d kc ks (JG S G r) 106 [(0, .ref 410), (1, .int (nI (c0 + cnt (fun a => decide (pair G a b)) b))), (2, .int (nI b)), (3, .int (nI b))] []) : ∀ (n0 a c : Nat), a ≤ b → 9 ≤ n0 + a → c = c0 + cnt (fun a => decide (pair G a b)) a → SW E yX3_meetingPairs cX3_meetingPairs 6 (some .int) [] QR QX d kc ks (JG S G r) 16 [(0, .ref 410), (1, .int (nI c)), (2, .int (nI b)), (3, .int (nI a))] [] := by
  obtain ⟨hg0, hg1, hg2, hg3, hgp, hgr, hgw⟩ := id hG
  intro n0
  induction n0 with
  | zero => intro a c h1 h2; omega
  | succ n0 ih =>
    intro a c h1 h2 h3
    have hcn := cnt_le (fun a => decide (pair G a b)) a
    refine r_iload_n dX3_meetingPairs_16 rfl ?_
    refine r_iload_n dX3_meetingPairs_17 rfl ?_
    refine rn_icmp_ge (tgt := 106) dX3_meetingPairs_18 rfl (by omega) (by omega) (fun hc => ?_) (fun hc => ?_)
    · have ea : a = b := by omega
      subst h3
      rw [ea]
      exact kk
    · have hg_a := hgp a (by omega)
      have hg_b := hgp b (by omega)
      refine r_aload_n dX3_meetingPairs_21 rfl ?_
      refine r_getfield dX3_meetingPairs_22 fl_X3_7_9 (JG_410 _ _ _) rfl ?_
      refine r_bipush dX3_meetingPairs_25 kb_20 ?_
      refine r_iload_n dX3_meetingPairs_27 rfl ?_
      refine rn_iadd dX3_meetingPairs_28 ?_
      refine rn_iaload dX3_meetingPairs_29 (JG_411 _ _ _) (by omega) (by omega) ?_
      refine r_aload_n dX3_meetingPairs_30 rfl ?_
      refine r_getfield dX3_meetingPairs_31 fl_X3_7_9 (JG_410 _ _ _) rfl ?_
      refine r_bipush dX3_meetingPairs_34 kb_20 ?_
      refine r_iload_n dX3_meetingPairs_36 rfl ?_
      refine rn_iadd dX3_meetingPairs_37 ?_
      refine rn_iaload dX3_meetingPairs_38 (JG_411 _ _ _) (by omega) (by omega) ?_
      refine r_isub dX3_meetingPairs_39 ?_
      refine r_invS dX3_meetingPairs_40 (c_m_size (JG S G r) (G (20 + a)) (G (20 + b)) (by omega) (by omega)) q1946 q1947 pn_X3_size mh_X3_size rfl (by omega) (Nat.le_refl _) (Nat.le_refl _) (Nat.le_of_ble_eq_true rfl) (fun v40 h40 hq40 => ?_) (fun _ _ hq => hq.elim)
      obtain ⟨rfl, rfl⟩ := hq40
      refine r_istore (ls' := [(0, _), (1, _), (2, _), (3, _), (4, _)]) dX3_meetingPairs_43 rfl rfl ?_
      refine r_aload_n dX3_meetingPairs_45 rfl ?_
      refine r_iload_n dX3_meetingPairs_46 rfl ?_
      refine r_invV dX3_meetingPairs_47 (c_m_rests S G r a (by omega) (by omega)) q1788 q1790 qs36 (JG_410 _ _ _) k9 pn_X3_rests mh_X3_rests rfl (by omega) (Nat.le_refl _) (Nat.le_refl _) (Nat.le_of_ble_eq_true rfl) (fun v47 h47 hq47 => ?_) (fun _ _ hq => hq.elim)
      obtain ⟨rfl, rfl⟩ := hq47
      refine rb_if_ne (tgt := 65) dX3_meetingPairs_50 rfl  (fun c50 => ?_) (fun c50 => ?_)
      · refine r_iconst dX3_meetingPairs_65 ki_0 ?_
        refine r_stk (st' := [.int (bi (¬ G (12 + a) = 0 ∧ ¬ G (12 + b) = 0))]) (by first | exact congrArg (fun x => [Value.int x]) (bi_t (show ¬ G (12 + a) = 0 ∧ ¬ G (12 + b) = 0 by omega)).symm | exact congrArg (fun x => [Value.int x]) (bi_f (show ¬ (¬ G (12 + a) = 0 ∧ ¬ G (12 + b) = 0) by omega)).symm) ?_
        refine l_m_pairs66 (by omega) S G r a b c hG (by omega) hb ?_
        intro z hz
        refine rn_iadd dX3_meetingPairs_98 ?_
        refine r_istore_n (ls' := [(0, _), (1, _), (2, _), (3, _), (4, _), (5, _)]) dX3_meetingPairs_99 rfl rfl ?_
        refine rn_iinc (n := 1) (ls' := [(0, _), (1, _), (2, _), (3, _), (4, _), (5, _)]) dX3_meetingPairs_100 rfl rfl rfl ?_
        refine r_goto (tgt := 16) dX3_meetingPairs_103 rfl ?_
        exact r_sub (by simp) (ih (a + 1) (c + z) (by omega) (by omega) (by rw [h3, cnt, ifd, hz, Nat.add_assoc]))
      · refine r_aload_n dX3_meetingPairs_53 rfl ?_
        refine r_iload_n dX3_meetingPairs_54 rfl ?_
        refine r_invV dX3_meetingPairs_55 (c_m_rests S G r b (by omega) (by omega)) q1788 q1790 qs36 (JG_410 _ _ _) k9 pn_X3_rests mh_X3_rests rfl (by omega) (Nat.le_refl _) (Nat.le_refl _) (Nat.le_of_ble_eq_true rfl) (fun v55 h55 hq55 => ?_) (fun _ _ hq => hq.elim)
        obtain ⟨rfl, rfl⟩ := hq55
        refine rb_if_ne (tgt := 65) dX3_meetingPairs_58 rfl  (fun c58 => ?_) (fun c58 => ?_)
        · refine r_iconst dX3_meetingPairs_65 ki_0 ?_
          refine r_stk (st' := [.int (bi (¬ G (12 + a) = 0 ∧ ¬ G (12 + b) = 0))]) (by first | exact congrArg (fun x => [Value.int x]) (bi_t (show ¬ G (12 + a) = 0 ∧ ¬ G (12 + b) = 0 by omega)).symm | exact congrArg (fun x => [Value.int x]) (bi_f (show ¬ (¬ G (12 + a) = 0 ∧ ¬ G (12 + b) = 0) by omega)).symm) ?_
          refine l_m_pairs66 (by omega) S G r a b c hG (by omega) hb ?_
          intro z hz
          refine rn_iadd dX3_meetingPairs_98 ?_
          refine r_istore_n (ls' := [(0, _), (1, _), (2, _), (3, _), (4, _), (5, _)]) dX3_meetingPairs_99 rfl rfl ?_
          refine rn_iinc (n := 1) (ls' := [(0, _), (1, _), (2, _), (3, _), (4, _), (5, _)]) dX3_meetingPairs_100 rfl rfl rfl ?_
          refine r_goto (tgt := 16) dX3_meetingPairs_103 rfl ?_
          exact r_sub (by simp) (ih (a + 1) (c + z) (by omega) (by omega) (by rw [h3, cnt, ifd, hz, Nat.add_assoc]))
        · refine r_iconst dX3_meetingPairs_61 ki_1 ?_
          refine r_goto (tgt := 66) dX3_meetingPairs_62 rfl ?_
          refine r_stk (st' := [.int (bi (¬ G (12 + a) = 0 ∧ ¬ G (12 + b) = 0))]) (by first | exact congrArg (fun x => [Value.int x]) (bi_t (show ¬ G (12 + a) = 0 ∧ ¬ G (12 + b) = 0 by omega)).symm | exact congrArg (fun x => [Value.int x]) (bi_f (show ¬ (¬ G (12 + a) = 0 ∧ ¬ G (12 + b) = 0) by omega)).symm) ?_
          refine l_m_pairs66 (by omega) S G r a b c hG (by omega) hb ?_
          intro z hz
          refine rn_iadd dX3_meetingPairs_98 ?_
          refine r_istore_n (ls' := [(0, _), (1, _), (2, _), (3, _), (4, _), (5, _)]) dX3_meetingPairs_99 rfl rfl ?_
          refine rn_iinc (n := 1) (ls' := [(0, _), (1, _), (2, _), (3, _), (4, _), (5, _)]) dX3_meetingPairs_100 rfl rfl rfl ?_
          refine r_goto (tgt := 16) dX3_meetingPairs_103 rfl ?_
          exact r_sub (by simp) (ih (a + 1) (c + z) (by omega) (by omega) (by rw [h3, cnt, ifd, hz, Nat.add_assoc]))
theorem l_m_pairs4 {E : EV} {QR : Option Value → MH → Prop} {QX : Nat → MH → Prop} {d kc ks : Nat} (hd0 : 3 ≤ d) (S : MS) (G : Nat → Nat) (r : MH) (hG : gOK G) (kk : QR (some (.int (nI (sp_pairs G)))) (JG (ss S 12 (nI 0)) G r)) : ∀ (n0 b c : Nat), b ≤ G 2 → 9 ≤ n0 + b → c = sm (fun b => cnt (fun a => decide (pair G a b)) b) b → SW E yX3_meetingPairs cX3_meetingPairs 6 (some .int) [] QR QX d kc ks (JG S G r) 4 [(0, .ref 410), (1, .int (nI c)), (2, .int (nI b))] [] := by
  obtain ⟨hg0, hg1, hg2, hg3, hgp, hgr, hgw⟩ := id hG
  intro n0
  induction n0 with
  | zero => intro b c h1 h2; omega
  | succ n0 ih =>
    intro b c h1 h2 h3
    have hcn := sm_le (f := fun b => cnt (fun a => decide (pair G a b)) b) (b := 8) b (fun k hk => Nat.le_trans (cnt_le _ _) (by omega))
    refine r_iload_n dX3_meetingPairs_4 rfl ?_
    refine r_aload_n dX3_meetingPairs_5 rfl ?_
    refine r_getfield dX3_meetingPairs_6 fl_X3_7_9 (JG_410 _ _ _) rfl ?_
    refine r_iconst dX3_meetingPairs_9 ki_2 ?_
    refine rn_iaload dX3_meetingPairs_10 (JG_411 _ _ _) (by omega) (by omega) ?_
    refine rn_icmp_ge (tgt := 112) dX3_meetingPairs_11 rfl (by omega) (by omega) (fun hc => ?_) (fun hc => ?_)
    · refine r_aload_n dX3_meetingPairs_112 rfl ?_
      refine r_iload_n dX3_meetingPairs_113 rfl ?_
      refine r_invV dX3_meetingPairs_114 (c_m_done S G r (nI c)) q1768 q1770 qs32 (JG_410 _ _ _) k9 pn_X3_done mh_X3_done rfl (by omega) (Nat.le_refl _) (Nat.le_refl _) (Nat.le_of_ble_eq_true rfl) (fun v114 h114 hq114 => ?_) (fun _ _ hq => hq.elim)
      obtain ⟨rfl, rfl⟩ := hq114
      refine r_ireturn dX3_meetingPairs_117 rfl rfl ?_
      have eb : b = G 2 := by omega
      rw [eb] at h3
      rw [h3]
      exact kk
    · refine r_iconst dX3_meetingPairs_14 ki_0 ?_
      refine r_istore_n (ls' := [(0, _), (1, _), (2, _), (3, _)]) dX3_meetingPairs_15 rfl rfl ?_
      refine l_m_pairs16 (by omega) S G r b c hG (by omega) (by omega) ?_ 9 0 c (Nat.zero_le _) (by decide) rfl
      refine rn_iinc (n := 1) (ls' := [(0, _), (1, _), (2, _), (3, _)]) dX3_meetingPairs_106 rfl rfl rfl ?_
      refine r_goto (tgt := 4) dX3_meetingPairs_109 rfl ?_
      refine r_drop (a := [(0, _), (1, _), (2, _)]) (b := [(3, _)]) ?_
      exact ih (b + 1) (c + cnt (fun a => decide (pair G a b)) b) (by omega) (by omega) (by rw [h3, sm])
theorem c_m_meetingPairs {E : EV} (S : MS) (G : Nat → Nat) (r : MH) (hG : gOK G) : SM E yX3_meetingPairs 3 [.ref 410] (JG S G r) 0 0 (fun o h' => o = some (.int (nI (sp_pairs G))) ∧ h' = JG (ss S 12 (nI 0)) G r) (fun _ _ => False) := by
  refine SM.of (cc := cX3_meetingPairs) (nL := 6) (ret := (some .int)) (hh := []) (ls := [(0, .ref 410)]) pl_X3 (Or.inl ⟨rfl, q1945⟩) rfl q78 rfl rfl ?_
  refine r_iconst dX3_meetingPairs_0 ki_0 ?_
  refine r_istore_n (ls' := [(0, _), (1, _)]) dX3_meetingPairs_1 rfl rfl ?_
  refine r_iconst dX3_meetingPairs_2 ki_0 ?_
  refine r_istore_n (ls' := [(0, _), (1, _), (2, _)]) dX3_meetingPairs_3 rfl rfl ?_
  exact l_m_pairs4 (by decide) S G r hG ⟨rfl, rfl⟩ 9 0 0 (Nat.zero_le _) (by decide) rfl
