set_option maxRecDepth 100000
theorem c_m_addPendulum {E : EV} (S : MS) (G : Nat → Nat) (r : MH) (x : Int32) (hG : gOK G) (c : Nat) (h3 : S.1 3 = nI c) (hc : c ≤ 8) : SM E yX3_addPendulum 2 [.ref 410, .int x] (JG S G r) 0 0 (fun o h' => KP S c G r (sp_adds G x) o h') (fun _ _ => False) := by
  refine SM.of (cc := cX3_addPendulum) (nL := 2) (ret := (some .int)) (hh := []) (ls := [(0, .ref 410), (1, .int x)]) pl_X3 (Or.inl ⟨rfl, q1749⟩) rfl q78 rfl rfl ?_
  refine r_aload_n dX3_addPendulum_0 rfl ?_
  refine r_invV dX3_addPendulum_1 (c_m_begin S G r) q1750 q1752 qs29 (JG_410 _ _ _) k9 pn_X3_begin mh_X3_begin rfl (by omega) (Nat.le_refl _) (Nat.le_refl _) (Nat.le_of_ble_eq_true rfl) (fun v1 h1 hq1 => ?_) (fun _ _ hq => hq.elim)
  obtain ⟨rfl, rfl⟩ := hq1
  refine r_aload_n dX3_addPendulum_4 rfl ?_
  refine r_aload_n dX3_addPendulum_5 rfl ?_
  refine r_iload_n dX3_addPendulum_6 rfl ?_
  refine r_invV dX3_addPendulum_7 (c_m_adds _ G r x hG) q1757 q1759 qs30 (JG_410 _ _ _) k9 pn_X3_adds mh_X3_adds rfl (by omega) (Nat.le_refl _) (Nat.le_refl _) (Nat.le_of_ble_eq_true rfl) (fun v7 h7 hq7 => ?_) (fun _ _ hq => hq.elim)
  obtain ⟨rfl, rfl⟩ := hq7
  refine r_invV dX3_addPendulum_10 (c_m_kept (ss (sa S 1 (va_cpy G (S.2 1) 0 0 48)) 12 (nI (sp_adds G x).1)) (sp_adds G x).2.2 r G (sp_adds G x).1 c (sp_adds G x).2.1 (sp_adds_lt G x) (ss_at _ _ _) h3 hc (fun j hj => (congrFun (show (ss (sa S 1 (va_cpy G (S.2 1) 0 0 48)) 12 (nI (sp_adds G x).1)).2 1 = _ from sa_at S 1 (va_cpy G (S.2 1) 0 0 48)) j).trans (eq48_cpy _ _ j hj))) q1772 q1774 qs33 (JG_410 _ _ _) k9 pn_X3_kept mh_X3_kept rfl (by omega) (Nat.le_refl _) (Nat.le_refl _) (Nat.le_of_ble_eq_true rfl) (fun v10 h10 hq10 => ?_) (fun _ _ hq => hq.elim)
  have e10 : v10 = some (.int (sp_adds G x).2.1) ∧ KP S c G r (sp_adds G x) v10 h10 := kp_of (sp_adds_f G x) hq10
  obtain ⟨rfl, e10⟩ := e10
  refine r_ireturn dX3_addPendulum_13 rfl rfl ?_
  exact e10
theorem c_m_push {E : EV} (S : MS) (G : Nat → Nat) (r : MH) (x z : Int32) (hG : gOK G) (c : Nat) (h3 : S.1 3 = nI c) (hc : c ≤ 8) : SM E yX3_push 3 [.ref 410, .int x, .int z] (JG S G r) 0 0 (fun o h' => KP S c G r (sp_pushes G x z) o h') (fun _ _ => False) := by
  refine SM.of (cc := cX3_push) (nL := 3) (ret := (some .int)) (hh := []) (ls := [(0, .ref 410), (1, .int x), (2, .int z)]) pl_X3 (Or.inl ⟨rfl, q1779⟩) rfl q78 rfl rfl ?_
  refine r_aload_n dX3_push_0 rfl ?_
  refine r_invV dX3_push_1 (c_m_begin S G r) q1750 q1752 qs29 (JG_410 _ _ _) k9 pn_X3_begin mh_X3_begin rfl (by omega) (Nat.le_refl _) (Nat.le_refl _) (Nat.le_of_ble_eq_true rfl) (fun v1 h1 hq1 => ?_) (fun _ _ hq => hq.elim)
  obtain ⟨rfl, rfl⟩ := hq1
  refine r_aload_n dX3_push_4 rfl ?_
  refine r_aload_n dX3_push_5 rfl ?_
  refine r_iload_n dX3_push_6 rfl ?_
  refine r_iload_n dX3_push_7 rfl ?_
  refine r_invV dX3_push_8 (c_m_pushes _ G r x z hG) q1780 q1782 qs34 (JG_410 _ _ _) k9 pn_X3_pushes mh_X3_pushes rfl (by omega) (Nat.le_refl _) (Nat.le_refl _) (Nat.le_of_ble_eq_true rfl) (fun v8 h8 hq8 => ?_) (fun _ _ hq => hq.elim)
  obtain ⟨rfl, rfl⟩ := hq8
  refine r_invV dX3_push_11 (c_m_kept (ss (sa S 1 (va_cpy G (S.2 1) 0 0 48)) 12 (nI (sp_pushes G x z).1)) (sp_pushes G x z).2.2 r G (sp_pushes G x z).1 c (sp_pushes G x z).2.1 (sp_pushes_lt G x z) (ss_at _ _ _) h3 hc (fun j hj => (congrFun (show (ss (sa S 1 (va_cpy G (S.2 1) 0 0 48)) 12 (nI (sp_pushes G x z).1)).2 1 = _ from sa_at S 1 (va_cpy G (S.2 1) 0 0 48)) j).trans (eq48_cpy _ _ j hj))) q1772 q1774 qs33 (JG_410 _ _ _) k9 pn_X3_kept mh_X3_kept rfl (by omega) (Nat.le_refl _) (Nat.le_refl _) (Nat.le_of_ble_eq_true rfl) (fun v11 h11 hq11 => ?_) (fun _ _ hq => hq.elim)
  have e11 : v11 = some (.int (sp_pushes G x z).2.1) ∧ KP S c G r (sp_pushes G x z) v11 h11 := kp_of (sp_pushes_f G x z) hq11
  obtain ⟨rfl, e11⟩ := e11
  refine r_ireturn dX3_push_14 rfl rfl ?_
  exact e11
theorem c_m_catchPendulum {E : EV} (S : MS) (G : Nat → Nat) (r : MH) (x : Int32) (hG : gOK G) (c : Nat) (h3 : S.1 3 = nI c) (hc : c ≤ 8) : SM E yX3_catchPendulum 3 [.ref 410, .int x] (JG S G r) 0 0 (fun o h' => KP S c G r (sp_catches G x) o h') (fun _ _ => False) := by
  refine SM.of (cc := cX3_catchPendulum) (nL := 2) (ret := (some .int)) (hh := []) (ls := [(0, .ref 410), (1, .int x)]) pl_X3 (Or.inl ⟨rfl, q1799⟩) rfl q78 rfl rfl ?_
  refine r_aload_n dX3_catchPendulum_0 rfl ?_
  refine r_invV dX3_catchPendulum_1 (c_m_begin S G r) q1750 q1752 qs29 (JG_410 _ _ _) k9 pn_X3_begin mh_X3_begin rfl (by omega) (Nat.le_refl _) (Nat.le_refl _) (Nat.le_of_ble_eq_true rfl) (fun v1 h1 hq1 => ?_) (fun _ _ hq => hq.elim)
  obtain ⟨rfl, rfl⟩ := hq1
  refine r_aload_n dX3_catchPendulum_4 rfl ?_
  refine r_aload_n dX3_catchPendulum_5 rfl ?_
  refine r_iload_n dX3_catchPendulum_6 rfl ?_
  refine r_invV dX3_catchPendulum_7 (c_m_catches _ G r x hG) q1800 q1802 qs38 (JG_410 _ _ _) k9 pn_X3_catches mh_X3_catches rfl (by omega) (Nat.le_refl _) (Nat.le_refl _) (Nat.le_of_ble_eq_true rfl) (fun v7 h7 hq7 => ?_) (fun _ _ hq => hq.elim)
  obtain ⟨rfl, rfl⟩ := hq7
  refine r_invV dX3_catchPendulum_10 (c_m_kept (ss (sa S 1 (va_cpy G (S.2 1) 0 0 48)) 12 (nI (sp_catches G x).1)) (sp_catches G x).2.2 r G (sp_catches G x).1 c (sp_catches G x).2.1 (sp_catches_lt G x) (ss_at _ _ _) h3 hc (fun j hj => (congrFun (show (ss (sa S 1 (va_cpy G (S.2 1) 0 0 48)) 12 (nI (sp_catches G x).1)).2 1 = _ from sa_at S 1 (va_cpy G (S.2 1) 0 0 48)) j).trans (eq48_cpy _ _ j hj))) q1772 q1774 qs33 (JG_410 _ _ _) k9 pn_X3_kept mh_X3_kept rfl (by omega) (Nat.le_refl _) (Nat.le_refl _) (Nat.le_of_ble_eq_true rfl) (fun v10 h10 hq10 => ?_) (fun _ _ hq => hq.elim)
  have e10 : v10 = some (.int (sp_catches G x).2.1) ∧ KP S c G r (sp_catches G x) v10 h10 := kp_of (sp_catches_f G x) hq10
  obtain ⟨rfl, e10⟩ := e10
  refine r_ireturn dX3_catchPendulum_13 rfl rfl ?_
  exact e10
theorem c_m_setFriction {E : EV} (S : MS) (G : Nat → Nat) (r : MH) (x : Int32) (hG : gOK G) (c : Nat) (h3 : S.1 3 = nI c) (hc : c ≤ 8) : SM E yX3_setFriction 2 [.ref 410, .int x] (JG S G r) 0 0 (fun o h' => KP S c G r (sp_rubs G x) o h') (fun _ _ => False) := by
  refine SM.of (cc := cX3_setFriction) (nL := 2) (ret := (some .int)) (hh := []) (ls := [(0, .ref 410), (1, .int x)]) pl_X3 (Or.inl ⟨rfl, q1807⟩) rfl q78 rfl rfl ?_
  refine r_aload_n dX3_setFriction_0 rfl ?_
  refine r_invV dX3_setFriction_1 (c_m_begin S G r) q1750 q1752 qs29 (JG_410 _ _ _) k9 pn_X3_begin mh_X3_begin rfl (by omega) (Nat.le_refl _) (Nat.le_refl _) (Nat.le_of_ble_eq_true rfl) (fun v1 h1 hq1 => ?_) (fun _ _ hq => hq.elim)
  obtain ⟨rfl, rfl⟩ := hq1
  refine r_aload_n dX3_setFriction_4 rfl ?_
  refine r_aload_n dX3_setFriction_5 rfl ?_
  refine r_iload_n dX3_setFriction_6 rfl ?_
  refine r_invV dX3_setFriction_7 (c_m_rubs _ G r x hG) q1808 q1810 qs39 (JG_410 _ _ _) k9 pn_X3_rubs mh_X3_rubs rfl (by omega) (Nat.le_refl _) (Nat.le_refl _) (Nat.le_of_ble_eq_true rfl) (fun v7 h7 hq7 => ?_) (fun _ _ hq => hq.elim)
  obtain ⟨rfl, rfl⟩ := hq7
  refine r_invV dX3_setFriction_10 (c_m_kept (ss (sa S 1 (va_cpy G (S.2 1) 0 0 48)) 12 (nI (sp_rubs G x).1)) (sp_rubs G x).2.2 r G (sp_rubs G x).1 c (sp_rubs G x).2.1 (sp_rubs_lt G x) (ss_at _ _ _) h3 hc (fun j hj => (congrFun (show (ss (sa S 1 (va_cpy G (S.2 1) 0 0 48)) 12 (nI (sp_rubs G x).1)).2 1 = _ from sa_at S 1 (va_cpy G (S.2 1) 0 0 48)) j).trans (eq48_cpy _ _ j hj))) q1772 q1774 qs33 (JG_410 _ _ _) k9 pn_X3_kept mh_X3_kept rfl (by omega) (Nat.le_refl _) (Nat.le_refl _) (Nat.le_of_ble_eq_true rfl) (fun v10 h10 hq10 => ?_) (fun _ _ hq => hq.elim)
  have e10 : v10 = some (.int (sp_rubs G x).2.1) ∧ KP S c G r (sp_rubs G x) v10 h10 := kp_of (sp_rubs_f G x) hq10
  obtain ⟨rfl, e10⟩ := e10
  refine r_ireturn dX3_setFriction_13 rfl rfl ?_
  exact e10
theorem c_m_pass {E : EV} (S : MS) (G : Nat → Nat) (r : MH) (x : Int32) {b0 : Nat} (hB : gB G b0) (hb0 : b0 < 8000000) (c : Nat) (h3 : S.1 3 = nI c) (hc : c ≤ 8) : SM E yX3_pass 4 [.ref 410, .int x] (JG S G r) 0 0 (fun o h' => KP S c G r (sp_passes G x) o h') (fun _ _ => False) := by
  refine SM.of (cc := cX3_pass) (nL := 2) (ret := (some .int)) (hh := []) (ls := [(0, .ref 410), (1, .int x)]) pl_X3 (Or.inl ⟨rfl, q1815⟩) rfl q78 rfl rfl ?_
  refine r_aload_n dX3_pass_0 rfl ?_
  refine r_invV dX3_pass_1 (c_m_begin S G r) q1750 q1752 qs29 (JG_410 _ _ _) k9 pn_X3_begin mh_X3_begin rfl (by omega) (Nat.le_refl _) (Nat.le_refl _) (Nat.le_of_ble_eq_true rfl) (fun v1 h1 hq1 => ?_) (fun _ _ hq => hq.elim)
  obtain ⟨rfl, rfl⟩ := hq1
  refine r_aload_n dX3_pass_4 rfl ?_
  refine r_aload_n dX3_pass_5 rfl ?_
  refine r_iload_n dX3_pass_6 rfl ?_
  refine r_invV dX3_pass_7 (c_m_passes _ G r x hB hb0) q1816 q1818 qs40 (JG_410 _ _ _) k9 pn_X3_passes mh_X3_passes rfl (by omega) (Nat.le_refl _) (Nat.le_refl _) (Nat.le_of_ble_eq_true rfl) (fun v7 h7 hq7 => ?_) (fun _ _ hq => hq.elim)
  obtain ⟨rfl, rfl⟩ := hq7
  refine r_invV dX3_pass_10 (c_m_kept (ss (sa S 1 (va_cpy G (S.2 1) 0 0 48)) 12 (nI (sp_passes G x).1)) (sp_passes G x).2.2 r G (sp_passes G x).1 c (sp_passes G x).2.1 (sp_passes_lt G x) (ss_at _ _ _) h3 hc (fun j hj => (congrFun (show (ss (sa S 1 (va_cpy G (S.2 1) 0 0 48)) 12 (nI (sp_passes G x).1)).2 1 = _ from sa_at S 1 (va_cpy G (S.2 1) 0 0 48)) j).trans (eq48_cpy _ _ j hj))) q1772 q1774 qs33 (JG_410 _ _ _) k9 pn_X3_kept mh_X3_kept rfl (by omega) (Nat.le_refl _) (Nat.le_refl _) (Nat.le_of_ble_eq_true rfl) (fun v10 h10 hq10 => ?_) (fun _ _ hq => hq.elim)
  have e10 : v10 = some (.int (sp_passes G x).2.1) ∧ KP S c G r (sp_passes G x) v10 h10 := kp_of (sp_passes_f G x) hq10
  obtain ⟨rfl, e10⟩ := e10
  refine r_ireturn dX3_pass_13 rfl rfl ?_
  exact e10
theorem c_m_addLeg {E : EV} (S : MS) (G : Nat → Nat) (r : MH) (x : Int32) (hG : gOK G) (c : Nat) (h3 : S.1 3 = nI c) (hc : c ≤ 8) : SM E yX3_addLeg 2 [.ref 410, .int x] (JG S G r) 0 0 (fun o h' => KP S c G r (sp_leg G x) o h') (fun _ _ => False) := by
  refine SM.of (cc := cX3_addLeg) (nL := 2) (ret := (some .int)) (hh := []) (ls := [(0, .ref 410), (1, .int x)]) pl_X3 (Or.inl ⟨rfl, q1956⟩) rfl q78 rfl rfl ?_
  refine r_aload_n dX3_addLeg_0 rfl ?_
  refine r_invV dX3_addLeg_1 (c_m_begin S G r) q1750 q1752 qs29 (JG_410 _ _ _) k9 pn_X3_begin mh_X3_begin rfl (by omega) (Nat.le_refl _) (Nat.le_refl _) (Nat.le_of_ble_eq_true rfl) (fun v1 h1 hq1 => ?_) (fun _ _ hq => hq.elim)
  obtain ⟨rfl, rfl⟩ := hq1
  refine r_aload_n dX3_addLeg_4 rfl ?_
  refine r_aload_n dX3_addLeg_5 rfl ?_
  refine r_iload_n dX3_addLeg_6 rfl ?_
  refine r_invV dX3_addLeg_7 (c_m_addsLeg _ G r x hG) q1957 q1959 qs51 (JG_410 _ _ _) k9 pn_X3_addsLeg mh_X3_addsLeg rfl (by omega) (Nat.le_refl _) (Nat.le_refl _) (Nat.le_of_ble_eq_true rfl) (fun v7 h7 hq7 => ?_) (fun _ _ hq => hq.elim)
  obtain ⟨rfl, rfl⟩ := hq7
  refine r_invV dX3_addLeg_10 (c_m_kept (ss (sa S 1 (va_cpy G (S.2 1) 0 0 48)) 12 (nI (sp_leg G x).1)) (sp_leg G x).2.2 r G (sp_leg G x).1 c (sp_leg G x).2.1 (sp_leg_lt G x) (ss_at _ _ _) h3 hc (fun j hj => (congrFun (show (ss (sa S 1 (va_cpy G (S.2 1) 0 0 48)) 12 (nI (sp_leg G x).1)).2 1 = _ from sa_at S 1 (va_cpy G (S.2 1) 0 0 48)) j).trans (eq48_cpy _ _ j hj))) q1772 q1774 qs33 (JG_410 _ _ _) k9 pn_X3_kept mh_X3_kept rfl (by omega) (Nat.le_refl _) (Nat.le_refl _) (Nat.le_of_ble_eq_true rfl) (fun v10 h10 hq10 => ?_) (fun _ _ hq => hq.elim)
  have e10 : v10 = some (.int (sp_leg G x).2.1) ∧ KP S c G r (sp_leg G x) v10 h10 := kp_of (sp_leg_f G x) hq10
  obtain ⟨rfl, e10⟩ := e10
  refine r_ireturn dX3_addLeg_13 rfl rfl ?_
  exact e10
theorem c_m_removeLeg {E : EV} (S : MS) (G : Nat → Nat) (r : MH) (x : Int32) (hG : gOK G) (c : Nat) (h3 : S.1 3 = nI c) (hc : c ≤ 8) : SM E yX3_removeLeg 3 [.ref 410, .int x] (JG S G r) 0 0 (fun o h' => KP S c G r (sp_cuts G x) o h') (fun _ _ => False) := by
  refine SM.of (cc := cX3_removeLeg) (nL := 2) (ret := (some .int)) (hh := []) (ls := [(0, .ref 410), (1, .int x)]) pl_X3 (Or.inl ⟨rfl, q1964⟩) rfl q78 rfl rfl ?_
  refine r_aload_n dX3_removeLeg_0 rfl ?_
  refine r_invV dX3_removeLeg_1 (c_m_begin S G r) q1750 q1752 qs29 (JG_410 _ _ _) k9 pn_X3_begin mh_X3_begin rfl (by omega) (Nat.le_refl _) (Nat.le_refl _) (Nat.le_of_ble_eq_true rfl) (fun v1 h1 hq1 => ?_) (fun _ _ hq => hq.elim)
  obtain ⟨rfl, rfl⟩ := hq1
  refine r_aload_n dX3_removeLeg_4 rfl ?_
  refine r_aload_n dX3_removeLeg_5 rfl ?_
  refine r_iload_n dX3_removeLeg_6 rfl ?_
  refine r_invV dX3_removeLeg_7 (c_m_cuts _ G r x hG) q1965 q1967 qs52 (JG_410 _ _ _) k9 pn_X3_cuts mh_X3_cuts rfl (by omega) (Nat.le_refl _) (Nat.le_refl _) (Nat.le_of_ble_eq_true rfl) (fun v7 h7 hq7 => ?_) (fun _ _ hq => hq.elim)
  obtain ⟨rfl, rfl⟩ := hq7
  refine r_invV dX3_removeLeg_10 (c_m_kept (ss (sa S 1 (va_cpy G (S.2 1) 0 0 48)) 12 (nI (sp_cuts G x).1)) (sp_cuts G x).2.2 r G (sp_cuts G x).1 c (sp_cuts G x).2.1 (sp_cuts_lt G x) (ss_at _ _ _) h3 hc (fun j hj => (congrFun (show (ss (sa S 1 (va_cpy G (S.2 1) 0 0 48)) 12 (nI (sp_cuts G x).1)).2 1 = _ from sa_at S 1 (va_cpy G (S.2 1) 0 0 48)) j).trans (eq48_cpy _ _ j hj))) q1772 q1774 qs33 (JG_410 _ _ _) k9 pn_X3_kept mh_X3_kept rfl (by omega) (Nat.le_refl _) (Nat.le_refl _) (Nat.le_of_ble_eq_true rfl) (fun v10 h10 hq10 => ?_) (fun _ _ hq => hq.elim)
  have e10 : v10 = some (.int (sp_cuts G x).2.1) ∧ KP S c G r (sp_cuts G x) v10 h10 := kp_of (sp_cuts_f G x) hq10
  obtain ⟨rfl, e10⟩ := e10
  refine r_ireturn dX3_removeLeg_13 rfl rfl ?_
  exact e10
theorem c_m_undo {E : EV} (S : MS) (G : Nat → Nat) (r : MH) (c : Nat) (h3 : S.1 3 = nI c) (hc : c ≤ 8) : SM E yX3_undo 1 [.ref 410] (JG S G r) 0 0 (fun o h' => (c = 0 ∧ o = some (.int (nI 0)) ∧ h' = JG (ss S 12 (nI 1)) G r) ∨ (¬ c = 0 ∧ o = some (.int (nI (c - 1))) ∧ h' = JG (ss (ss S 3 (nI (c - 1))) 12 (nI 0)) (va_cpy (S.2 2) G ((c - 1) * 48) 0 48) r)) (fun _ _ => False) := by
  refine SM.of (cc := cX3_undo) (nL := 1) (ret := (some .int)) (hh := []) (ls := [(0, .ref 410)]) pl_X3 (Or.inl ⟨rfl, q2095⟩) rfl q78 rfl rfl ?_
  refine r_aload_n dX3_undo_0 rfl ?_
  refine r_getfield dX3_undo_1 fl_X3_49_9 (JG_410 _ _ _) rfl ?_
  refine r_ti h3 ?_
  refine rn_if_ne (tgt := 13) dX3_undo_4 rfl (by omega) (fun c4 => ?_) (fun c4 => ?_)
  · refine r_aload_n dX3_undo_13 rfl ?_
    refine r_dup dX3_undo_14 rfl ?_
    refine r_getfield dX3_undo_15 fl_X3_49_9 (JG_410 _ _ _) rfl ?_
    refine r_ti (v := nI c) h3 ?_
    refine r_iconst dX3_undo_18 ki_1 ?_
    refine rn_isub dX3_undo_19 (by omega) ?_
    refine rg_put3 dX3_undo_20 fp_X3_49_9 rfl rfl ?_
    refine r_aload_n dX3_undo_23 rfl ?_
    refine r_getfield dX3_undo_24 fl_X3_16_9 (JG_410 _ _ _) rfl ?_
    refine r_aload_n dX3_undo_27 rfl ?_
    refine r_getfield dX3_undo_28 fl_X3_49_9 (JG_410 _ _ _) rfl ?_
    refine r_ti (v := nI (c - 1)) (ss_at _ _ _) ?_
    refine r_bipush dX3_undo_31 kb_48 ?_
    refine rn_imul dX3_undo_33 ?_
    refine r_aload_n dX3_undo_34 rfl ?_
    refine r_getfield dX3_undo_35 fl_X3_7_9 (JG_410 _ _ _) rfl ?_
    refine r_iconst dX3_undo_38 ki_0 ?_
    refine r_invS dX3_undo_39 (c_m_copy _ 413 411 384 48 ((c - 1) * 48) 0 (S.2 2) G (by decide) (by decide) (JG_413 _ _ _) (JG_411 _ _ _) (by omega) (by omega) (by decide) (by decide)) q1754 q1755 pn_X3_copy mh_X3_copy rfl (by omega) (Nat.le_refl _) (Nat.le_refl _) (Nat.le_of_ble_eq_true rfl) (fun v39 h39 hq39 => ?_) (fun _ _ hq => hq.elim)
    obtain ⟨rfl, rfl⟩ := hq39
    rw [JG_p0]
    refine r_aload_n dX3_undo_42 rfl ?_
    refine r_aload_n dX3_undo_43 rfl ?_
    refine r_getfield dX3_undo_44 fl_X3_49_9 (JG_410 _ _ _) rfl ?_
    refine r_ti (v := nI (c - 1)) (ss_at _ _ _) ?_
    refine r_invV dX3_undo_47 (c_m_done _ _ r _) q1768 q1770 qs32 (JG_410 _ _ _) k9 pn_X3_done mh_X3_done rfl (by omega) (Nat.le_refl _) (Nat.le_refl _) (Nat.le_of_ble_eq_true rfl) (fun v47 h47 hq47 => ?_) (fun _ _ hq => hq.elim)
    obtain ⟨rfl, rfl⟩ := hq47
    refine r_ireturn dX3_undo_50 rfl rfl ?_
    exact Or.inr ⟨c4, rfl, rfl⟩
  · refine r_aload_n dX3_undo_7 rfl ?_
    refine r_iconst dX3_undo_8 ki_1 ?_
    refine r_invV dX3_undo_9 (c_m_fails S G r (nI 1)) q1764 q1766 qs31 (JG_410 _ _ _) k9 pn_X3_fails mh_X3_fails rfl (by omega) (Nat.le_refl _) (Nat.le_refl _) (Nat.le_of_ble_eq_true rfl) (fun v9 h9 hq9 => ?_) (fun _ _ hq => hq.elim)
    obtain ⟨rfl, rfl⟩ := hq9
    refine r_ireturn dX3_undo_12 rfl rfl ?_
    exact Or.inl ⟨c4, rfl, rfl⟩
theorem c_m_save {E : EV} (S : MS) (G : Nat → Nat) (r : MH) : SM E yX3_save 1 [.ref 410] (JG S G r) 0 0 (fun o h' => o = some (.int (nI (G 0))) ∧ h' = JG (ss (ss (sa S 3 (va_cpy G (S.2 3) 0 0 48)) 5 (nI 1)) 12 (nI 0)) G r) (fun _ _ => False) := by
  refine SM.of (cc := cX3_save) (nL := 1) (ret := (some .int)) (hh := []) (ls := [(0, .ref 410)]) pl_X3 (Or.inl ⟨rfl, q2099⟩) rfl q78 rfl rfl ?_
  refine r_aload_n dX3_save_0 rfl ?_
  refine r_getfield dX3_save_1 fl_X3_7_9 (JG_410 _ _ _) rfl ?_
  refine r_iconst dX3_save_4 ki_0 ?_
  refine r_aload_n dX3_save_5 rfl ?_
  refine r_getfield dX3_save_6 fl_X3_19_9 (JG_410 _ _ _) rfl ?_
  refine r_iconst dX3_save_9 ki_0 ?_
  refine r_invS dX3_save_10 (c_m_copy _ 411 414 48 48 0 0 G (S.2 3) (by decide) (by decide) (JG_411 _ _ _) (JG_414 _ _ _) (by omega) (by omega) (by decide) (by decide)) q1754 q1755 pn_X3_copy mh_X3_copy rfl (by omega) (Nat.le_refl _) (Nat.le_refl _) (Nat.le_of_ble_eq_true rfl) (fun v10 h10 hq10 => ?_) (fun _ _ hq => hq.elim)
  obtain ⟨rfl, rfl⟩ := hq10
  rw [JG_p3]
  refine r_aload_n dX3_save_13 rfl ?_
  refine r_iconst dX3_save_14 ki_1 ?_
  refine rg_put5 dX3_save_15 fp_X3_217_9 nz1 (by decide) ?_
  refine r_aload_n dX3_save_18 rfl ?_
  refine r_aload_n dX3_save_19 rfl ?_
  refine r_getfield dX3_save_20 fl_X3_7_9 (JG_410 _ _ _) rfl ?_
  refine r_iconst dX3_save_23 ki_0 ?_
  refine rn_iaload dX3_save_24 (JG_411 _ _ _) (by omega) (by omega) ?_
  refine r_invV dX3_save_25 (c_m_done _ G r _) q1768 q1770 qs32 (JG_410 _ _ _) k9 pn_X3_done mh_X3_done rfl (by omega) (Nat.le_refl _) (Nat.le_refl _) (Nat.le_of_ble_eq_true rfl) (fun v25 h25 hq25 => ?_) (fun _ _ hq => hq.elim)
  obtain ⟨rfl, rfl⟩ := hq25
  refine r_ireturn dX3_save_28 rfl rfl ?_
  exact ⟨rfl, rfl⟩
theorem c_m_restore {E : EV} (S : MS) (G : Nat → Nat) (r : MH) (w : Nat) (h5 : S.1 5 = nI w) (hw : w ≤ 1) : SM E yX3_restore 1 [.ref 410] (JG S G r) 0 0 (fun o h' => (w = 0 ∧ o = some (.int (nI 0)) ∧ h' = JG (ss S 12 (nI 1)) G r) ∨ (¬ w = 0 ∧ o = some (.int (nI (S.2 3 0))) ∧ h' = JG (ss (ss S 3 (nI 0)) 12 (nI 0)) (va_cpy (S.2 3) G 0 0 48) r)) (fun _ _ => False) := by
  refine SM.of (cc := cX3_restore) (nL := 1) (ret := (some .int)) (hh := []) (ls := [(0, .ref 410)]) pl_X3 (Or.inl ⟨rfl, q2103⟩) rfl q78 rfl rfl ?_
  refine r_aload_n dX3_restore_0 rfl ?_
  refine r_getfield dX3_restore_1 fl_X3_217_9 (JG_410 _ _ _) rfl ?_
  refine r_ti h5 ?_
  refine rn_if_ne (tgt := 13) dX3_restore_4 rfl (by omega) (fun c4 => ?_) (fun c4 => ?_)
  · refine r_aload_n dX3_restore_13 rfl ?_
    refine r_getfield dX3_restore_14 fl_X3_19_9 (JG_410 _ _ _) rfl ?_
    refine r_iconst dX3_restore_17 ki_0 ?_
    refine r_aload_n dX3_restore_18 rfl ?_
    refine r_getfield dX3_restore_19 fl_X3_7_9 (JG_410 _ _ _) rfl ?_
    refine r_iconst dX3_restore_22 ki_0 ?_
    refine r_invS dX3_restore_23 (c_m_copy _ 414 411 48 48 0 0 (S.2 3) G (by decide) (by decide) (JG_414 _ _ _) (JG_411 _ _ _) (by omega) (by omega) (by decide) (by decide)) q1754 q1755 pn_X3_copy mh_X3_copy rfl (by omega) (Nat.le_refl _) (Nat.le_refl _) (Nat.le_of_ble_eq_true rfl) (fun v23 h23 hq23 => ?_) (fun _ _ hq => hq.elim)
    obtain ⟨rfl, rfl⟩ := hq23
    rw [JG_p0]
    refine r_aload_n dX3_restore_26 rfl ?_
    refine r_iconst dX3_restore_27 ki_0 ?_
    refine rg_put3 dX3_restore_28 fp_X3_49_9 rfl rfl ?_
    refine r_aload_n dX3_restore_31 rfl ?_
    refine r_aload_n dX3_restore_32 rfl ?_
    refine r_getfield dX3_restore_33 fl_X3_7_9 (JG_410 _ _ _) rfl ?_
    refine r_iconst dX3_restore_36 ki_0 ?_
    refine rn_iaload dX3_restore_37 (JG_411 _ _ _) (by omega) (by omega) ?_
    refine r_ti (v := nI (S.2 3 0)) (congrArg nI (eq48_cpy (S.2 3) G 0 (by decide))) ?_
    refine r_invV dX3_restore_38 (c_m_done _ _ r _) q1768 q1770 qs32 (JG_410 _ _ _) k9 pn_X3_done mh_X3_done rfl (by omega) (Nat.le_refl _) (Nat.le_refl _) (Nat.le_of_ble_eq_true rfl) (fun v38 h38 hq38 => ?_) (fun _ _ hq => hq.elim)
    obtain ⟨rfl, rfl⟩ := hq38
    refine r_ireturn dX3_restore_41 rfl rfl ?_
    exact Or.inr ⟨c4, rfl, rfl⟩
  · refine r_aload_n dX3_restore_7 rfl ?_
    refine r_iconst dX3_restore_8 ki_1 ?_
    refine r_invV dX3_restore_9 (c_m_fails S G r (nI 1)) q1764 q1766 qs31 (JG_410 _ _ _) k9 pn_X3_fails mh_X3_fails rfl (by omega) (Nat.le_refl _) (Nat.le_refl _) (Nat.le_of_ble_eq_true rfl) (fun v9 h9 hq9 => ?_) (fun _ _ hq => hq.elim)
    obtain ⟨rfl, rfl⟩ := hq9
    refine r_ireturn dX3_restore_12 rfl rfl ?_
    exact Or.inl ⟨c4, rfl, rfl⟩
