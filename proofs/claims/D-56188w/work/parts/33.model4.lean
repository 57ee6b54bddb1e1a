set_option maxRecDepth 100000
theorem c_m_addsLeg {E : EV} (S : MS) (G : Nat → Nat) (r : MH) (x : Int32) (hG : gOK G) : SM E yX3_addsLeg 1 [.ref 410, .int x] (JG S G r) 0 0 (fun o h' => o = some (.int (sp_leg G x).2.1) ∧ h' = JG (ss S 12 (nI (sp_leg G x).1)) (sp_leg G x).2.2 r) (fun _ _ => False) := by
  obtain ⟨hg0, hg1, hg2, hg3, hgp, hgr, hgw⟩ := id hG
  refine SM.of (cc := cX3_addsLeg) (nL := 2) (ret := (some .int)) (hh := []) (ls := [(0, .ref 410), (1, .int x)]) pl_X3 (Or.inl ⟨rfl, q1960⟩) rfl q78 rfl rfl ?_
  refine r_iload_n dX3_addsLeg_0 rfl ?_
  refine r_iconst dX3_addsLeg_1 ki_1 ?_
  refine r_bipush dX3_addsLeg_2 kb_60 ?_
  refine r_invS dX3_addsLeg_4 (c_m_in (JG S G r) x (nI 1) (nI 60)) q1761 q1762 pn_X3_in mh_X3_in rfl (by omega) (Nat.le_refl _) (Nat.le_refl _) (Nat.le_of_ble_eq_true rfl) (fun v4 h4 hq4 => ?_) (fun _ _ hq => hq.elim)
  obtain ⟨rfl, rfl⟩ := hq4
  refine rb_if_ne (tgt := 16) dX3_addsLeg_7 rfl  (fun c7 => ?_) (fun c7 => ?_)
  · obtain ⟨k, hk1, hk2, rfl⟩ := rg_of (by decide) c7.1 c7.2 (by decide)
    refine r_aload_n dX3_addsLeg_16 rfl ?_
    refine r_getfield dX3_addsLeg_17 fl_X3_7_9 (JG_410 _ _ _) rfl ?_
    refine r_iconst dX3_addsLeg_20 ki_3 ?_
    refine rn_iaload dX3_addsLeg_21 (JG_411 _ _ _) (by omega) (by omega) ?_
    refine r_bipush dX3_addsLeg_22 kb_6 ?_
    refine rn_icmp_ne (tgt := 33) dX3_addsLeg_24 rfl (by omega) (by omega) (fun c24 => ?_) (fun c24 => ?_)
    · refine r_aload_n dX3_addsLeg_33 rfl ?_
      refine r_getfield dX3_addsLeg_34 fl_X3_7_9 (JG_410 _ _ _) rfl ?_
      refine r_bipush dX3_addsLeg_37 kb_42 ?_
      refine r_aload_n dX3_addsLeg_39 rfl ?_
      refine r_getfield dX3_addsLeg_40 fl_X3_7_9 (JG_410 _ _ _) rfl ?_
      refine r_iconst dX3_addsLeg_43 ki_3 ?_
      refine rn_iaload dX3_addsLeg_44 (JG_411 _ _ _) (by omega) (by omega) ?_
      refine rn_iadd dX3_addsLeg_45 ?_
      refine r_iload_n dX3_addsLeg_46 rfl ?_
      refine rg_ias0 dX3_addsLeg_47 (by omega) ?_
      refine r_aload_n dX3_addsLeg_48 rfl ?_
      refine r_getfield dX3_addsLeg_49 fl_X3_7_9 (JG_410 _ _ _) rfl ?_
      refine r_iconst dX3_addsLeg_52 ki_3 ?_
      refine r_dup2 dX3_addsLeg_53 rfl rfl ?_
      refine rn_iaload dX3_addsLeg_54 (JG_411 _ _ _) (by omega) (by omega) ?_
      rw [up_ne G k (show 3 ≠ 42 + G 3 by omega)]
      refine r_iconst dX3_addsLeg_55 ki_1 ?_
      refine rn_iadd dX3_addsLeg_56 ?_
      refine rg_ias0 dX3_addsLeg_57 (by omega) ?_
      refine r_aload_n dX3_addsLeg_58 rfl ?_
      refine r_aload_n dX3_addsLeg_59 rfl ?_
      refine r_getfield dX3_addsLeg_60 fl_X3_7_9 (JG_410 _ _ _) rfl ?_
      refine r_iconst dX3_addsLeg_63 ki_3 ?_
      refine rn_iaload dX3_addsLeg_64 (JG_411 _ _ _) (by omega) (by omega) ?_
      rw [up_same]
      refine r_invV dX3_addsLeg_65 (c_m_done S _ r (nI (G 3 + 1))) q1768 q1770 qs32 (JG_410 _ _ _) k9 pn_X3_done mh_X3_done rfl (by omega) (Nat.le_refl _) (Nat.le_refl _) (Nat.le_of_ble_eq_true rfl) (fun v65 h65 hq65 => ?_) (fun _ _ hq => hq.elim)
      obtain ⟨rfl, rfl⟩ := hq65
      refine r_ireturn dX3_addsLeg_68 rfl rfl ?_
      rw [sp_leg, if_pos c7, if_neg c24, nI_clamp (by omega)]
      exact ⟨rfl, rfl⟩
    · refine r_aload_n dX3_addsLeg_27 rfl ?_
      refine r_iconst dX3_addsLeg_28 ki_2 ?_
      refine r_invV dX3_addsLeg_29 (c_m_fails S G r (nI 2)) q1764 q1766 qs31 (JG_410 _ _ _) k9 pn_X3_fails mh_X3_fails rfl (by omega) (Nat.le_refl _) (Nat.le_refl _) (Nat.le_of_ble_eq_true rfl) (fun v29 h29 hq29 => ?_) (fun _ _ hq => hq.elim)
      obtain ⟨rfl, rfl⟩ := hq29
      refine r_ireturn dX3_addsLeg_32 rfl rfl ?_
      rw [sp_leg, if_pos c7, if_pos c24]
      exact ⟨rfl, rfl⟩
  · refine r_aload_n dX3_addsLeg_10 rfl ?_
    refine r_iconst dX3_addsLeg_11 ki_1 ?_
    refine r_invV dX3_addsLeg_12 (c_m_fails S G r (nI 1)) q1764 q1766 qs31 (JG_410 _ _ _) k9 pn_X3_fails mh_X3_fails rfl (by omega) (Nat.le_refl _) (Nat.le_refl _) (Nat.le_of_ble_eq_true rfl) (fun v12 h12 hq12 => ?_) (fun _ _ hq => hq.elim)
    obtain ⟨rfl, rfl⟩ := hq12
    refine r_ireturn dX3_addsLeg_15 rfl rfl ?_
    rw [sp_leg, if_neg c7]
    exact ⟨rfl, rfl⟩
theorem c_m_isLeg {E : EV} (S : MS) (G : Nat → Nat) (r : MH) (x : Int32) (hn : G 3 ≤ 6) : SM E yX3_isLeg 1 [.ref 410, .int x] (JG S G r) 0 0 (fun o h' => o = some (.int (bi (ix x (G 3)))) ∧ h' = JG S G r) (fun _ _ => False) := by
  refine SM.of (cc := cX3_isLeg) (nL := 2) (ret := (some .boolean)) (hh := []) (ls := [(0, .ref 410), (1, .int x)]) pl_X3 (Or.inl ⟨rfl, q1972⟩) rfl q78 rfl rfl ?_
  refine r_iload_n dX3_isLeg_0 rfl ?_
  refine r_iconst dX3_isLeg_1 ki_0 ?_
  refine r_aload_n dX3_isLeg_2 rfl ?_
  refine r_getfield dX3_isLeg_3 fl_X3_7_9 (JG_410 _ _ _) rfl ?_
  refine r_iconst dX3_isLeg_6 ki_3 ?_
  refine rn_iaload dX3_isLeg_7 (JG_411 _ _ _) (by omega) (by omega) ?_
  refine r_iconst dX3_isLeg_8 ki_1 ?_
  refine r_isub dX3_isLeg_9 ?_
  refine r_invS dX3_isLeg_10 (c_m_in (JG S G r) x (nI 0) (nI (G 3) - nI 1)) q1761 q1762 pn_X3_in mh_X3_in rfl (by omega) (Nat.le_refl _) (Nat.le_refl _) (Nat.le_of_ble_eq_true rfl) (fun v10 h10 hq10 => ?_) (fun _ _ hq => hq.elim)
  obtain ⟨rfl, rfl⟩ := hq10
  refine r_ireturn dX3_isLeg_13 rfl (nzb _) ?_
  exact ⟨congrArg (fun z => some (Value.int z)) (bi_cg (ix_in (by omega))), rfl⟩
theorem l_m_cuts26 {E : EV} {QR : Option Value → MH → Prop} {QX : Nat → MH → Prop} {d kc ks : Nat} (hd0 : 1 ≤ d) (S : MS) (G : Nat → Nat) (r : MH) (l w : Nat) (hG : gOK G) (hl : l < G 3) (kk : QR (some (.int (nI w))) (JG (ss S 12 (nI 0)) (va_up (shf G l (5 - l)) 3 (G 3 - 1)) r)) : ∀ (n0 i : Nat), l + i ≤ 5 → 6 ≤ n0 + i → SW E yX3_cuts cX3_cuts 4 (some .int) [] QR QX d kc ks (JG S (shf G l i) r) 26 [(0, .ref 410), (1, .int (nI l)), (2, .int (nI w)), (3, .int (nI (l + i)))] [] := by
  obtain ⟨hg0, hg1, hg2, hg3, hgp, hgr, hgw⟩ := id hG
  intro n0
  induction n0 with
  | zero => intro i h1 h2; omega
  | succ n0 ih =>
    intro i h1 h2
    refine r_iload_n dX3_cuts_26 rfl ?_
    refine r_iconst dX3_cuts_27 ki_5 ?_
    refine rn_icmp_ge (tgt := 57) dX3_cuts_28 rfl (by omega) (by omega) (fun hc => ?_) (fun hc => ?_)
    · refine r_aload_n dX3_cuts_57 rfl ?_
      refine r_getfield dX3_cuts_58 fl_X3_7_9 (JG_410 _ _ _) rfl ?_
      refine r_iconst dX3_cuts_61 ki_3 ?_
      refine r_dup2 dX3_cuts_62 rfl rfl ?_
      refine rn_iaload dX3_cuts_63 (JG_411 _ _ _) (by omega) (by omega) ?_
      rw [shf_at G l (by decide)]
      refine r_iconst dX3_cuts_64 ki_1 ?_
      refine rn_isub dX3_cuts_65 (by omega) ?_
      refine rg_ias0 dX3_cuts_66 (by omega) ?_
      refine r_aload_n dX3_cuts_67 rfl ?_
      refine r_iload_n dX3_cuts_68 rfl ?_
      refine r_invV dX3_cuts_69 (c_m_done S _ r (nI w)) q1768 q1770 qs32 (JG_410 _ _ _) k9 pn_X3_done mh_X3_done rfl (by omega) (Nat.le_refl _) (Nat.le_refl _) (Nat.le_of_ble_eq_true rfl) (fun v69 h69 hq69 => ?_) (fun _ _ hq => hq.elim)
      obtain ⟨rfl, rfl⟩ := hq69
      refine r_ireturn dX3_cuts_72 rfl rfl ?_
      rw [show 5 - l = i by omega] at kk
      exact kk
    · refine r_aload_n dX3_cuts_31 rfl ?_
      refine r_getfield dX3_cuts_32 fl_X3_7_9 (JG_410 _ _ _) rfl ?_
      refine r_bipush dX3_cuts_35 kb_42 ?_
      refine r_iload_n dX3_cuts_37 rfl ?_
      refine rn_iadd dX3_cuts_38 ?_
      refine r_aload_n dX3_cuts_39 rfl ?_
      refine r_getfield dX3_cuts_40 fl_X3_7_9 (JG_410 _ _ _) rfl ?_
      refine r_bipush dX3_cuts_43 kb_42 ?_
      refine r_iload_n dX3_cuts_45 rfl ?_
      refine rn_iadd dX3_cuts_46 ?_
      refine r_iconst dX3_cuts_47 ki_1 ?_
      refine rn_iadd dX3_cuts_48 ?_
      refine rn_iaload dX3_cuts_49 (JG_411 _ _ _) (by omega) (by omega) ?_
      rw [show 42 + (l + i) + 1 = 42 + (l + i) + 1 from rfl]
      refine rg_ias0 dX3_cuts_50 (by omega) ?_
      refine rn_iinc (n := 1) (ls' := [(0, _), (1, _), (2, _), (3, _)]) dX3_cuts_51 rfl rfl rfl ?_
      refine r_goto (tgt := 26) dX3_cuts_54 rfl ?_
      exact ih (i + 1) (by omega) (by omega)
theorem c_m_cuts {E : EV} (S : MS) (G : Nat → Nat) (r : MH) (x : Int32) (hG : gOK G) : SM E yX3_cuts 2 [.ref 410, .int x] (JG S G r) 0 0 (fun o h' => o = some (.int (sp_cuts G x).2.1) ∧ h' = JG (ss S 12 (nI (sp_cuts G x).1)) (sp_cuts G x).2.2 r) (fun _ _ => False) := by
  obtain ⟨hg0, hg1, hg2, hg3, hgp, hgr, hgw⟩ := id hG
  refine SM.of (cc := cX3_cuts) (nL := 4) (ret := (some .int)) (hh := []) (ls := [(0, .ref 410), (1, .int x)]) pl_X3 (Or.inl ⟨rfl, q1968⟩) rfl q78 rfl rfl ?_
  refine r_aload_n dX3_cuts_0 rfl ?_
  refine r_iload_n dX3_cuts_1 rfl ?_
  refine r_invV dX3_cuts_2 (c_m_isLeg S G r x hg3) q1969 q1971 qs53 (JG_410 _ _ _) k9 pn_X3_isLeg mh_X3_isLeg rfl (by omega) (Nat.le_refl _) (Nat.le_refl _) (Nat.le_of_ble_eq_true rfl) (fun v2 h2 hq2 => ?_) (fun _ _ hq => hq.elim)
  obtain ⟨rfl, rfl⟩ := hq2
  refine rb_if_ne (tgt := 14) dX3_cuts_5 rfl  (fun c5 => ?_) (fun c5 => ?_)
  · obtain ⟨p, hp, rfl⟩ := ix_of (by omega) c5
    refine r_aload_n dX3_cuts_14 rfl ?_
    refine r_getfield dX3_cuts_15 fl_X3_7_9 (JG_410 _ _ _) rfl ?_
    refine r_bipush dX3_cuts_18 kb_42 ?_
    refine r_iload_n dX3_cuts_20 rfl ?_
    refine rn_iadd dX3_cuts_21 ?_
    refine rn_iaload dX3_cuts_22 (JG_411 _ _ _) (by omega) (by omega) ?_
    refine r_istore_n (ls' := [(0, _), (1, _), (2, _)]) dX3_cuts_23 rfl rfl ?_
    refine r_iload_n dX3_cuts_24 rfl ?_
    refine r_istore_n (ls' := [(0, _), (1, _), (2, _), (3, _)]) dX3_cuts_25 rfl rfl ?_
    exact l_m_cuts26 (by decide) S G r p (G (42 + p)) hG hp (by rw [sp_cuts, if_pos c5, nI_clamp (show p < 2 ^ 31 by omega)]; exact ⟨rfl, rfl⟩) 6 0 (by omega) (by decide)
  · refine r_aload_n dX3_cuts_8 rfl ?_
    refine r_iconst dX3_cuts_9 ki_1 ?_
    refine r_invV dX3_cuts_10 (c_m_fails S G r (nI 1)) q1764 q1766 qs31 (JG_410 _ _ _) k9 pn_X3_fails mh_X3_fails rfl (by omega) (Nat.le_refl _) (Nat.le_refl _) (Nat.le_of_ble_eq_true rfl) (fun v10 h10 hq10 => ?_) (fun _ _ hq => hq.elim)
    obtain ⟨rfl, rfl⟩ := hq10
    refine r_ireturn dX3_cuts_13 rfl rfl ?_
    rw [sp_cuts, if_neg c5]
    exact ⟨rfl, rfl⟩
theorem c_m_legCount {E : EV} (S : MS) (G : Nat → Nat) (r : MH) (hG : gOK G) : SM E yX3_legCount 1 [.ref 410] (JG S G r) 0 0 (fun o h' => o = some (.int (nI (G 3))) ∧ h' = JG (ss S 12 (nI 0)) G r) (fun _ _ => False) := by
  refine SM.of (cc := cX3_legCount) (nL := 1) (ret := (some .int)) (hh := []) (ls := [(0, .ref 410)]) pl_X3 (Or.inl ⟨rfl, q1976⟩) rfl q78 rfl rfl ?_
  refine r_aload_n dX3_legCount_0 rfl ?_
  refine r_aload_n dX3_legCount_1 rfl ?_
  refine r_getfield dX3_legCount_2 fl_X3_7_9 (JG_410 _ _ _) rfl ?_
  refine r_iconst dX3_legCount_5 ki_3 ?_
  refine rn_iaload dX3_legCount_6 (JG_411 _ _ _) (by omega) (by omega) ?_
  refine r_invV dX3_legCount_7 (c_m_done S G r (nI (G 3))) q1768 q1770 qs32 (JG_410 _ _ _) k9 pn_X3_done mh_X3_done rfl (by omega) (Nat.le_refl _) (Nat.le_refl _) (Nat.le_of_ble_eq_true rfl) (fun v7 h7 hq7 => ?_) (fun _ _ hq => hq.elim)
  obtain ⟨rfl, rfl⟩ := hq7
  refine r_ireturn dX3_legCount_10 rfl rfl ?_
  exact ⟨rfl, rfl⟩
theorem c_m_wishOf {E : EV} (S : MS) (G : Nat → Nat) (r : MH) (x : Int32) (hG : gOK G) : SM E yX3_wishOf 2 [.ref 410, .int x] (JG S G r) 0 0 (fun o h' => o = some (.int (sp_wish G x).2) ∧ h' = JG (ss S 12 (nI (sp_wish G x).1)) G r) (fun _ _ => False) := by
  obtain ⟨hg0, hg1, hg2, hg3, hgp, hgr, hgw⟩ := id hG
  refine SM.of (cc := cX3_wishOf) (nL := 2) (ret := (some .int)) (hh := []) (ls := [(0, .ref 410), (1, .int x)]) pl_X3 (Or.inl ⟨rfl, q1980⟩) rfl q78 rfl rfl ?_
  refine r_aload_n dX3_wishOf_0 rfl ?_
  refine r_iload_n dX3_wishOf_1 rfl ?_
  refine r_invV dX3_wishOf_2 (c_m_isLeg S G r x hg3) q1969 q1971 qs53 (JG_410 _ _ _) k9 pn_X3_isLeg mh_X3_isLeg rfl (by omega) (Nat.le_refl _) (Nat.le_refl _) (Nat.le_of_ble_eq_true rfl) (fun v2 h2 hq2 => ?_) (fun _ _ hq => hq.elim)
  obtain ⟨rfl, rfl⟩ := hq2
  refine rb_if_eq (tgt := 24) dX3_wishOf_5 rfl  (fun c5 => ?_) (fun c5 => ?_)
  · refine r_aload_n dX3_wishOf_24 rfl ?_
    refine r_iconst dX3_wishOf_25 ki_1 ?_
    refine r_invV dX3_wishOf_26 (c_m_fails S G r (nI 1)) q1764 q1766 qs31 (JG_410 _ _ _) k9 pn_X3_fails mh_X3_fails rfl (by omega) (Nat.le_refl _) (Nat.le_refl _) (Nat.le_of_ble_eq_true rfl) (fun v26 h26 hq26 => ?_) (fun _ _ hq => hq.elim)
    obtain ⟨rfl, rfl⟩ := hq26
    refine r_ireturn dX3_wishOf_29 rfl rfl ?_
    first
    | (rw [sp_wish, if_pos c5, nI_clamp (show p < 2 ^ 31 by omega)]
       exact ⟨rfl, rfl⟩)
    | (rw [sp_wish, if_neg c5]
       exact ⟨rfl, rfl⟩)
  · obtain ⟨p, hp, rfl⟩ := ix_of (by omega) c5
    refine r_aload_n dX3_wishOf_8 rfl ?_
    refine r_aload_n dX3_wishOf_9 rfl ?_
    refine r_getfield dX3_wishOf_10 fl_X3_7_9 (JG_410 _ _ _) rfl ?_
    refine r_bipush dX3_wishOf_13 kb_42 ?_
    refine r_iload_n dX3_wishOf_15 rfl ?_
    refine rn_iadd dX3_wishOf_16 ?_
    refine rn_iaload dX3_wishOf_17 (JG_411 _ _ _) (by omega) (by omega) ?_
    refine r_invV dX3_wishOf_18 (c_m_done S G r _) q1768 q1770 qs32 (JG_410 _ _ _) k9 pn_X3_done mh_X3_done rfl (by omega) (Nat.le_refl _) (Nat.le_refl _) (Nat.le_of_ble_eq_true rfl) (fun v18 h18 hq18 => ?_) (fun _ _ hq => hq.elim)
    obtain ⟨rfl, rfl⟩ := hq18
    refine r_goto (tgt := 29) dX3_wishOf_21 rfl ?_
    refine r_ireturn dX3_wishOf_29 rfl rfl ?_
    first
    | (rw [sp_wish, if_pos c5, nI_clamp (show p < 2 ^ 31 by omega)]
       exact ⟨rfl, rfl⟩)
    | (rw [sp_wish, if_neg c5]
       exact ⟨rfl, rfl⟩)
theorem l_m_members {E : EV} {QR : Option Value → MH → Prop} {QX : Nat → MH → Prop} {d kc ks : Nat} (h : MH) (s : Nat) (hs : s < 2 ^ 8) (kk : QR (some (.int (nI (mem s)))) h) : ∀ (n0 k c : Nat), k ≤ 8 → 9 ≤ n0 + k → c = cnt (fun k => s.testBit k) k → SW E yX3_members cX3_members 3 (some .int) [] QR QX d kc ks h 4 [(0, .int (nI s)), (1, .int (nI c)), (2, .int (nI k))] [] := by
  intro n0
  induction n0 with
  | zero => intro k c h1 h2; omega
  | succ n0 ih =>
    intro k c h1 h2 h3
    refine r_iload_n dX3_members_4 rfl ?_
    refine r_bipush dX3_members_5 kb_8 ?_
    refine rn_icmp_ge (tgt := 24) dX3_members_7 rfl (by omega) (by omega) (fun hc => ?_) (fun hc => ?_)
    · refine r_iload_n dX3_members_24 rfl ?_
      refine r_ireturn dX3_members_25 rfl rfl ?_
      rw [h3, show k = 8 by omega]
      exact kk
    · refine r_iload_n dX3_members_10 rfl ?_
      refine r_iload_n dX3_members_11 rfl ?_
      refine r_iload_n dX3_members_12 rfl ?_
      refine rn_ishr dX3_members_13 (by omega) (by omega) ?_
      refine r_iconst dX3_members_14 ki_1 ?_
      refine rn_iand1 dX3_members_15 (Nat.lt_of_le_of_lt (Nat.div_le_self _ _) (by omega)) ?_
      refine rn_iadd dX3_members_16 ?_
      refine r_istore_n (ls' := [(0, _), (1, _), (2, _)]) dX3_members_17 rfl rfl ?_
      refine rn_iinc (n := 1) (ls' := [(0, _), (1, _), (2, _)]) dX3_members_18 rfl rfl rfl ?_
      refine r_goto (tgt := 4) dX3_members_21 rfl ?_
      exact ih (k + 1) _ (by omega) (by omega) (by rw [h3, cnt, bit_n])
theorem c_m_members {E : EV} (h : MH) (s : Nat) (hs : s < 2 ^ 8) : SM E yX3_members 0 [.int (nI s)] h 0 0 (fun o h' => o = some (.int (nI (mem s))) ∧ h' = h) (fun _ _ => False) := by
  refine SM.of (cc := cX3_members) (nL := 3) (ret := (some .int)) (hh := []) (ls := [(0, .int (nI s))]) pl_X3 (Or.inl ⟨rfl, q1991⟩) rfl q78 rfl rfl ?_
  refine r_iconst dX3_members_0 ki_0 ?_
  refine r_istore_n (ls' := [(0, _), (1, _)]) dX3_members_1 rfl rfl ?_
  refine r_iconst dX3_members_2 ki_0 ?_
  refine r_istore_n (ls' := [(0, _), (1, _), (2, _)]) dX3_members_3 rfl rfl ?_
  exact l_m_members h s hs ⟨rfl, rfl⟩ 9 0 0 (by decide) (by decide) rfl
theorem c_m_costWith {E : EV} (S : MS) (G : Nat → Nat) (r : MH) (s l p : Nat) (hG : gOK G) (hs : s < 2 ^ 8) (hl : l < 6) (hp : p < G 2) : SM E yX3_costWith 1 [.ref 410, .int (nI s), .int (nI l), .int (nI p)] (JG S G r) 0 0 (fun o h' => o = some (.int (nI (cw G (S.2 6) s l p))) ∧ h' = JG S G r) (fun _ _ => False) := by
  obtain ⟨hg0, hg1, hg2, hg3, hgp, hgr, hgw⟩ := id hG
  have hgwl := hgw l hl
  have hgp1 := hgp p (by omega)
  have hpl := per_le (G (4 + p))
  have hs2 := or_lt hs (show p < 8 by omega)
  refine SM.of (cc := cX3_costWith) (nL := 5) (ret := (some .int)) (hh := []) (ls := [(0, .ref 410), (1, .int (nI s)), (2, .int (nI l)), (3, .int (nI p))]) pl_X3 (Or.inl ⟨rfl, q1996⟩) rfl q78 rfl rfl ?_
  refine r_aload_n dX3_costWith_0 rfl ?_
  refine r_iload_n dX3_costWith_1 rfl ?_
  refine r_invV dX3_costWith_2 (c_m_period S G r p (by omega) (by omega)) q1824 q1826 qs42 (JG_410 _ _ _) k9 pn_X3_period mh_X3_period rfl (by omega) (Nat.le_refl _) (Nat.le_refl _) (Nat.le_of_ble_eq_true rfl) (fun v2 h2 hq2 => ?_) (fun _ _ hq => hq.elim)
  obtain ⟨rfl, rfl⟩ := hq2
  refine r_aload_n dX3_costWith_5 rfl ?_
  refine r_getfield dX3_costWith_6 fl_X3_7_9 (JG_410 _ _ _) rfl ?_
  refine r_bipush dX3_costWith_9 kb_42 ?_
  refine r_iload_n dX3_costWith_11 rfl ?_
  refine rn_iadd dX3_costWith_12 ?_
  refine rn_iaload dX3_costWith_13 (JG_411 _ _ _) (by omega) (by omega) ?_
  refine r_isub dX3_costWith_14 ?_
  refine r_invS dX3_costWith_15 (c_m_size (JG S G r) (per (G (4 + p))) (G (42 + l)) (by omega) (by omega)) q1946 q1947 pn_X3_size mh_X3_size rfl (by omega) (Nat.le_refl _) (Nat.le_refl _) (Nat.le_of_ble_eq_true rfl) (fun v15 h15 hq15 => ?_) (fun _ _ hq => hq.elim)
  obtain ⟨rfl, rfl⟩ := hq15
  refine r_istore (ls' := [(0, _), (1, _), (2, _), (3, _), (4, _)]) dX3_costWith_18 rfl rfl ?_
  refine r_iload_n dX3_costWith_20 rfl ?_
  refine r_iload_n dX3_costWith_21 rfl ?_
  refine rn_ishr dX3_costWith_22 (by omega) (by omega) ?_
  refine r_iconst dX3_costWith_23 ki_1 ?_
  refine rn_iand1 dX3_costWith_24 (Nat.lt_of_le_of_lt (Nat.div_le_self _ _) (by omega)) ?_
  refine r_iconst dX3_costWith_25 ki_1 ?_
  refine rn_icmp_ne (tgt := 34) dX3_costWith_26 rfl (Nat.lt_trans (Nat.mod_lt _ (by decide)) (by decide)) (by decide) (fun c26 => ?_) (fun c26 => ?_)
  · refine r_iload dX3_costWith_34 rfl ?_
    refine r_aload_n dX3_costWith_36 rfl ?_
    refine r_getfield dX3_costWith_37 fl_X3_36_9 (JG_410 _ _ _) rfl ?_
    refine r_iload_n dX3_costWith_40 rfl ?_
    refine r_iconst dX3_costWith_41 ki_1 ?_
    refine r_iload_n dX3_costWith_42 rfl ?_
    refine rn_ishl1 dX3_costWith_43 (by omega) ?_
    refine rn_ior dX3_costWith_44 ?_
    refine rn_iaload dX3_costWith_45 (JG_417 _ _ _) (by omega) (by omega) ?_
    refine rn_iadd dX3_costWith_46 ?_
    refine r_ireturn dX3_costWith_47 rfl rfl ?_
    first
    | exact ⟨by rw [cw, if_pos (bit_1.mp c26)], rfl⟩
    | exact ⟨by rw [cw, if_neg (fun z => c26 (bit_1.mpr z))], rfl⟩
  · refine r_ldc dX3_costWith_29 q1992 ?_
    rw [show (100000 : Int32) = nI 100000 by decide]
    refine r_goto (tgt := 47) dX3_costWith_31 rfl ?_
    refine r_ireturn dX3_costWith_47 rfl rfl ?_
    first
    | exact ⟨by rw [cw, if_pos (bit_1.mp c26)], rfl⟩
    | exact ⟨by rw [cw, if_neg (fun z => c26 (bit_1.mpr z))], rfl⟩
theorem l_m_finds37 {E : EV} {QR : Option Value → MH → Prop} {QX : Nat → MH → Prop} {d kc ks : Nat} (hd0 : 2 ≤ d) (S : MS) (G : Nat → Nat) (r : MH) (s l : Nat) (A : Nat → Nat) (hG : gOK G) (hs : s < 2 ^ 8) (hl : l = mem s) (hA : ∀ t, s < t → t < 2 ^ 8 → A t = lst G t) (kk : ∀ (v : Value) k, SW E yX3_finds cX3_finds 5 none [] QR QX d kc ks (JG (sa S 6 (va_up A s (lst G s))) G r) 100 [(0, .ref 410), (1, .int (nI s)), (2, .int (nI l)), (3, .int (nI k))] []) : ∀ (n0 k c : Nat), k ≤ G 2 → 9 ≤ n0 + k → c = (if l < G 3 then mnl (cw G (lst G) s l) k else 0) → SW E yX3_finds cX3_finds 5 none [] QR QX d kc ks (JG (sa S 6 (va_up A s c)) G r) 37 [(0, .ref 410), (1, .int (nI s)), (2, .int (nI l)), (3, .int (nI k))] [] := by
  obtain ⟨hg0, hg1, hg2, hg3, hgp, hgr, hgw⟩ := id hG
  have hml := mem_le s
  intro n0
  induction n0 with
  | zero => intro k c h1 h2; omega
  | succ n0 ih =>
    intro k c h1 h2 h3
    have hcb : c ≤ 100000 := by rw [h3]; split <;> first | exact mnl_le _ _ | exact Nat.zero_le _
    refine r_iload_n dX3_finds_37 rfl ?_
    refine r_aload_n dX3_finds_38 rfl ?_
    refine r_getfield dX3_finds_39 fl_X3_7_9 (JG_410 _ _ _) rfl ?_
    refine r_iconst dX3_finds_42 ki_2 ?_
    refine rn_iaload dX3_finds_43 (JG_411 _ _ _) (by omega) (by omega) ?_
    refine rn_icmp_ge (tgt := 100) dX3_finds_44 rfl (by omega) (by omega) (fun hc => ?_) (fun hc => ?_)
    · have e : c = lst G s := by
        by_cases q : l < G 3
        · rw [h3, if_pos q, show k = G 2 by omega, hl, ← lst_eq (by omega) hg2]
        · rw [h3, if_neg q, lst_0 (by omega)]
      rw [e]
      exact kk (.int (nI k)) k
    · refine r_iload_n dX3_finds_47 rfl ?_
      refine r_aload_n dX3_finds_48 rfl ?_
      refine r_getfield dX3_finds_49 fl_X3_7_9 (JG_410 _ _ _) rfl ?_
      refine r_iconst dX3_finds_52 ki_3 ?_
      refine rn_iaload dX3_finds_53 (JG_411 _ _ _) (by omega) (by omega) ?_
      refine rn_icmp_ge (tgt := 100) dX3_finds_54 rfl (by omega) (by omega) (fun h54 => ?_) (fun h54 => ?_)
      · have e : c = lst G s := by
          by_cases q : l < G 3
          · rw [h3, if_pos q, show k = G 2 by omega, hl, ← lst_eq (by omega) hg2]
          · rw [h3, if_neg q, lst_0 (by omega)]
        rw [e]
        exact kk (.int (nI k)) k
      · rw [if_pos h54] at h3
        have hcw : cw G (va_up A s c) s l k = cw G (lst G) s l k := by
          unfold cw
          by_cases e : s.testBit k = true
          · rw [if_pos e, if_pos e]
          · have e2 := (Bool.not_eq_true _).mp e
            rw [if_neg e, if_neg e, up_ne _ _ (Nat.ne_of_gt (or_gt e2)), hA _ (or_gt e2) (or_lt hs (by omega))]
        have hcwb : cw G (lst G) s l k ≤ 100060 := by
          unfold cw
          split
          · decide
          · have := lst_le G (s ||| 2 ^ k)
            have := dst_le (per_le (G (4 + k))) (hgw l (by omega)).1
            omega
        refine r_aload_n dX3_finds_57 rfl ?_
        refine r_iload_n dX3_finds_58 rfl ?_
        refine r_iload_n dX3_finds_59 rfl ?_
        refine r_iload_n dX3_finds_60 rfl ?_
        refine r_invV dX3_finds_61 (c_m_costWith (sa S 6 (va_up A s c)) G r s l k hG hs (by omega) hc) q1993 q1995 qs55 (JG_410 _ _ _) k9 pn_X3_costWith mh_X3_costWith rfl (by omega) (Nat.le_refl _) (Nat.le_refl _) (Nat.le_of_ble_eq_true rfl) (fun v61 h61 hq61 => ?_) (fun _ _ hq => hq.elim)
        obtain ⟨rfl, rfl⟩ := hq61
        rw [sa_at, hcw]
        refine r_istore (ls' := [(0, _), (1, _), (2, _), (3, _), (4, _)]) dX3_finds_64 rfl rfl ?_
        refine r_aload_n dX3_finds_66 rfl ?_
        refine r_getfield dX3_finds_67 fl_X3_36_9 (JG_410 _ _ _) rfl ?_
        refine r_iload_n dX3_finds_70 rfl ?_
        refine r_iload dX3_finds_71 rfl ?_
        refine r_aload_n dX3_finds_73 rfl ?_
        refine r_getfield dX3_finds_74 fl_X3_36_9 (JG_410 _ _ _) rfl ?_
        refine r_iload_n dX3_finds_77 rfl ?_
        refine rn_iaload dX3_finds_78 (JG_417 _ _ _) (by omega) (by omega) ?_
        rw [sa_at, up_same]
        refine rn_icmp_ge (tgt := 87) dX3_finds_79 rfl (by omega) (by omega) (fun h79 => ?_) (fun h79 => ?_)
        · refine r_aload_n dX3_finds_87 rfl ?_
          refine r_getfield dX3_finds_88 fl_X3_36_9 (JG_410 _ _ _) rfl ?_
          refine r_iload_n dX3_finds_91 rfl ?_
          refine rn_iaload dX3_finds_92 (JG_417 _ _ _) (by omega) (by omega) ?_
          rw [sa_at, up_same]
          refine rg_ias6 dX3_finds_93 (by omega) ?_
          rw [sa_at, sa_sa, up_up]
          refine rn_iinc (n := 1) (ls' := [(0, _), (1, _), (2, _), (3, _), (4, _)]) dX3_finds_94 rfl rfl rfl ?_
          refine r_goto (tgt := 37) dX3_finds_97 rfl ?_
          first
          | (refine r_drop (a := [(0, _), (1, _), (2, _), (3, _)]) (b := [(4, _)]) ?_
             exact ih (k + 1) _ (by omega) (by omega) (by rw [if_pos h54, mnl, ← h3]; first | rw [if_pos h79] | rw [if_neg (by omega)]))
        · refine r_iload dX3_finds_82 rfl ?_
          refine r_goto (tgt := 93) dX3_finds_84 rfl ?_
          refine rg_ias6 dX3_finds_93 (by omega) ?_
          rw [sa_at, sa_sa, up_up]
          refine rn_iinc (n := 1) (ls' := [(0, _), (1, _), (2, _), (3, _), (4, _)]) dX3_finds_94 rfl rfl rfl ?_
          refine r_goto (tgt := 37) dX3_finds_97 rfl ?_
          first
          | (refine r_drop (a := [(0, _), (1, _), (2, _), (3, _)]) (b := [(4, _)]) ?_
             exact ih (k + 1) _ (by omega) (by omega) (by rw [if_pos h54, mnl, ← h3]; first | rw [if_pos h79] | rw [if_neg (by omega)]))
theorem l_m_finds {E : EV} {QR : Option Value → MH → Prop} {QX : Nat → MH → Prop} {d kc ks : Nat} (hd0 : 3 ≤ d) (S : MS) (G : Nat → Nat) (r : MH) (hG : gOK G) (kk : ∀ A, (∀ t, t < 2 ^ 8 → A t = lst G t) → QR none (JG (sa S 6 A) G r)) : ∀ (n0 : Nat) (A : Nat → Nat), n0 ≤ 2 ^ 8 → (∀ t, n0 ≤ t → t < 2 ^ 8 → A t = lst G t) → SW E yX3_finds cX3_finds 5 none [] QR QX d kc ks (JG (sa S 6 A) G r) 4 [(0, .ref 410), (1, .int (nI n0 + (-1)))] [] := by
  obtain ⟨hg0, hg1, hg2, hg3, hgp, hgr, hgw⟩ := id hG
  intro n0
  induction n0 with
  | zero =>
    intro A h1 h2
    refine r_iload_n dX3_finds_4 rfl ?_
    refine r_if_lt (tgt := 106) dX3_finds_5 rfl (fun c5 => ?_) (fun c5 => absurd (by decide) c5)
    refine r_return dX3_finds_106 rfl ?_
    exact kk A fun t ht => h2 t (Nat.zero_le _) ht
  | succ n0 ih =>
    intro A h1 h2
    have hml := mem_le n0
    rw [pk_m1]
    refine r_iload_n dX3_finds_4 rfl ?_
    refine rn_if_lt (tgt := 106) dX3_finds_5 rfl (by omega) ?_
    refine r_iload_n dX3_finds_8 rfl ?_
    refine r_invS dX3_finds_9 (c_m_members (JG (sa S 6 A) G r) n0 (by omega)) q1989 q1990 pn_X3_members mh_X3_members rfl (by omega) (Nat.le_refl _) (Nat.le_refl _) (Nat.le_of_ble_eq_true rfl) (fun v9 h9 hq9 => ?_) (fun _ _ hq => hq.elim)
    obtain ⟨rfl, rfl⟩ := hq9
    refine r_istore_n (ls' := [(0, _), (1, _), (2, _)]) dX3_finds_12 rfl rfl ?_
    refine r_aload_n dX3_finds_13 rfl ?_
    refine r_getfield dX3_finds_14 fl_X3_36_9 (JG_410 _ _ _) rfl ?_
    refine r_iload_n dX3_finds_17 rfl ?_
    refine r_iload_n dX3_finds_18 rfl ?_
    refine r_aload_n dX3_finds_19 rfl ?_
    refine r_getfield dX3_finds_20 fl_X3_7_9 (JG_410 _ _ _) rfl ?_
    refine r_iconst dX3_finds_23 ki_3 ?_
    refine rn_iaload dX3_finds_24 (JG_411 _ _ _) (by omega) (by omega) ?_
    refine rn_icmp_lt (tgt := 32) dX3_finds_25 rfl (by omega) (by omega) (fun c25 => ?_) (fun c25 => ?_)
    · refine r_ldc dX3_finds_32 q1992 ?_
      rw [show (100000 : Int32) = nI 100000 by decide]
      refine rg_ias6 dX3_finds_34 (by omega) ?_
      rw [sa_at, sa_sa]
      refine r_iconst dX3_finds_35 ki_0 ?_
      refine r_istore_n (ls' := [(0, _), (1, _), (2, _), (3, _)]) dX3_finds_36 rfl rfl ?_
      refine l_m_finds37 (by omega) S G r n0 (mem n0) A hG (by omega) rfl (fun t a b => h2 t a b) ?_ 9 0 _ (Nat.zero_le _) (by decide) (by first | (rw [if_pos c25]; rfl) | rw [if_neg (by omega)])
      intro v k
      refine r_iinc (ls' := [(0, _), (1, _), (2, _), (3, _)]) dX3_finds_100 rfl (congrArg (nI n0 + ·) ki_m1) rfl rfl ?_
      refine r_goto (tgt := 4) dX3_finds_103 rfl ?_
      refine r_drop (a := [(0, _), (1, _)]) (b := [(2, _), (3, _)]) ?_
      exact ih _ (by omega) (fun t a b => by
        by_cases e : t = n0
        · subst e
          exact up_same _ _ _
        · rw [up_ne _ _ e]
          exact h2 t (by omega) b)
    · refine r_iconst dX3_finds_28 ki_0 ?_
      refine r_goto (tgt := 34) dX3_finds_29 rfl ?_
      refine rg_ias6 dX3_finds_34 (by omega) ?_
      rw [sa_at, sa_sa]
      refine r_iconst dX3_finds_35 ki_0 ?_
      refine r_istore_n (ls' := [(0, _), (1, _), (2, _), (3, _)]) dX3_finds_36 rfl rfl ?_
      refine l_m_finds37 (by omega) S G r n0 (mem n0) A hG (by omega) rfl (fun t a b => h2 t a b) ?_ 9 0 _ (Nat.zero_le _) (by decide) (by first | (rw [if_pos c25]; rfl) | rw [if_neg (by omega)])
      intro v k
      refine r_iinc (ls' := [(0, _), (1, _), (2, _), (3, _)]) dX3_finds_100 rfl (congrArg (nI n0 + ·) ki_m1) rfl rfl ?_
      refine r_goto (tgt := 4) dX3_finds_103 rfl ?_
      refine r_drop (a := [(0, _), (1, _)]) (b := [(2, _), (3, _)]) ?_
      exact ih _ (by omega) (fun t a b => by
        by_cases e : t = n0
        · subst e
          exact up_same _ _ _
        · rw [up_ne _ _ e]
          exact h2 t (by omega) b)
theorem c_m_finds {E : EV} (S : MS) (G : Nat → Nat) (r : MH) (hG : gOK G) : SM E yX3_finds 3 [.ref 410] (JG S G r) 0 0 (fun o h' => o = none ∧ ∃ A, (∀ t, t < 2 ^ 8 → A t = lst G t) ∧ h' = JG (sa S 6 A) G r) (fun _ _ => False) := by
  refine SM.of (cc := cX3_finds) (nL := 5) (ret := none) (hh := []) (ls := [(0, .ref 410)]) pl_X3 (Or.inl ⟨rfl, q1988⟩) rfl q78 rfl rfl ?_
  refine r_sipush dX3_finds_0 ks_255 ?_
  rw [show nI 255 = nI 256 + (-1) from (pk_m1 255).symm]
  refine r_heap (h' := JG (sa S 6 (S.2 6)) G r) (by rw [sa_self]) ?_
  refine r_istore_n (ls' := [(0, _), (1, _)]) dX3_finds_3 rfl rfl ?_
  exact l_m_finds (by decide) S G r hG (fun A hA => ⟨rfl, A, hA, rfl⟩) 256 (S.2 6) (by decide) (fun t a b => absurd b (Nat.not_lt.mpr a))
theorem c_m_leastRelay {E : EV} (S : MS) (G : Nat → Nat) (r : MH) (hG : gOK G) : SM E yX3_leastRelay 4 [.ref 410] (JG S G r) 0 0 (fun o h' => o = some (.int (sp_least G).2) ∧ ∃ A, h' = JG (ss (sa S 6 A) 12 (nI (sp_least G).1)) G r) (fun _ _ => False) := by
  obtain ⟨hg0, hg1, hg2, hg3, hgp, hgr, hgw⟩ := id hG
  refine SM.of (cc := cX3_leastRelay) (nL := 1) (ret := (some .int)) (hh := []) (ls := [(0, .ref 410)]) pl_X3 (Or.inl ⟨rfl, q1984⟩) rfl q78 rfl rfl ?_
  refine r_aload_n dX3_leastRelay_0 rfl ?_
  refine r_getfield dX3_leastRelay_1 fl_X3_7_9 (JG_410 _ _ _) rfl ?_
  refine r_iconst dX3_leastRelay_4 ki_2 ?_
  refine rn_iaload dX3_leastRelay_5 (JG_411 _ _ _) (by omega) (by omega) ?_
  refine r_aload_n dX3_leastRelay_6 rfl ?_
  refine r_getfield dX3_leastRelay_7 fl_X3_7_9 (JG_410 _ _ _) rfl ?_
  refine r_iconst dX3_leastRelay_10 ki_3 ?_
  refine rn_iaload dX3_leastRelay_11 (JG_411 _ _ _) (by omega) (by omega) ?_
  refine rn_icmp_ge (tgt := 21) dX3_leastRelay_12 rfl (by omega) (by omega) (fun c12 => ?_) (fun c12 => ?_)
  · refine r_aload_n dX3_leastRelay_21 rfl ?_
    refine r_invV dX3_leastRelay_22 (c_m_finds S G r hG) q1985 q1987 qs54 (JG_410 _ _ _) k9 pn_X3_finds mh_X3_finds rfl (by omega) (Nat.le_refl _) (Nat.le_refl _) (Nat.le_of_ble_eq_true rfl) (fun v22 h22 hq22 => ?_) (fun _ _ hq => hq.elim)
    obtain ⟨rfl, A, hA, rfl⟩ := hq22
    refine r_aload_n dX3_leastRelay_25 rfl ?_
    refine r_aload_n dX3_leastRelay_26 rfl ?_
    refine r_getfield dX3_leastRelay_27 fl_X3_36_9 (JG_410 _ _ _) rfl ?_
    refine r_iconst dX3_leastRelay_30 ki_0 ?_
    refine rn_iaload dX3_leastRelay_31 (JG_417 _ _ _) (by omega) (by omega) ?_
    rw [sa_at, hA 0 (by decide)]
    refine r_invV dX3_leastRelay_32 (c_m_done (sa S 6 A) G r _) q1768 q1770 qs32 (JG_410 _ _ _) k9 pn_X3_done mh_X3_done rfl (by omega) (Nat.le_refl _) (Nat.le_refl _) (Nat.le_of_ble_eq_true rfl) (fun v32 h32 hq32 => ?_) (fun _ _ hq => hq.elim)
    obtain ⟨rfl, rfl⟩ := hq32
    refine r_ireturn dX3_leastRelay_35 rfl rfl ?_
    rw [sp_least, if_neg (by omega)]
    exact ⟨rfl, A, rfl⟩
  · refine r_aload_n dX3_leastRelay_15 rfl ?_
    refine r_iconst dX3_leastRelay_16 ki_1 ?_
    refine r_invV dX3_leastRelay_17 (c_m_fails S G r (nI 1)) q1764 q1766 qs31 (JG_410 _ _ _) k9 pn_X3_fails mh_X3_fails rfl (by omega) (Nat.le_refl _) (Nat.le_refl _) (Nat.le_of_ble_eq_true rfl) (fun v17 h17 hq17 => ?_) (fun _ _ hq => hq.elim)
    obtain ⟨rfl, rfl⟩ := hq17
    refine r_ireturn dX3_leastRelay_20 rfl rfl ?_
    rw [sp_least, if_pos c12]
    exact ⟨rfl, S.2 6, by rw [sa_self]⟩
theorem c_m_leastRelayByTrying {E : EV} (S : MS) (G : Nat → Nat) (r : MH) (hG : gOK G) : SM E yX3_leastRelayByTrying 5 [.ref 410] (JG S G r) 0 0 (fun o h' => o = some (.int (sp_least G).2) ∧ ∃ A, h' = JG (ss (sa S 6 A) 12 (nI (sp_least G).1)) G r) (fun _ _ => False) := by
  refine SM.of (cc := cX3_leastRelayByTrying) (nL := 1) (ret := (some .int)) (hh := []) (ls := [(0, .ref 410)]) pl_X3 (Or.inl ⟨rfl, q2000⟩) rfl q78 rfl rfl ?_
  refine r_aload_n dX3_leastRelayByTrying_0 rfl ?_
  refine r_invV dX3_leastRelayByTrying_1 (c_m_leastRelay S G r hG) q2001 q1982 q1983 (JG_410 _ _ _) k9 pn_X3_leastRelay mh_X3_leastRelay rfl (by omega) (Nat.le_refl _) (Nat.le_refl _) (Nat.le_of_ble_eq_true rfl) (fun v1 h1 hq1 => ?_) (fun _ _ hq => hq.elim)
  obtain ⟨rfl, A, rfl⟩ := hq1
  refine r_ireturn dX3_leastRelayByTrying_4 rfl rfl ?_
  exact ⟨rfl, A, rfl⟩
theorem l_m_runner54 {E : EV} {QR : Option Value → MH → Prop} {QX : Nat → MH → Prop} {d kc ks : Nat} (hd0 : 2 ≤ d) (S : MS) (G : Nat → Nat) (r : MH) (leg k p : Nat) (hG : gOK G) (hA : ∀ t, t < 2 ^ 8 → S.2 6 t = lst G t) (h23 : G 3 ≤ G 2) (hk : k < G 3) (hp : rnn G (rset G k) k = some p) (kk : SW E yX3_runnerOf cX3_runnerOf 5 (some .int) [] QR QX d kc ks (JG S G r) 77 [(0, .ref 410), (1, .int (nI leg)), (2, .int (nI (rset G k))), (3, .int (nI p)), (4, .int (nI k))] []) : ∀ (n0 q : Nat), q ≤ p → p < n0 + q → SW E yX3_runnerOf cX3_runnerOf 5 (some .int) [] QR QX d kc ks (JG S G r) 54 [(0, .ref 410), (1, .int (nI leg)), (2, .int (nI (rset G k))), (3, .int (nI q)), (4, .int (nI k))] [] := by
  obtain ⟨hg0, hg1, hg2, hg3, hgp, hgr, hgw⟩ := id hG
  obtain ⟨hm, hs⟩ := rset_ok hG h23 k (by omega)
  have hrn := rnn_at hG (s := rset G k) (by omega) h23
  rw [hm] at hrn
  obtain ⟨p', hp', hp2, hp3, hp4, hp5⟩ := hrn
  have epp : p' = p := Option.some.inj (hp'.symm.trans hp)
  subst epp
  have hlb := lst_le G (rset G k)
  have hcwe : ∀ j, j ≤ p' → cw G (S.2 6) (rset G k) k j = cw G (lst G) (rset G k) k j := fun j hj => by
    unfold cw
    by_cases e : (rset G k).testBit j = true
    · rw [if_pos e, if_pos e]
    · rw [if_neg e, if_neg e, hA _ (or_lt hs (by omega))]
  have hcwb : ∀ j, cw G (lst G) (rset G k) k j ≤ 100060 := fun j => by
    unfold cw
    split
    · decide
    · have := lst_le G (rset G k ||| 2 ^ j)
      have := dst_le (per_le (G (4 + j))) (hgw k (by omega)).1
      omega
  intro n0
  induction n0 with
  | zero => intro q h1 h2; omega
  | succ n0 ih =>
    intro q h1 h2
    have hcq := hcwb q
    refine r_aload_n dX3_runnerOf_54 rfl ?_
    refine r_iload_n dX3_runnerOf_55 rfl ?_
    refine r_iload dX3_runnerOf_56 rfl ?_
    refine r_iload_n dX3_runnerOf_58 rfl ?_
    refine r_invV dX3_runnerOf_59 (c_m_costWith S G r (rset G k) k q hG hs (by omega) (by omega)) q1993 q1995 qs55 (JG_410 _ _ _) k9 pn_X3_costWith mh_X3_costWith rfl (by omega) (Nat.le_refl _) (Nat.le_refl _) (Nat.le_of_ble_eq_true rfl) (fun v59 h59 hq59 => ?_) (fun _ _ hq => hq.elim)
    obtain ⟨rfl, rfl⟩ := hq59
    rw [hcwe q h1]
    refine r_aload_n dX3_runnerOf_62 rfl ?_
    refine r_getfield dX3_runnerOf_63 fl_X3_36_9 (JG_410 _ _ _) rfl ?_
    refine r_iload_n dX3_runnerOf_66 rfl ?_
    refine rn_iaload dX3_runnerOf_67 (JG_417 _ _ _) hs (by decide) ?_
    rw [hA _ hs]
    refine rn_icmp_eq (tgt := 77) dX3_runnerOf_68 rfl (by omega) (by omega) (fun hc => ?_) (fun hc => ?_)
    · have e : q = p' := by
        rcases Nat.lt_or_ge q p' with e | e
        · exact absurd hc (hp5 q e)
        · omega
      rw [e]
      exact kk
    · refine rn_iinc (n := 1) (ls' := [(0, _), (1, _), (2, _), (3, _), (4, _)]) dX3_runnerOf_71 rfl rfl rfl ?_
      refine r_goto (tgt := 54) dX3_runnerOf_74 rfl ?_
      exact ih (q + 1) (Nat.lt_of_le_of_ne h1 (fun e => hc (by rw [e]; exact hp3))) (by omega)
theorem l_m_runner46 {E : EV} {QR : Option Value → MH → Prop} {QX : Nat → MH → Prop} {d kc ks : Nat} (hd0 : 3 ≤ d) (S : MS) (G : Nat → Nat) (r : MH) (leg : Nat) (hG : gOK G) (hA : ∀ t, t < 2 ^ 8 → S.2 6 t = lst G t) (h23 : G 3 ≤ G 2) (hleg : leg < G 3) (kk : QR (some (.int (nI ((rnn G (rset G leg) leg).getD 0)))) (JG (ss S 12 (nI 0)) G r)) : ∀ (n0 k : Nat) (w : Int32), k ≤ leg + 1 → leg + 1 < n0 + k → (k = leg + 1 → w = nI ((rnn G (rset G leg) leg).getD 0)) → SW E yX3_runnerOf cX3_runnerOf 5 (some .int) [] QR QX d kc ks (JG S G r) 46 [(0, .ref 410), (1, .int (nI leg)), (2, .int (nI (rset G k))), (3, .int w), (4, .int (nI k))] [] := by
  obtain ⟨hg0, hg1, hg2, hg3, hgp, hgr, hgw⟩ := id hG
  intro n0
  induction n0 with
  | zero => intro k w h1 h2; omega
  | succ n0 ih =>
    intro k w h1 h2 h3
    refine r_iload dX3_runnerOf_46 rfl ?_
    refine r_iload_n dX3_runnerOf_48 rfl ?_
    refine rn_icmp_gt (tgt := 89) dX3_runnerOf_49 rfl (by omega) (by omega) (fun hc => ?_) (fun hc => ?_)
    · refine r_aload_n dX3_runnerOf_89 rfl ?_
      refine r_iload_n dX3_runnerOf_90 rfl ?_
      refine r_invV dX3_runnerOf_91 (c_m_done S G r w) q1768 q1770 qs32 (JG_410 _ _ _) k9 pn_X3_done mh_X3_done rfl (by omega) (Nat.le_refl _) (Nat.le_refl _) (Nat.le_of_ble_eq_true rfl) (fun v91 h91 hq91 => ?_) (fun _ _ hq => hq.elim)
      obtain ⟨rfl, rfl⟩ := hq91
      refine r_ireturn dX3_runnerOf_94 rfl rfl ?_
      rw [h3 (by omega)]
      exact kk
    · obtain ⟨hm, hs⟩ := rset_ok hG h23 k (by omega)
      have hrn := rnn_at hG (s := rset G k) (by omega) h23
      rw [hm] at hrn
      obtain ⟨p, hp, hp2, -, -, -⟩ := hrn
      refine r_iconst dX3_runnerOf_52 ki_0 ?_
      refine r_istore_n (ls' := [(0, _), (1, _), (2, _), (3, _), (4, _)]) dX3_runnerOf_53 rfl rfl ?_
      refine l_m_runner54 (by omega) S G r leg k p hG hA h23 (by omega) hp ?_ _ 0 (Nat.zero_le _) (Nat.lt_succ_self _)
      refine r_iload_n dX3_runnerOf_77 rfl ?_
      refine r_iconst dX3_runnerOf_78 ki_1 ?_
      refine r_iload_n dX3_runnerOf_79 rfl ?_
      refine rn_ishl1 dX3_runnerOf_80 (by omega) ?_
      refine rn_ior dX3_runnerOf_81 ?_
      refine r_istore_n (ls' := [(0, _), (1, _), (2, _), (3, _), (4, _)]) dX3_runnerOf_82 rfl rfl ?_
      refine rn_iinc (n := 1) (ls' := [(0, _), (1, _), (2, _), (3, _), (4, _)]) dX3_runnerOf_83 rfl rfl rfl ?_
      refine r_goto (tgt := 46) dX3_runnerOf_86 rfl ?_
      have ez : rset G k ||| 2 ^ p = rset G (k + 1) := by rw [rset, hp]; rfl
      rw [ez]
      exact ih (k + 1) _ (by omega) (by omega) (fun e => by
        have e : k = leg := by omega
        subst e
        rw [hp]
        rfl)
theorem c_m_runnerOf {E : EV} (S : MS) (G : Nat → Nat) (r : MH) (x : Int32) (hG : gOK G) : SM E yX3_runnerOf 4 [.ref 410, .int x] (JG S G r) 0 0 (fun o h' => o = some (.int (sp_runner G x).2) ∧ ∃ A, h' = JG (ss (sa S 6 A) 12 (nI (sp_runner G x).1)) G r) (fun _ _ => False) := by
  obtain ⟨hg0, hg1, hg2, hg3, hgp, hgr, hgw⟩ := id hG
  refine SM.of (cc := cX3_runnerOf) (nL := 5) (ret := (some .int)) (hh := []) (ls := [(0, .ref 410), (1, .int x)]) pl_X3 (Or.inl ⟨rfl, q2005⟩) rfl q78 rfl rfl ?_
  refine r_aload_n dX3_runnerOf_0 rfl ?_
  refine r_iload_n dX3_runnerOf_1 rfl ?_
  refine r_invV dX3_runnerOf_2 (c_m_isLeg S G r x hg3) q1969 q1971 qs53 (JG_410 _ _ _) k9 pn_X3_isLeg mh_X3_isLeg rfl (by omega) (Nat.le_refl _) (Nat.le_refl _) (Nat.le_of_ble_eq_true rfl) (fun v2 h2 hq2 => ?_) (fun _ _ hq => hq.elim)
  obtain ⟨rfl, rfl⟩ := hq2
  refine rb_if_ne (tgt := 14) dX3_runnerOf_5 rfl  (fun c5 => ?_) (fun c5 => ?_)
  · obtain ⟨p, hp, rfl⟩ := ix_of (by omega) c5
    refine r_aload_n dX3_runnerOf_14 rfl ?_
    refine r_getfield dX3_runnerOf_15 fl_X3_7_9 (JG_410 _ _ _) rfl ?_
    refine r_iconst dX3_runnerOf_18 ki_2 ?_
    refine rn_iaload dX3_runnerOf_19 (JG_411 _ _ _) (by omega) (by omega) ?_
    refine r_aload_n dX3_runnerOf_20 rfl ?_
    refine r_getfield dX3_runnerOf_21 fl_X3_7_9 (JG_410 _ _ _) rfl ?_
    refine r_iconst dX3_runnerOf_24 ki_3 ?_
    refine rn_iaload dX3_runnerOf_25 (JG_411 _ _ _) (by omega) (by omega) ?_
    refine rn_icmp_ge (tgt := 35) dX3_runnerOf_26 rfl (by omega) (by omega) (fun c26 => ?_) (fun c26 => ?_)
    · refine r_aload_n dX3_runnerOf_35 rfl ?_
      refine r_invV dX3_runnerOf_36 (c_m_finds S G r hG) q1985 q1987 qs54 (JG_410 _ _ _) k9 pn_X3_finds mh_X3_finds rfl (by omega) (Nat.le_refl _) (Nat.le_refl _) (Nat.le_of_ble_eq_true rfl) (fun v36 h36 hq36 => ?_) (fun _ _ hq => hq.elim)
      obtain ⟨rfl, A, hA, rfl⟩ := hq36
      refine r_iconst dX3_runnerOf_39 ki_0 ?_
      refine r_istore_n (ls' := [(0, _), (1, _), (2, _)]) dX3_runnerOf_40 rfl rfl ?_
      refine r_iconst dX3_runnerOf_41 ki_m1 ?_
      refine r_istore_n (ls' := [(0, _), (1, _), (2, _), (3, _)]) dX3_runnerOf_42 rfl rfl ?_
      refine r_iconst dX3_runnerOf_43 ki_0 ?_
      refine r_istore (ls' := [(0, _), (1, _), (2, _), (3, _), (4, _)]) dX3_runnerOf_44 rfl rfl ?_
      exact l_m_runner46 (by decide) (sa S 6 A) G r p hG (fun t ht => by rw [sa_at]; exact hA t ht) (by omega) hp (by rw [sp_runner, if_pos c5, if_neg (by omega), nI_clamp (show p < 2 ^ 31 by omega)]; exact ⟨rfl, A, rfl⟩) _ 0 _ (Nat.zero_le _) (Nat.lt_succ_self _) (fun e => by omega)
    · refine r_aload_n dX3_runnerOf_29 rfl ?_
      refine r_iconst dX3_runnerOf_30 ki_2 ?_
      refine r_invV dX3_runnerOf_31 (c_m_fails S G r (nI 2)) q1764 q1766 qs31 (JG_410 _ _ _) k9 pn_X3_fails mh_X3_fails rfl (by omega) (Nat.le_refl _) (Nat.le_refl _) (Nat.le_of_ble_eq_true rfl) (fun v31 h31 hq31 => ?_) (fun _ _ hq => hq.elim)
      obtain ⟨rfl, rfl⟩ := hq31
      refine r_ireturn dX3_runnerOf_34 rfl rfl ?_
      rw [sp_runner, if_pos c5, if_pos c26]
      exact ⟨rfl, S.2 6, by rw [sa_self]⟩
  · refine r_aload_n dX3_runnerOf_8 rfl ?_
    refine r_iconst dX3_runnerOf_9 ki_1 ?_
    refine r_invV dX3_runnerOf_10 (c_m_fails S G r (nI 1)) q1764 q1766 qs31 (JG_410 _ _ _) k9 pn_X3_fails mh_X3_fails rfl (by omega) (Nat.le_refl _) (Nat.le_refl _) (Nat.le_of_ble_eq_true rfl) (fun v10 h10 hq10 => ?_) (fun _ _ hq => hq.elim)
    obtain ⟨rfl, rfl⟩ := hq10
    refine r_ireturn dX3_runnerOf_13 rfl rfl ?_
    rw [sp_runner, if_neg c5]
    exact ⟨rfl, S.2 6, by rw [sa_self]⟩
theorem l_m_together {E : EV} {QR : Option Value → MH → Prop} {QX : Nat → MH → Prop} {d kc ks : Nat} (hd0 : 1 ≤ d) (S : MS) (G : Nat → Nat) (r : MH) (s : Nat) (hG : gOK G) (hs : s < 2 ^ 8) (kk : QR (some (.int (nI (tog G s)))) (JG S G r)) : ∀ (n0 k c : Nat), k ≤ G 2 → 9 ≤ n0 + k → c = sm (fun k => if s.testBit k = true then 168 / per (G (4 + k)) else 0) k → SW E yX3_together cX3_together 4 (some .int) [] QR QX d kc ks (JG S G r) 4 [(0, .ref 410), (1, .int (nI s)), (2, .int (nI c)), (3, .int (nI k))] [] := by
  obtain ⟨hg0, hg1, hg2, hg3, hgp, hgr, hgw⟩ := id hG
  intro n0
  induction n0 with
  | zero => intro k c h1 h2; omega
  | succ n0 ih =>
    intro k c h1 h2 h3
    refine r_iload_n dX3_together_4 rfl ?_
    refine r_aload_n dX3_together_5 rfl ?_
    refine r_getfield dX3_together_6 fl_X3_7_9 (JG_410 _ _ _) rfl ?_
    refine r_iconst dX3_together_9 ki_2 ?_
    refine rn_iaload dX3_together_10 (JG_411 _ _ _) (by omega) (by omega) ?_
    refine rn_icmp_ge (tgt := 45) dX3_together_11 rfl (by omega) (by omega) (fun hc => ?_) (fun hc => ?_)
    · refine r_iload_n dX3_together_45 rfl ?_
      refine r_ireturn dX3_together_46 rfl rfl ?_
      have e : k = G 2 := by omega
      rw [h3, e]
      exact kk
    · have hgk := hgp k (by omega)
      have hpe := per_ge (hgk.2.2.2.2.1 hc)
      have hpl := per_le (G (4 + k))
      refine r_iload_n dX3_together_14 rfl ?_
      refine r_iload_n dX3_together_15 rfl ?_
      refine r_iload_n dX3_together_16 rfl ?_
      refine rn_ishr dX3_together_17 (by omega) (by omega) ?_
      refine r_iconst dX3_together_18 ki_1 ?_
      refine rn_iand1 dX3_together_19 (Nat.lt_of_le_of_lt (Nat.div_le_self _ _) (by omega)) ?_
      refine r_iconst dX3_together_20 ki_1 ?_
      refine rn_icmp_ne (tgt := 36) dX3_together_21 rfl (Nat.lt_trans (Nat.mod_lt _ (by decide)) (by decide)) (by decide) (fun h21 => ?_) (fun h21 => ?_)
      · refine r_iconst dX3_together_36 ki_0 ?_
        refine rn_iadd dX3_together_37 ?_
        refine r_istore_n (ls' := [(0, _), (1, _), (2, _), (3, _)]) dX3_together_38 rfl rfl ?_
        refine rn_iinc (n := 1) (ls' := [(0, _), (1, _), (2, _), (3, _)]) dX3_together_39 rfl rfl rfl ?_
        refine r_goto (tgt := 4) dX3_together_42 rfl ?_
        exact ih (k + 1) _ (by omega) (by omega) (by rw [h3, sm]; first | rw [if_pos (bit_1.mp h21)] | rw [if_neg (fun z => h21 (bit_1.mpr z))])
      · refine r_sipush dX3_together_24 ks_168 ?_
        refine r_aload_n dX3_together_27 rfl ?_
        refine r_iload_n dX3_together_28 rfl ?_
        refine r_invV dX3_together_29 (c_m_period S G r k (by omega) (by omega)) q1824 q1826 qs42 (JG_410 _ _ _) k9 pn_X3_period mh_X3_period rfl (by omega) (Nat.le_refl _) (Nat.le_refl _) (Nat.le_of_ble_eq_true rfl) (fun v29 h29 hq29 => ?_) (fun _ _ hq => hq.elim)
        obtain ⟨rfl, rfl⟩ := hq29
        refine rn_idiv dX3_together_32 (by omega) (by omega) (by omega) ?_
        refine r_goto (tgt := 37) dX3_together_33 rfl ?_
        refine rn_iadd dX3_together_37 ?_
        refine r_istore_n (ls' := [(0, _), (1, _), (2, _), (3, _)]) dX3_together_38 rfl rfl ?_
        refine rn_iinc (n := 1) (ls' := [(0, _), (1, _), (2, _), (3, _)]) dX3_together_39 rfl rfl rfl ?_
        refine r_goto (tgt := 4) dX3_together_42 rfl ?_
        exact ih (k + 1) _ (by omega) (by omega) (by rw [h3, sm]; first | rw [if_pos (bit_1.mp h21)] | rw [if_neg (fun z => h21 (bit_1.mpr z))])
theorem c_m_together {E : EV} (S : MS) (G : Nat → Nat) (r : MH) (s : Nat) (hG : gOK G) (hs : s < 2 ^ 8) : SM E yX3_together 1 [.ref 410, .int (nI s)] (JG S G r) 0 0 (fun o h' => o = some (.int (nI (tog G s))) ∧ h' = JG S G r) (fun _ _ => False) := by
  refine SM.of (cc := cX3_together) (nL := 4) (ret := (some .int)) (hh := []) (ls := [(0, .ref 410), (1, .int (nI s))]) pl_X3 (Or.inl ⟨rfl, q2013⟩) rfl q78 rfl rfl ?_
  refine r_iconst dX3_together_0 ki_0 ?_
  refine r_istore_n (ls' := [(0, _), (1, _), (2, _)]) dX3_together_1 rfl rfl ?_
  refine r_iconst dX3_together_2 ki_0 ?_
  refine r_istore_n (ls' := [(0, _), (1, _), (2, _), (3, _)]) dX3_together_3 rfl rfl ?_
  exact l_m_together (by decide) S G r s hG hs ⟨rfl, rfl⟩ 9 0 0 (Nat.zero_le _) (by decide) rfl
theorem l_m_fewest {E : EV} {QR : Option Value → MH → Prop} {QX : Nat → MH → Prop} {d kc ks : Nat} (hd0 : 2 ≤ d) (S : MS) (G : Nat → Nat) (r : MH) (w : Nat) (hG : gOK G) (hw : w < 1000) (kk : ∀ q : Nat × Int32, (if 8 < fwt G w (2 ^ G 2) then (2, nI 0) else (0, nI (fwt G w (2 ^ G 2)))) = q → QR (some (.int q.2)) (JG (ss S 12 (nI q.1)) G r)) : ∀ (n0 s c : Nat), s ≤ 2 ^ G 2 → 257 ≤ n0 + s → c = fwt G w s → SW E yX3_fewestFor cX3_fewestFor 4 (some .int) [] QR QX d kc ks (JG S G r) 22 [(0, .ref 410), (1, .int (nI w)), (2, .int (nI c)), (3, .int (nI s))] [] := by
  obtain ⟨hg0, hg1, hg2, hg3, hgp, hgr, hgw⟩ := id hG
  have hp2 : 2 ^ G 2 ≤ 256 := Nat.pow_le_pow_right (by decide) hg2
  intro n0
  induction n0 with
  | zero => intro s c h1 h2; omega
  | succ n0 ih =>
    intro s c h1 h2 h3
    have hfb := fwt_le G w s
    have hms := mem_le s
    have htg := tog_le G s (G 2)
    have htg2 : tog G s ≤ 8 * 168 := Nat.le_trans htg (Nat.mul_le_mul_right _ hg2)
    refine r_iload_n dX3_fewestFor_22 rfl ?_
    refine r_iconst dX3_fewestFor_23 ki_1 ?_
    refine r_aload_n dX3_fewestFor_24 rfl ?_
    refine r_getfield dX3_fewestFor_25 fl_X3_7_9 (JG_410 _ _ _) rfl ?_
    refine r_iconst dX3_fewestFor_28 ki_2 ?_
    refine rn_iaload dX3_fewestFor_29 (JG_411 _ _ _) (by omega) (by omega) ?_
    refine rn_ishl1 dX3_fewestFor_30 (by omega) ?_
    refine rn_icmp_ge (tgt := 66) dX3_fewestFor_31 rfl (by omega) (by omega) (fun hc => ?_) (fun hc => ?_)
    · refine r_iload_n dX3_fewestFor_66 rfl ?_
      refine r_bipush dX3_fewestFor_67 kb_8 ?_
      refine rn_icmp_le (tgt := 80) dX3_fewestFor_69 rfl (by omega) (by omega) (fun h69 => ?_) (fun h69 => ?_)
      · refine r_aload_n dX3_fewestFor_80 rfl ?_
        refine r_iload_n dX3_fewestFor_81 rfl ?_
        refine r_invV dX3_fewestFor_82 (c_m_done S G r (nI c)) q1768 q1770 qs32 (JG_410 _ _ _) k9 pn_X3_done mh_X3_done rfl (by omega) (Nat.le_refl _) (Nat.le_refl _) (Nat.le_of_ble_eq_true rfl) (fun v82 h82 hq82 => ?_) (fun _ _ hq => hq.elim)
        obtain ⟨rfl, rfl⟩ := hq82
        refine r_ireturn dX3_fewestFor_85 rfl rfl ?_
        have e : s = 2 ^ G 2 := by omega
        rw [← e, ← h3] at kk
        first
        | exact kk (2, nI 0) (if_pos (by omega))
        | exact kk (0, nI c) (if_neg (by omega))
      · refine r_aload_n dX3_fewestFor_72 rfl ?_
        refine r_iconst dX3_fewestFor_73 ki_2 ?_
        refine r_invV dX3_fewestFor_74 (c_m_fails S G r (nI 2)) q1764 q1766 qs31 (JG_410 _ _ _) k9 pn_X3_fails mh_X3_fails rfl (by omega) (Nat.le_refl _) (Nat.le_refl _) (Nat.le_of_ble_eq_true rfl) (fun v74 h74 hq74 => ?_) (fun _ _ hq => hq.elim)
        obtain ⟨rfl, rfl⟩ := hq74
        refine r_goto (tgt := 85) dX3_fewestFor_77 rfl ?_
        refine r_ireturn dX3_fewestFor_85 rfl rfl ?_
        have e : s = 2 ^ G 2 := by omega
        rw [← e, ← h3] at kk
        first
        | exact kk (2, nI 0) (if_pos (by omega))
        | exact kk (0, nI c) (if_neg (by omega))
    · refine r_aload_n dX3_fewestFor_34 rfl ?_
      refine r_iload_n dX3_fewestFor_35 rfl ?_
      refine r_invV dX3_fewestFor_36 (c_m_together S G r s hG (by omega)) q2010 q2012 qs56 (JG_410 _ _ _) k9 pn_X3_together mh_X3_together rfl (by omega) (Nat.le_refl _) (Nat.le_refl _) (Nat.le_of_ble_eq_true rfl) (fun v36 h36 hq36 => ?_) (fun _ _ hq => hq.elim)
      obtain ⟨rfl, rfl⟩ := hq36
      refine r_iload_n dX3_fewestFor_39 rfl ?_
      refine rn_icmp_lt (tgt := 58) dX3_fewestFor_40 rfl (by omega) (by omega) (fun h40 => ?_) (fun h40 => ?_)
      · refine r_iload_n dX3_fewestFor_58 rfl ?_
        refine r_istore_n (ls' := [(0, _), (1, _), (2, _), (3, _)]) dX3_fewestFor_59 rfl rfl ?_
        refine rn_iinc (n := 1) (ls' := [(0, _), (1, _), (2, _), (3, _)]) dX3_fewestFor_60 rfl rfl rfl ?_
        refine r_goto (tgt := 22) dX3_fewestFor_63 rfl ?_
        exact ih (s + 1) _ (by omega) (by omega) (by rw [fwt, ← h3]; first | rw [if_pos (by omega)] | rw [if_neg (by omega)])
      · refine r_iload_n dX3_fewestFor_43 rfl ?_
        refine r_invS dX3_fewestFor_44 (c_m_members (JG S G r) s (by omega)) q1989 q1990 pn_X3_members mh_X3_members rfl (by omega) (Nat.le_refl _) (Nat.le_refl _) (Nat.le_of_ble_eq_true rfl) (fun v44 h44 hq44 => ?_) (fun _ _ hq => hq.elim)
        obtain ⟨rfl, rfl⟩ := hq44
        refine r_iload_n dX3_fewestFor_47 rfl ?_
        refine rn_icmp_ge (tgt := 58) dX3_fewestFor_48 rfl (by omega) (by omega) (fun h48 => ?_) (fun h48 => ?_)
        · refine r_iload_n dX3_fewestFor_58 rfl ?_
          refine r_istore_n (ls' := [(0, _), (1, _), (2, _), (3, _)]) dX3_fewestFor_59 rfl rfl ?_
          refine rn_iinc (n := 1) (ls' := [(0, _), (1, _), (2, _), (3, _)]) dX3_fewestFor_60 rfl rfl rfl ?_
          refine r_goto (tgt := 22) dX3_fewestFor_63 rfl ?_
          exact ih (s + 1) _ (by omega) (by omega) (by rw [fwt, ← h3]; first | rw [if_pos (by omega)] | rw [if_neg (by omega)])
        · refine r_iload_n dX3_fewestFor_51 rfl ?_
          refine r_invS dX3_fewestFor_52 (c_m_members (JG S G r) s (by omega)) q1989 q1990 pn_X3_members mh_X3_members rfl (by omega) (Nat.le_refl _) (Nat.le_refl _) (Nat.le_of_ble_eq_true rfl) (fun v52 h52 hq52 => ?_) (fun _ _ hq => hq.elim)
          obtain ⟨rfl, rfl⟩ := hq52
          refine r_goto (tgt := 59) dX3_fewestFor_55 rfl ?_
          refine r_istore_n (ls' := [(0, _), (1, _), (2, _), (3, _)]) dX3_fewestFor_59 rfl rfl ?_
          refine rn_iinc (n := 1) (ls' := [(0, _), (1, _), (2, _), (3, _)]) dX3_fewestFor_60 rfl rfl rfl ?_
          refine r_goto (tgt := 22) dX3_fewestFor_63 rfl ?_
          exact ih (s + 1) _ (by omega) (by omega) (by rw [fwt, ← h3]; first | rw [if_pos (by omega)] | rw [if_neg (by omega)])
theorem c_m_fewestFor {E : EV} (S : MS) (G : Nat → Nat) (r : MH) (x : Int32) (hG : gOK G) : SM E yX3_fewestFor 2 [.ref 410, .int x] (JG S G r) 0 0 (fun o h' => o = some (.int (sp_fewest G x).2) ∧ h' = JG (ss S 12 (nI (sp_fewest G x).1)) G r) (fun _ _ => False) := by
  obtain ⟨hg0, hg1, hg2, hg3, hgp, hgr, hgw⟩ := id hG
  refine SM.of (cc := cX3_fewestFor) (nL := 4) (ret := (some .int)) (hh := []) (ls := [(0, .ref 410), (1, .int x)]) pl_X3 (Or.inl ⟨rfl, q2009⟩) rfl q78 rfl rfl ?_
  refine r_iload_n dX3_fewestFor_0 rfl ?_
  refine r_iconst dX3_fewestFor_1 ki_1 ?_
  refine r_sipush dX3_fewestFor_2 ks_999 ?_
  refine r_invS dX3_fewestFor_5 (c_m_in (JG S G r) x (nI 1) (nI 999)) q1761 q1762 pn_X3_in mh_X3_in rfl (by omega) (Nat.le_refl _) (Nat.le_refl _) (Nat.le_of_ble_eq_true rfl) (fun v5 h5 hq5 => ?_) (fun _ _ hq => hq.elim)
  obtain ⟨rfl, rfl⟩ := hq5
  refine rb_if_ne (tgt := 17) dX3_fewestFor_8 rfl  (fun c8 => ?_) (fun c8 => ?_)
  · obtain ⟨w, hw1, hw2, rfl⟩ := rg_of (by decide) c8.1 c8.2 (by decide)
    refine r_bipush dX3_fewestFor_17 kb_9 ?_
    refine r_istore_n (ls' := [(0, _), (1, _), (2, _)]) dX3_fewestFor_19 rfl rfl ?_
    refine r_iconst dX3_fewestFor_20 ki_0 ?_
    refine r_istore_n (ls' := [(0, _), (1, _), (2, _), (3, _)]) dX3_fewestFor_21 rfl rfl ?_
    exact l_m_fewest (by decide) S G r w hG (by omega) (fun q e => by rw [sp_fewest, if_pos c8, nI_clamp (show w < 2 ^ 31 by omega), e]; exact ⟨rfl, rfl⟩) 257 0 9 (Nat.zero_le _) (by decide) rfl
  · refine r_aload_n dX3_fewestFor_11 rfl ?_
    refine r_iconst dX3_fewestFor_12 ki_1 ?_
    refine r_invV dX3_fewestFor_13 (c_m_fails S G r (nI 1)) q1764 q1766 qs31 (JG_410 _ _ _) k9 pn_X3_fails mh_X3_fails rfl (by omega) (Nat.le_refl _) (Nat.le_refl _) (Nat.le_of_ble_eq_true rfl) (fun v13 h13 hq13 => ?_) (fun _ _ hq => hq.elim)
    obtain ⟨rfl, rfl⟩ := hq13
    refine r_ireturn dX3_fewestFor_16 rfl rfl ?_
    rw [sp_fewest, if_neg c8]
    exact ⟨rfl, rfl⟩
theorem c_m_fewestForBySets {E : EV} (S : MS) (G : Nat → Nat) (r : MH) (x : Int32) (hG : gOK G) : SM E yX3_fewestForBySets 3 [.ref 410, .int x] (JG S G r) 0 0 (fun o h' => o = some (.int (sp_fewest G x).2) ∧ h' = JG (ss S 12 (nI (sp_fewest G x).1)) G r) (fun _ _ => False) := by
  refine SM.of (cc := cX3_fewestForBySets) (nL := 2) (ret := (some .int)) (hh := []) (ls := [(0, .ref 410), (1, .int x)]) pl_X3 (Or.inl ⟨rfl, q2017⟩) rfl q78 rfl rfl ?_
  refine r_aload_n dX3_fewestForBySets_0 rfl ?_
  refine r_iload_n dX3_fewestForBySets_1 rfl ?_
  refine r_invV dX3_fewestForBySets_2 (c_m_fewestFor S G r x hG) q2018 q2007 q2008 (JG_410 _ _ _) k9 pn_X3_fewestFor mh_X3_fewestFor rfl (by omega) (Nat.le_refl _) (Nat.le_refl _) (Nat.le_of_ble_eq_true rfl) (fun v2 h2 hq2 => ?_) (fun _ _ hq => hq.elim)
  obtain ⟨rfl, rfl⟩ := hq2
  refine r_ireturn dX3_fewestForBySets_5 rfl rfl ?_
  exact ⟨rfl, rfl⟩
theorem l_m_exact {E : EV} {QR : Option Value → MH → Prop} {QX : Nat → MH → Prop} {d kc ks : Nat} (hd0 : 2 ≤ d) (S : MS) (G : Nat → Nat) (r : MH) (w : Nat) (hG : gOK G) (hw : w < 1000) (kk : QR (some (.int (nI (cnt (fun s => decide (tog G s = w)) (2 ^ G 2))))) (JG (ss S 12 (nI 0)) G r)) : ∀ (n0 s c : Nat), s ≤ 2 ^ G 2 → 257 ≤ n0 + s → c = cnt (fun s => decide (tog G s = w)) s → SW E yX3_exactSets cX3_exactSets 4 (some .int) [] QR QX d kc ks (JG S G r) 21 [(0, .ref 410), (1, .int (nI w)), (2, .int (nI c)), (3, .int (nI s))] [] := by
  obtain ⟨hg0, hg1, hg2, hg3, hgp, hgr, hgw⟩ := id hG
  have hp2 : 2 ^ G 2 ≤ 256 := Nat.pow_le_pow_right (by decide) hg2
  intro n0
  induction n0 with
  | zero => intro s c h1 h2; omega
  | succ n0 ih =>
    intro s c h1 h2 h3
    have htg := tog_le G s (G 2)
    have htg2 : tog G s ≤ 8 * 168 := Nat.le_trans htg (Nat.mul_le_mul_right _ hg2)
    refine r_iload_n dX3_exactSets_21 rfl ?_
    refine r_iconst dX3_exactSets_22 ki_1 ?_
    refine r_aload_n dX3_exactSets_23 rfl ?_
    refine r_getfield dX3_exactSets_24 fl_X3_7_9 (JG_410 _ _ _) rfl ?_
    refine r_iconst dX3_exactSets_27 ki_2 ?_
    refine rn_iaload dX3_exactSets_28 (JG_411 _ _ _) (by omega) (by omega) ?_
    refine rn_ishl1 dX3_exactSets_29 (by omega) ?_
    refine rn_icmp_ge (tgt := 56) dX3_exactSets_30 rfl (by omega) (by omega) (fun hc => ?_) (fun hc => ?_)
    · refine r_aload_n dX3_exactSets_56 rfl ?_
      refine r_iload_n dX3_exactSets_57 rfl ?_
      refine r_invV dX3_exactSets_58 (c_m_done S G r (nI c)) q1768 q1770 qs32 (JG_410 _ _ _) k9 pn_X3_done mh_X3_done rfl (by omega) (Nat.le_refl _) (Nat.le_refl _) (Nat.le_of_ble_eq_true rfl) (fun v58 h58 hq58 => ?_) (fun _ _ hq => hq.elim)
      obtain ⟨rfl, rfl⟩ := hq58
      refine r_ireturn dX3_exactSets_61 rfl rfl ?_
      have e : s = 2 ^ G 2 := by omega
      rw [h3, e]
      exact kk
    · refine r_iload_n dX3_exactSets_33 rfl ?_
      refine r_aload_n dX3_exactSets_34 rfl ?_
      refine r_iload_n dX3_exactSets_35 rfl ?_
      refine r_invV dX3_exactSets_36 (c_m_together S G r s hG (by omega)) q2010 q2012 qs56 (JG_410 _ _ _) k9 pn_X3_together mh_X3_together rfl (by omega) (Nat.le_refl _) (Nat.le_refl _) (Nat.le_of_ble_eq_true rfl) (fun v36 h36 hq36 => ?_) (fun _ _ hq => hq.elim)
      obtain ⟨rfl, rfl⟩ := hq36
      refine r_iload_n dX3_exactSets_39 rfl ?_
      refine rn_icmp_ne (tgt := 47) dX3_exactSets_40 rfl (by omega) (by omega) (fun h40 => ?_) (fun h40 => ?_)
      · refine r_iconst dX3_exactSets_47 ki_0 ?_
        refine rn_iadd dX3_exactSets_48 ?_
        refine r_istore_n (ls' := [(0, _), (1, _), (2, _), (3, _)]) dX3_exactSets_49 rfl rfl ?_
        refine rn_iinc (n := 1) (ls' := [(0, _), (1, _), (2, _), (3, _)]) dX3_exactSets_50 rfl rfl rfl ?_
        refine r_goto (tgt := 21) dX3_exactSets_53 rfl ?_
        exact ih (s + 1) _ (by omega) (by omega) (by rw [h3]; first | exact (cnt_t (decide_eq_true h40)).symm | exact (cnt_f (decide_eq_false h40)).symm)
      · refine r_iconst dX3_exactSets_43 ki_1 ?_
        refine r_goto (tgt := 48) dX3_exactSets_44 rfl ?_
        refine rn_iadd dX3_exactSets_48 ?_
        refine r_istore_n (ls' := [(0, _), (1, _), (2, _), (3, _)]) dX3_exactSets_49 rfl rfl ?_
        refine rn_iinc (n := 1) (ls' := [(0, _), (1, _), (2, _), (3, _)]) dX3_exactSets_50 rfl rfl rfl ?_
        refine r_goto (tgt := 21) dX3_exactSets_53 rfl ?_
        exact ih (s + 1) _ (by omega) (by omega) (by rw [h3]; first | exact (cnt_t (decide_eq_true h40)).symm | exact (cnt_f (decide_eq_false h40)).symm)
theorem c_m_exactSets {E : EV} (S : MS) (G : Nat → Nat) (r : MH) (x : Int32) (hG : gOK G) : SM E yX3_exactSets 2 [.ref 410, .int x] (JG S G r) 0 0 (fun o h' => o = some (.int (sp_exact G x).2) ∧ h' = JG (ss S 12 (nI (sp_exact G x).1)) G r) (fun _ _ => False) := by
  obtain ⟨hg0, hg1, hg2, hg3, hgp, hgr, hgw⟩ := id hG
  refine SM.of (cc := cX3_exactSets) (nL := 4) (ret := (some .int)) (hh := []) (ls := [(0, .ref 410), (1, .int x)]) pl_X3 (Or.inl ⟨rfl, q2022⟩) rfl q78 rfl rfl ?_
  refine r_iload_n dX3_exactSets_0 rfl ?_
  refine r_iconst dX3_exactSets_1 ki_0 ?_
  refine r_sipush dX3_exactSets_2 ks_999 ?_
  refine r_invS dX3_exactSets_5 (c_m_in (JG S G r) x (nI 0) (nI 999)) q1761 q1762 pn_X3_in mh_X3_in rfl (by omega) (Nat.le_refl _) (Nat.le_refl _) (Nat.le_of_ble_eq_true rfl) (fun v5 h5 hq5 => ?_) (fun _ _ hq => hq.elim)
  obtain ⟨rfl, rfl⟩ := hq5
  refine rb_if_ne (tgt := 17) dX3_exactSets_8 rfl  (fun c8 => ?_) (fun c8 => ?_)
  · obtain ⟨w, hw1, hw2, rfl⟩ := rg_of (by decide) c8.1 c8.2 (by decide)
    refine r_iconst dX3_exactSets_17 ki_0 ?_
    refine r_istore_n (ls' := [(0, _), (1, _), (2, _)]) dX3_exactSets_18 rfl rfl ?_
    refine r_iconst dX3_exactSets_19 ki_0 ?_
    refine r_istore_n (ls' := [(0, _), (1, _), (2, _), (3, _)]) dX3_exactSets_20 rfl rfl ?_
    exact l_m_exact (by decide) S G r w hG (by omega) (by rw [sp_exact, if_pos c8, nI_clamp (show w < 2 ^ 31 by omega)]; exact ⟨rfl, rfl⟩) 257 0 0 (Nat.zero_le _) (by decide) rfl
  · refine r_aload_n dX3_exactSets_11 rfl ?_
    refine r_iconst dX3_exactSets_12 ki_1 ?_
    refine r_invV dX3_exactSets_13 (c_m_fails S G r (nI 1)) q1764 q1766 qs31 (JG_410 _ _ _) k9 pn_X3_fails mh_X3_fails rfl (by omega) (Nat.le_refl _) (Nat.le_refl _) (Nat.le_of_ble_eq_true rfl) (fun v13 h13 hq13 => ?_) (fun _ _ hq => hq.elim)
    obtain ⟨rfl, rfl⟩ := hq13
    refine r_ireturn dX3_exactSets_16 rfl rfl ?_
    rw [sp_exact, if_neg c8]
    exact ⟨rfl, rfl⟩
