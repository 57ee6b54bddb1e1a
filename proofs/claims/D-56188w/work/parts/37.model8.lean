set_option maxRecDepth 100000
theorem c_m_parsesC {E : EV} (S : MS) (G : Nat → Nat) (r : MH) (Q : Nat → Nat) (s : Nat × Nat) (k : Nat) (t : Nat) (h7 : S.1 7 = nI t) (ht : t ≤ 60) (hB : ∀ i, i < t → S.2 4 i < 128) (hs : s.1 ≤ t) (hw : s.2 ≤ 1) (hk : k + 1 < 180) : SM E yX3_parsesC 3 [.ref 410, .int (nI k)] (JG (PS S Q s) G r) 0 0 (fun o h' => o = none ∧ (((s.1 < t ∧ S.2 4 s.1 = 117) ∧ h' = JG (PS S (va_up (va_up Q k 117) (k + 1) (dgs (S.2 4) t 1 (nds (S.2 4) t [117, 116] s)).2) (dgs (S.2 4) t 1 (nds (S.2 4) t [117, 116] s)).1) G r) ∨ (¬ (s.1 < t ∧ S.2 4 s.1 = 117) ∧ h' = JG (PS S (va_up Q (k + 1) (dgs (S.2 4) t 1 (nds (S.2 4) t [97, 116, 99, 104] s)).2) (dgs (S.2 4) t 1 (nds (S.2 4) t [97, 116, 99, 104] s)).1) G r))) (fun _ _ => False) := by
  have h1 := nd_p (B := (S.2 4)) (c := 117) hs
  have h2 := nds_p (B := (S.2 4)) (l := [97, 116, 99]) hs
  have h3 := nds_p (B := (S.2 4)) (l := [117, 116]) hs
  have h4 := nds_p (B := (S.2 4)) (l := [97, 116, 99, 104]) hs
  refine SM.of (cc := cX3_parsesC) (nL := 2) (ret := none) (hh := []) (ls := [(0, .ref 410), (1, .int (nI k))]) pl_X3 (Or.inl ⟨rfl, q2079⟩) rfl q78 rfl rfl ?_
  refine r_aload_n dX3_parsesC_0 rfl ?_
  refine r_invV dX3_parsesC_1 (c_m_here S G r Q s t h7 ht hB hs) q2060 q2062 qs61 (JG_410 _ _ _) k9 pn_X3_here mh_X3_here rfl (by omega) (Nat.le_refl _) (Nat.le_refl _) (Nat.le_of_ble_eq_true rfl) (fun v1 h1 hq1 => ?_) (fun _ _ hq => hq.elim)
  obtain ⟨rfl, rfl⟩ := hq1
  refine r_bipush dX3_parsesC_4 kb_117 ?_
  refine r_icmp_ne (tgt := 32) dX3_parsesC_6 rfl  (fun c6 => ?_) (fun c6 => ?_)
  · rw [pkv_eq hB (by decide)] at c6
    refine r_aload_n dX3_parsesC_32 rfl ?_
    refine r_bipush dX3_parsesC_33 kb_97 ?_
    refine r_bipush dX3_parsesC_35 kb_116 ?_
    refine r_bipush dX3_parsesC_37 kb_99 ?_
    refine r_invV dX3_parsesC_39 (c_m_needsThree S G r Q s 97 116 99 t h7 ht hB hs hw (by decide) (by decide) (by decide)) q2064 q2066 qs62 (JG_410 _ _ _) k9 pn_X3_needsThree mh_X3_needsThree rfl (by omega) (Nat.le_refl _) (Nat.le_refl _) (Nat.le_of_ble_eq_true rfl) (fun v39 h39 hq39 => ?_) (fun _ _ hq => hq.elim)
    obtain ⟨rfl, rfl⟩ := hq39
    refine r_aload_n dX3_parsesC_42 rfl ?_
    refine r_bipush dX3_parsesC_43 kb_104 ?_
    refine r_invV dX3_parsesC_45 (c_m_needs S G r Q (nds (S.2 4) t [97, 116, 99] s) 104 t h7 ht hB h2.1 (nds_w hw) (by decide)) q2068 q2070 qs63 (JG_410 _ _ _) k9 pn_X3_needs mh_X3_needs rfl (by omega) (Nat.le_refl _) (Nat.le_refl _) (Nat.le_of_ble_eq_true rfl) (fun v45 h45 hq45 => ?_) (fun _ _ hq => hq.elim)
    obtain ⟨rfl, rfl⟩ := hq45
    refine r_aload_n dX3_parsesC_48 rfl ?_
    refine r_getfield dX3_parsesC_49 fl_X3_39_9 (JG_410 _ _ _) rfl ?_
    refine r_iload_n dX3_parsesC_52 rfl ?_
    refine r_iconst dX3_parsesC_53 ki_1 ?_
    refine rn_iadd dX3_parsesC_54 ?_
    refine r_aload_n dX3_parsesC_55 rfl ?_
    refine r_iconst dX3_parsesC_56 ki_1 ?_
    refine r_invV dX3_parsesC_57 (c_m_digits S G r _ (nds (S.2 4) t [97, 116, 99, 104] s) 1 t h7 ht hB h4.1 (nds_w hw) (by decide)) q2072 q2074 qs64 (JG_410 _ _ _) k9 pn_X3_digits mh_X3_digits rfl (by omega) (Nat.le_refl _) (Nat.le_refl _) (Nat.le_of_ble_eq_true rfl) (fun v57 h57 hq57 => ?_) (fun _ _ hq => hq.elim)
    obtain ⟨rfl, rfl⟩ := hq57
    refine rg_ias7 dX3_parsesC_60 (by omega) ?_
    rw [PS_A7, PS_q]
    refine r_return dX3_parsesC_61 rfl ?_
    first
    | (exact ⟨rfl, Or.inl ⟨c6, rfl⟩⟩)
    | (exact ⟨rfl, Or.inr ⟨c6, rfl⟩⟩)
  · rw [pkv_eq hB (by decide)] at c6
    refine r_aload_n dX3_parsesC_9 rfl ?_
    refine r_getfield dX3_parsesC_10 fl_X3_39_9 (JG_410 _ _ _) rfl ?_
    refine r_iload_n dX3_parsesC_13 rfl ?_
    refine r_bipush dX3_parsesC_14 kb_117 ?_
    refine rg_ias7 dX3_parsesC_16 (by omega) ?_
    rw [PS_A7, PS_q]
    refine r_aload_n dX3_parsesC_17 rfl ?_
    refine r_bipush dX3_parsesC_18 kb_117 ?_
    refine r_invV dX3_parsesC_20 (c_m_needs S G r _ s 117 t h7 ht hB hs hw (by decide)) q2068 q2070 qs63 (JG_410 _ _ _) k9 pn_X3_needs mh_X3_needs rfl (by omega) (Nat.le_refl _) (Nat.le_refl _) (Nat.le_of_ble_eq_true rfl) (fun v20 h20 hq20 => ?_) (fun _ _ hq => hq.elim)
    obtain ⟨rfl, rfl⟩ := hq20
    refine r_aload_n dX3_parsesC_23 rfl ?_
    refine r_bipush dX3_parsesC_24 kb_116 ?_
    refine r_invV dX3_parsesC_26 (c_m_needs S G r _ (nd (S.2 4) t 117 s) 116 t h7 ht hB h1.1 (nd_w _ _ _ _) (by decide)) q2068 q2070 qs63 (JG_410 _ _ _) k9 pn_X3_needs mh_X3_needs rfl (by omega) (Nat.le_refl _) (Nat.le_refl _) (Nat.le_of_ble_eq_true rfl) (fun v26 h26 hq26 => ?_) (fun _ _ hq => hq.elim)
    obtain ⟨rfl, rfl⟩ := hq26
    refine r_goto (tgt := 48) dX3_parsesC_29 rfl ?_
    refine r_aload_n dX3_parsesC_48 rfl ?_
    refine r_getfield dX3_parsesC_49 fl_X3_39_9 (JG_410 _ _ _) rfl ?_
    refine r_iload_n dX3_parsesC_52 rfl ?_
    refine r_iconst dX3_parsesC_53 ki_1 ?_
    refine rn_iadd dX3_parsesC_54 ?_
    refine r_aload_n dX3_parsesC_55 rfl ?_
    refine r_iconst dX3_parsesC_56 ki_1 ?_
    refine r_invV dX3_parsesC_57 (c_m_digits S G r _ (nds (S.2 4) t [117, 116] s) 1 t h7 ht hB h3.1 (nds_w hw) (by decide)) q2072 q2074 qs64 (JG_410 _ _ _) k9 pn_X3_digits mh_X3_digits rfl (by omega) (Nat.le_refl _) (Nat.le_refl _) (Nat.le_of_ble_eq_true rfl) (fun v57 h57 hq57 => ?_) (fun _ _ hq => hq.elim)
    obtain ⟨rfl, rfl⟩ := hq57
    refine rg_ias7 dX3_parsesC_60 (by omega) ?_
    rw [PS_A7, PS_q]
    refine r_return dX3_parsesC_61 rfl ?_
    first
    | (exact ⟨rfl, Or.inl ⟨c6, rfl⟩⟩)
    | (exact ⟨rfl, Or.inr ⟨c6, rfl⟩⟩)
theorem l_m_cmdh {E : EV} {QR : Option Value → MH → Prop} {QX : Nat → MH → Prop} {d kc ks : Nat} (hd0 : 4 ≤ d) (S : MS) (G : Nat → Nat) (r : MH) (Q : Nat → Nat) (p k : Nat) (t : Nat) (h7 : S.1 7 = nI t) (ht : t ≤ 60) (hB : ∀ i, i < t → S.2 4 i < 128) (hp : p < t) (hk : k + 2 < 180) (kk : QR none (JG (PS S (va_up (va_up Q k 104) (k + 1) (dgs (S.2 4) t 3 (nds (S.2 4) t [97, 110, 103] (p + 1, 0))).2) (dgs (S.2 4) t 3 (nds (S.2 4) t [97, 110, 103] (p + 1, 0))).1) G r)) : SW E yX3_parsesCommand cX3_parsesCommand 3 none [] QR QX d kc ks (JG (PS S (va_up Q k 104) (p + 1, 0)) G r) 108 [(0, .ref 410), (1, .int (nI k)), (2, .int (nI 104))] [] := by
  have h0 : (p + 1, 0).1 ≤ t := hp
  have hw0 : (p + 1, 0).2 ≤ 1 := Nat.zero_le _
  have n1 := nds_p (B := (S.2 4)) (l := [97]) h0
  have n2 := nds_p (B := (S.2 4)) (l := [97, 110]) h0
  have n3 := nds_p (B := (S.2 4)) (l := [97, 110, 103]) h0
  refine r_aload_n dX3_parsesCommand_108 rfl ?_
  refine r_bipush dX3_parsesCommand_109 kb_97 ?_
  refine r_bipush dX3_parsesCommand_111 kb_110 ?_
  refine r_bipush dX3_parsesCommand_113 kb_103 ?_
  refine r_invV dX3_parsesCommand_115 (c_m_needsThree S G r _ (p + 1, 0) 97 110 103 t h7 ht hB h0 hw0 (by decide) (by decide) (by decide)) q2064 q2066 qs62 (JG_410 _ _ _) k9 pn_X3_needsThree mh_X3_needsThree rfl (by omega) (Nat.le_refl _) (Nat.le_refl _) (Nat.le_of_ble_eq_true rfl) (fun v115 h115 hq115 => ?_) (fun _ _ hq => hq.elim)
  obtain ⟨rfl, rfl⟩ := hq115
  refine r_aload_n dX3_parsesCommand_118 rfl ?_
  refine r_getfield dX3_parsesCommand_119 fl_X3_39_9 (JG_410 _ _ _) rfl ?_
  refine r_iload_n dX3_parsesCommand_122 rfl ?_
  refine r_iconst dX3_parsesCommand_123 ki_1 ?_
  refine rn_iadd dX3_parsesCommand_124 ?_
  refine r_aload_n dX3_parsesCommand_125 rfl ?_
  refine r_iconst dX3_parsesCommand_126 ki_3 ?_
  refine r_invV dX3_parsesCommand_127 (c_m_digits S G r _ (nds (S.2 4) t [97, 110, 103] (p + 1, 0)) 3 t h7 ht hB n3.1 (nds_w hw0) (by decide)) q2072 q2074 qs64 (JG_410 _ _ _) k9 pn_X3_digits mh_X3_digits rfl (by omega) (Nat.le_refl _) (Nat.le_refl _) (Nat.le_of_ble_eq_true rfl) (fun v127 h127 hq127 => ?_) (fun _ _ hq => hq.elim)
  obtain ⟨rfl, rfl⟩ := hq127
  refine rg_ias7 dX3_parsesCommand_130 (by omega) ?_
  rw [PS_A7, PS_q]
  refine r_goto (tgt := 292) dX3_parsesCommand_131 rfl ?_
  refine r_return dX3_parsesCommand_292 rfl ?_
  exact kk
theorem l_m_cmdp {E : EV} {QR : Option Value → MH → Prop} {QX : Nat → MH → Prop} {d kc ks : Nat} (hd0 : 4 ≤ d) (S : MS) (G : Nat → Nat) (r : MH) (Q : Nat → Nat) (p k : Nat) (t : Nat) (h7 : S.1 7 = nI t) (ht : t ≤ 60) (hB : ∀ i, i < t → S.2 4 i < 128) (hp : p < t) (hk : k + 2 < 180) (kk : QR none (JG (PS S (va_up (va_up (va_up Q k 112) (k + 1) (dgs (S.2 4) t 1 (nds (S.2 4) t [117, 115, 104] (p + 1, 0))).2) (k + 2) (dgs (S.2 4) t 3 (dgs (S.2 4) t 1 (nds (S.2 4) t [117, 115, 104] (p + 1, 0))).1).2) (dgs (S.2 4) t 3 (dgs (S.2 4) t 1 (nds (S.2 4) t [117, 115, 104] (p + 1, 0))).1).1) G r)) : SW E yX3_parsesCommand cX3_parsesCommand 3 none [] QR QX d kc ks (JG (PS S (va_up Q k 112) (p + 1, 0)) G r) 134 [(0, .ref 410), (1, .int (nI k)), (2, .int (nI 112))] [] := by
  have h0 : (p + 1, 0).1 ≤ t := hp
  have hw0 : (p + 1, 0).2 ≤ 1 := Nat.zero_le _
  have n1 := nds_p (B := (S.2 4)) (l := [117]) h0
  have n2 := nds_p (B := (S.2 4)) (l := [117, 115]) h0
  have n3 := nds_p (B := (S.2 4)) (l := [117, 115, 104]) h0
  refine r_aload_n dX3_parsesCommand_134 rfl ?_
  refine r_bipush dX3_parsesCommand_135 kb_117 ?_
  refine r_bipush dX3_parsesCommand_137 kb_115 ?_
  refine r_bipush dX3_parsesCommand_139 kb_104 ?_
  refine r_invV dX3_parsesCommand_141 (c_m_needsThree S G r _ (p + 1, 0) 117 115 104 t h7 ht hB h0 hw0 (by decide) (by decide) (by decide)) q2064 q2066 qs62 (JG_410 _ _ _) k9 pn_X3_needsThree mh_X3_needsThree rfl (by omega) (Nat.le_refl _) (Nat.le_refl _) (Nat.le_of_ble_eq_true rfl) (fun v141 h141 hq141 => ?_) (fun _ _ hq => hq.elim)
  obtain ⟨rfl, rfl⟩ := hq141
  refine r_aload_n dX3_parsesCommand_144 rfl ?_
  refine r_getfield dX3_parsesCommand_145 fl_X3_39_9 (JG_410 _ _ _) rfl ?_
  refine r_iload_n dX3_parsesCommand_148 rfl ?_
  refine r_iconst dX3_parsesCommand_149 ki_1 ?_
  refine rn_iadd dX3_parsesCommand_150 ?_
  refine r_aload_n dX3_parsesCommand_151 rfl ?_
  refine r_iconst dX3_parsesCommand_152 ki_1 ?_
  refine r_invV dX3_parsesCommand_153 (c_m_digits S G r _ (nds (S.2 4) t [117, 115, 104] (p + 1, 0)) 1 t h7 ht hB n3.1 (nds_w hw0) (by decide)) q2072 q2074 qs64 (JG_410 _ _ _) k9 pn_X3_digits mh_X3_digits rfl (by omega) (Nat.le_refl _) (Nat.le_refl _) (Nat.le_of_ble_eq_true rfl) (fun v153 h153 hq153 => ?_) (fun _ _ hq => hq.elim)
  obtain ⟨rfl, rfl⟩ := hq153
  refine rg_ias7 dX3_parsesCommand_156 (by omega) ?_
  rw [PS_A7, PS_q]
  refine r_aload_n dX3_parsesCommand_157 rfl ?_
  refine r_getfield dX3_parsesCommand_158 fl_X3_39_9 (JG_410 _ _ _) rfl ?_
  refine r_iload_n dX3_parsesCommand_161 rfl ?_
  refine r_iconst dX3_parsesCommand_162 ki_2 ?_
  refine rn_iadd dX3_parsesCommand_163 ?_
  refine r_aload_n dX3_parsesCommand_164 rfl ?_
  refine r_iconst dX3_parsesCommand_165 ki_3 ?_
  refine r_invV dX3_parsesCommand_166 (c_m_digits S G r _ (dgs (S.2 4) t 1 (nds (S.2 4) t [117, 115, 104] (p + 1, 0))).1 3 t h7 ht hB (dgs_p n3.1).1 dgs_w (by decide)) q2072 q2074 qs64 (JG_410 _ _ _) k9 pn_X3_digits mh_X3_digits rfl (by omega) (Nat.le_refl _) (Nat.le_refl _) (Nat.le_of_ble_eq_true rfl) (fun v166 h166 hq166 => ?_) (fun _ _ hq => hq.elim)
  obtain ⟨rfl, rfl⟩ := hq166
  refine rg_ias7 dX3_parsesCommand_169 (by omega) ?_
  rw [PS_A7, PS_q]
  refine r_goto (tgt := 292) dX3_parsesCommand_170 rfl ?_
  refine r_return dX3_parsesCommand_292 rfl ?_
  exact kk
theorem l_m_cmdf {E : EV} {QR : Option Value → MH → Prop} {QX : Nat → MH → Prop} {d kc ks : Nat} (hd0 : 4 ≤ d) (S : MS) (G : Nat → Nat) (r : MH) (Q : Nat → Nat) (p k : Nat) (t : Nat) (h7 : S.1 7 = nI t) (ht : t ≤ 60) (hB : ∀ i, i < t → S.2 4 i < 128) (hp : p < t) (hk : k + 2 < 180) (kk : QR none (JG (PS S (va_up (va_up Q k 102) (k + 1) (dgs (S.2 4) t 3 (nds (S.2 4) t [114, 105, 99, 116, 105, 111, 110] (p + 1, 0))).2) (dgs (S.2 4) t 3 (nds (S.2 4) t [114, 105, 99, 116, 105, 111, 110] (p + 1, 0))).1) G r)) : SW E yX3_parsesCommand cX3_parsesCommand 3 none [] QR QX d kc ks (JG (PS S (va_up Q k 102) (p + 1, 0)) G r) 181 [(0, .ref 410), (1, .int (nI k)), (2, .int (nI 102))] [] := by
  have h0 : (p + 1, 0).1 ≤ t := hp
  have hw0 : (p + 1, 0).2 ≤ 1 := Nat.zero_le _
  have n1 := nds_p (B := (S.2 4)) (l := [114]) h0
  have n2 := nds_p (B := (S.2 4)) (l := [114, 105]) h0
  have n3 := nds_p (B := (S.2 4)) (l := [114, 105, 99]) h0
  have n4 := nds_p (B := (S.2 4)) (l := [114, 105, 99, 116]) h0
  have n5 := nds_p (B := (S.2 4)) (l := [114, 105, 99, 116, 105]) h0
  have n6 := nds_p (B := (S.2 4)) (l := [114, 105, 99, 116, 105, 111]) h0
  have n7 := nds_p (B := (S.2 4)) (l := [114, 105, 99, 116, 105, 111, 110]) h0
  refine r_aload_n dX3_parsesCommand_181 rfl ?_
  refine r_bipush dX3_parsesCommand_182 kb_114 ?_
  refine r_bipush dX3_parsesCommand_184 kb_105 ?_
  refine r_bipush dX3_parsesCommand_186 kb_99 ?_
  refine r_invV dX3_parsesCommand_188 (c_m_needsThree S G r _ (p + 1, 0) 114 105 99 t h7 ht hB h0 hw0 (by decide) (by decide) (by decide)) q2064 q2066 qs62 (JG_410 _ _ _) k9 pn_X3_needsThree mh_X3_needsThree rfl (by omega) (Nat.le_refl _) (Nat.le_refl _) (Nat.le_of_ble_eq_true rfl) (fun v188 h188 hq188 => ?_) (fun _ _ hq => hq.elim)
  obtain ⟨rfl, rfl⟩ := hq188
  refine r_aload_n dX3_parsesCommand_191 rfl ?_
  refine r_bipush dX3_parsesCommand_192 kb_116 ?_
  refine r_bipush dX3_parsesCommand_194 kb_105 ?_
  refine r_bipush dX3_parsesCommand_196 kb_111 ?_
  refine r_invV dX3_parsesCommand_198 (c_m_needsThree S G r _ (nds (S.2 4) t [114, 105, 99] (p + 1, 0)) 116 105 111 t h7 ht hB n3.1 (nds_w hw0) (by decide) (by decide) (by decide)) q2064 q2066 qs62 (JG_410 _ _ _) k9 pn_X3_needsThree mh_X3_needsThree rfl (by omega) (Nat.le_refl _) (Nat.le_refl _) (Nat.le_of_ble_eq_true rfl) (fun v198 h198 hq198 => ?_) (fun _ _ hq => hq.elim)
  obtain ⟨rfl, rfl⟩ := hq198
  refine r_aload_n dX3_parsesCommand_201 rfl ?_
  refine r_bipush dX3_parsesCommand_202 kb_110 ?_
  refine r_invV dX3_parsesCommand_204 (c_m_needs S G r _ (nds (S.2 4) t [114, 105, 99, 116, 105, 111] (p + 1, 0)) 110 t h7 ht hB n6.1 (nds_w hw0) (by decide)) q2068 q2070 qs63 (JG_410 _ _ _) k9 pn_X3_needs mh_X3_needs rfl (by omega) (Nat.le_refl _) (Nat.le_refl _) (Nat.le_of_ble_eq_true rfl) (fun v204 h204 hq204 => ?_) (fun _ _ hq => hq.elim)
  obtain ⟨rfl, rfl⟩ := hq204
  refine r_aload_n dX3_parsesCommand_207 rfl ?_
  refine r_getfield dX3_parsesCommand_208 fl_X3_39_9 (JG_410 _ _ _) rfl ?_
  refine r_iload_n dX3_parsesCommand_211 rfl ?_
  refine r_iconst dX3_parsesCommand_212 ki_1 ?_
  refine rn_iadd dX3_parsesCommand_213 ?_
  refine r_aload_n dX3_parsesCommand_214 rfl ?_
  refine r_iconst dX3_parsesCommand_215 ki_3 ?_
  refine r_invV dX3_parsesCommand_216 (c_m_digits S G r _ (nds (S.2 4) t [114, 105, 99, 116, 105, 111, 110] (p + 1, 0)) 3 t h7 ht hB n7.1 (nds_w hw0) (by decide)) q2072 q2074 qs64 (JG_410 _ _ _) k9 pn_X3_digits mh_X3_digits rfl (by omega) (Nat.le_refl _) (Nat.le_refl _) (Nat.le_of_ble_eq_true rfl) (fun v216 h216 hq216 => ?_) (fun _ _ hq => hq.elim)
  obtain ⟨rfl, rfl⟩ := hq216
  refine rg_ias7 dX3_parsesCommand_219 (by omega) ?_
  rw [PS_A7, PS_q]
  refine r_goto (tgt := 292) dX3_parsesCommand_220 rfl ?_
  refine r_return dX3_parsesCommand_292 rfl ?_
  exact kk
theorem l_m_cmdl {E : EV} {QR : Option Value → MH → Prop} {QX : Nat → MH → Prop} {d kc ks : Nat} (hd0 : 4 ≤ d) (S : MS) (G : Nat → Nat) (r : MH) (Q : Nat → Nat) (p k : Nat) (t : Nat) (h7 : S.1 7 = nI t) (ht : t ≤ 60) (hB : ∀ i, i < t → S.2 4 i < 128) (hp : p < t) (hk : k + 2 < 180) (kk : QR none (JG (PS S (va_up (va_up Q k 108) (k + 1) (dgs (S.2 4) t 3 (nds (S.2 4) t [101, 103] (p + 1, 0))).2) (dgs (S.2 4) t 3 (nds (S.2 4) t [101, 103] (p + 1, 0))).1) G r)) : SW E yX3_parsesCommand cX3_parsesCommand 3 none [] QR QX d kc ks (JG (PS S (va_up Q k 108) (p + 1, 0)) G r) 223 [(0, .ref 410), (1, .int (nI k)), (2, .int (nI 108))] [] := by
  have h0 : (p + 1, 0).1 ≤ t := hp
  have hw0 : (p + 1, 0).2 ≤ 1 := Nat.zero_le _
  have n1 := nds_p (B := (S.2 4)) (l := [101]) h0
  have n2 := nds_p (B := (S.2 4)) (l := [101, 103]) h0
  refine r_aload_n dX3_parsesCommand_223 rfl ?_
  refine r_bipush dX3_parsesCommand_224 kb_101 ?_
  refine r_invV dX3_parsesCommand_226 (c_m_needs S G r _ (p + 1, 0) 101 t h7 ht hB h0 hw0 (by decide)) q2068 q2070 qs63 (JG_410 _ _ _) k9 pn_X3_needs mh_X3_needs rfl (by omega) (Nat.le_refl _) (Nat.le_refl _) (Nat.le_of_ble_eq_true rfl) (fun v226 h226 hq226 => ?_) (fun _ _ hq => hq.elim)
  obtain ⟨rfl, rfl⟩ := hq226
  refine r_aload_n dX3_parsesCommand_229 rfl ?_
  refine r_bipush dX3_parsesCommand_230 kb_103 ?_
  refine r_invV dX3_parsesCommand_232 (c_m_needs S G r _ (nds (S.2 4) t [101] (p + 1, 0)) 103 t h7 ht hB n1.1 (nds_w hw0) (by decide)) q2068 q2070 qs63 (JG_410 _ _ _) k9 pn_X3_needs mh_X3_needs rfl (by omega) (Nat.le_refl _) (Nat.le_refl _) (Nat.le_of_ble_eq_true rfl) (fun v232 h232 hq232 => ?_) (fun _ _ hq => hq.elim)
  obtain ⟨rfl, rfl⟩ := hq232
  refine r_aload_n dX3_parsesCommand_235 rfl ?_
  refine r_getfield dX3_parsesCommand_236 fl_X3_39_9 (JG_410 _ _ _) rfl ?_
  refine r_iload_n dX3_parsesCommand_239 rfl ?_
  refine r_iconst dX3_parsesCommand_240 ki_1 ?_
  refine rn_iadd dX3_parsesCommand_241 ?_
  refine r_aload_n dX3_parsesCommand_242 rfl ?_
  refine r_iconst dX3_parsesCommand_243 ki_3 ?_
  refine r_invV dX3_parsesCommand_244 (c_m_digits S G r _ (nds (S.2 4) t [101, 103] (p + 1, 0)) 3 t h7 ht hB n2.1 (nds_w hw0) (by decide)) q2072 q2074 qs64 (JG_410 _ _ _) k9 pn_X3_digits mh_X3_digits rfl (by omega) (Nat.le_refl _) (Nat.le_refl _) (Nat.le_of_ble_eq_true rfl) (fun v244 h244 hq244 => ?_) (fun _ _ hq => hq.elim)
  obtain ⟨rfl, rfl⟩ := hq244
  refine rg_ias7 dX3_parsesCommand_247 (by omega) ?_
  rw [PS_A7, PS_q]
  refine r_goto (tgt := 292) dX3_parsesCommand_248 rfl ?_
  refine r_return dX3_parsesCommand_292 rfl ?_
  exact kk
theorem l_m_cmdt {E : EV} {QR : Option Value → MH → Prop} {QX : Nat → MH → Prop} {d kc ks : Nat} (hd0 : 4 ≤ d) (S : MS) (G : Nat → Nat) (r : MH) (Q : Nat → Nat) (p k : Nat) (t : Nat) (h7 : S.1 7 = nI t) (ht : t ≤ 60) (hB : ∀ i, i < t → S.2 4 i < 128) (hp : p < t) (hk : k + 2 < 180) (kk : QR none (JG (PS S (va_up (va_up Q k 116) (k + 1) (dgs (S.2 4) t 3 (nds (S.2 4) t [105, 99, 107] (p + 1, 0))).2) (dgs (S.2 4) t 3 (nds (S.2 4) t [105, 99, 107] (p + 1, 0))).1) G r)) : SW E yX3_parsesCommand cX3_parsesCommand 3 none [] QR QX d kc ks (JG (PS S (va_up Q k 116) (p + 1, 0)) G r) 251 [(0, .ref 410), (1, .int (nI k)), (2, .int (nI 116))] [] := by
  have h0 : (p + 1, 0).1 ≤ t := hp
  have hw0 : (p + 1, 0).2 ≤ 1 := Nat.zero_le _
  have n1 := nds_p (B := (S.2 4)) (l := [105]) h0
  have n2 := nds_p (B := (S.2 4)) (l := [105, 99]) h0
  have n3 := nds_p (B := (S.2 4)) (l := [105, 99, 107]) h0
  refine r_aload_n dX3_parsesCommand_251 rfl ?_
  refine r_bipush dX3_parsesCommand_252 kb_105 ?_
  refine r_bipush dX3_parsesCommand_254 kb_99 ?_
  refine r_bipush dX3_parsesCommand_256 kb_107 ?_
  refine r_invV dX3_parsesCommand_258 (c_m_needsThree S G r _ (p + 1, 0) 105 99 107 t h7 ht hB h0 hw0 (by decide) (by decide) (by decide)) q2064 q2066 qs62 (JG_410 _ _ _) k9 pn_X3_needsThree mh_X3_needsThree rfl (by omega) (Nat.le_refl _) (Nat.le_refl _) (Nat.le_of_ble_eq_true rfl) (fun v258 h258 hq258 => ?_) (fun _ _ hq => hq.elim)
  obtain ⟨rfl, rfl⟩ := hq258
  refine r_aload_n dX3_parsesCommand_261 rfl ?_
  refine r_getfield dX3_parsesCommand_262 fl_X3_39_9 (JG_410 _ _ _) rfl ?_
  refine r_iload_n dX3_parsesCommand_265 rfl ?_
  refine r_iconst dX3_parsesCommand_266 ki_1 ?_
  refine rn_iadd dX3_parsesCommand_267 ?_
  refine r_aload_n dX3_parsesCommand_268 rfl ?_
  refine r_iconst dX3_parsesCommand_269 ki_3 ?_
  refine r_invV dX3_parsesCommand_270 (c_m_digits S G r _ (nds (S.2 4) t [105, 99, 107] (p + 1, 0)) 3 t h7 ht hB n3.1 (nds_w hw0) (by decide)) q2072 q2074 qs64 (JG_410 _ _ _) k9 pn_X3_digits mh_X3_digits rfl (by omega) (Nat.le_refl _) (Nat.le_refl _) (Nat.le_of_ble_eq_true rfl) (fun v270 h270 hq270 => ?_) (fun _ _ hq => hq.elim)
  obtain ⟨rfl, rfl⟩ := hq270
  refine rg_ias7 dX3_parsesCommand_273 (by omega) ?_
  rw [PS_A7, PS_q]
  refine r_goto (tgt := 292) dX3_parsesCommand_274 rfl ?_
  refine r_return dX3_parsesCommand_292 rfl ?_
  exact kk
theorem l_m_cmdd {E : EV} {QR : Option Value → MH → Prop} {QX : Nat → MH → Prop} {d kc ks : Nat} (S : MS) (G : Nat → Nat) (r : MH) (Q : Nat → Nat) (p k c : Nat) (kk : QR none (JG (PS S (va_up Q k c) (p, 1)) G r)) : SW E yX3_parsesCommand cX3_parsesCommand 3 none [] QR QX d kc ks (JG (PS S (va_up Q k c) (p + 1, 0)) G r) 277 [(0, .ref 410), (1, .int (nI k)), (2, .int (nI c))] [] := by
  refine r_aload_n dX3_parsesCommand_277 rfl ?_
  refine r_iconst dX3_parsesCommand_278 ki_1 ?_
  refine rg_put15 dX3_parsesCommand_279 fp_X3_191_9 nz1 (by decide) ?_
  rw [PS_15]
  refine r_aload_n dX3_parsesCommand_282 rfl ?_
  refine r_dup dX3_parsesCommand_283 rfl ?_
  refine r_getfield dX3_parsesCommand_284 fl_X3_188_9 (JG_410 _ _ _) rfl ?_
  refine r_ti (v := nI (p + 1)) (PS_a14 S _ _) ?_
  refine r_iconst dX3_parsesCommand_287 ki_1 ?_
  refine rn_isub dX3_parsesCommand_288 (by omega) ?_
  refine rg_put14 dX3_parsesCommand_289 fp_X3_188_9 rfl rfl ?_
  rw [PS_14]
  refine r_return dX3_parsesCommand_292 rfl ?_
  exact kk
theorem c_m_parsesCommand {E : EV} (S : MS) (G : Nat → Nat) (r : MH) (Q : Nat → Nat) (p k : Nat) (t : Nat) (h7 : S.1 7 = nI t) (ht : t ≤ 60) (hB : ∀ i, i < t → S.2 4 i < 128) (hp : p ≤ t) (hk : k + 2 < 180) : SM E yX3_parsesCommand 4 [.ref 410, .int (nI k)] (JG (PS S Q (p, 0)) G r) 0 0 (fun o h' => o = none ∧ ∃ Q', cmq (S.2 4) t p k Q Q' ∧ h' = JG (PS S Q' (mcm (S.2 4) t p).1) G r) (fun _ _ => False) := by
  refine SM.of (cc := cX3_parsesCommand) (nL := 3) (ret := none) (hh := []) (ls := [(0, .ref 410), (1, .int (nI k))]) pl_X3 (Or.inl ⟨rfl, q2059⟩) rfl q78 rfl rfl ?_
  refine r_aload_n dX3_parsesCommand_0 rfl ?_
  refine r_invV dX3_parsesCommand_1 (c_m_here S G r Q (p, 0) t h7 ht hB hp) q2060 q2062 qs61 (JG_410 _ _ _) k9 pn_X3_here mh_X3_here rfl (by omega) (Nat.le_refl _) (Nat.le_refl _) (Nat.le_of_ble_eq_true rfl) (fun v1 h1 hq1 => ?_) (fun _ _ hq => hq.elim)
  obtain ⟨rfl, rfl⟩ := hq1
  refine r_istore_n (ls' := [(0, _), (1, _), (2, _)]) dX3_parsesCommand_4 rfl rfl ?_
  refine r_aload_n dX3_parsesCommand_5 rfl ?_
  refine r_dup dX3_parsesCommand_6 rfl ?_
  refine r_getfield dX3_parsesCommand_7 fl_X3_188_9 (JG_410 _ _ _) rfl ?_
  refine r_ti (v := nI p) (PS_a14 S _ _) ?_
  refine r_iconst dX3_parsesCommand_10 ki_1 ?_
  refine rn_iadd dX3_parsesCommand_11 ?_
  refine rg_put14 dX3_parsesCommand_12 fp_X3_188_9 rfl rfl ?_
  rw [PS_14]
  by_cases hpt : p < t
  rotate_left
  · refine r_ls (ls' := [(0, .ref 410), (1, .int (nI k)), (2, .int (nI 4294967295))]) (by rw [pkv_out hpt]; rfl) ?_
    refine r_aload_n dX3_parsesCommand_15 rfl ?_
    refine r_getfield dX3_parsesCommand_16 fl_X3_39_9 (JG_410 _ _ _) rfl ?_
    refine r_iload_n dX3_parsesCommand_19 rfl ?_
    refine r_iload_n dX3_parsesCommand_20 rfl ?_
    refine rg_ias7 dX3_parsesCommand_21 (by omega) ?_
    rw [PS_A7, PS_q]
    refine r_iload_n dX3_parsesCommand_22 rfl ?_
    refine r_tableOut (tgt := 277) dX3_parsesCommand_23 (by decide) rfl ?_
    exact l_m_cmdd S G r Q p k 4294967295 ⟨rfl, va_up Q k 4294967295, ⟨fun j hj => up_ne _ _ (by omega), fun z => by rw [mcm, if_neg (by omega), if_neg (by omega), if_neg (by omega), if_neg (by omega), if_neg (by omega), if_neg (by omega)] at z; cases z⟩, by rw [mcm, if_neg (by omega), if_neg (by omega), if_neg (by omega), if_neg (by omega), if_neg (by omega), if_neg (by omega)]⟩
  have hb := hB p hpt
  refine r_ls (ls' := [(0, .ref 410), (1, .int (nI k)), (2, .int (nI (S.2 4 p)))]) (by rw [pkv_in hpt]) ?_
  refine r_aload_n dX3_parsesCommand_15 rfl ?_
  refine r_getfield dX3_parsesCommand_16 fl_X3_39_9 (JG_410 _ _ _) rfl ?_
  refine r_iload_n dX3_parsesCommand_19 rfl ?_
  refine r_iload_n dX3_parsesCommand_20 rfl ?_
  refine rg_ias7 dX3_parsesCommand_21 (by omega) ?_
  rw [PS_A7, PS_q]
  refine r_iload_n dX3_parsesCommand_22 rfl ?_
  by_cases e : S.2 4 p = 104
  · rw [e]
    refine r_tableIn (off := 85) (tgt := 108) dX3_parsesCommand_23 (by decide) (by decide) (by decide) rfl ?_
    exact l_m_cmdh (by omega) S G r Q p k t h7 ht hB hpt hk ⟨rfl, _, cmq_1 (show mcm (S.2 4) t p = _ by rw [mcm, if_pos ⟨hpt, e⟩]) (by decide), by rw [mcm, if_pos ⟨hpt, e⟩]⟩
  by_cases e : S.2 4 p = 112
  · rw [e]
    refine r_tableIn (off := 111) (tgt := 134) dX3_parsesCommand_23 (by decide) (by decide) (by decide) rfl ?_
    exact l_m_cmdp (by omega) S G r Q p k t h7 ht hB hpt hk ⟨rfl, _, cmq_3 (show mcm (S.2 4) t p = _ by rw [mcm, if_neg (by omega), if_pos ⟨hpt, e⟩]), by rw [mcm, if_neg (by omega), if_pos ⟨hpt, e⟩]⟩
  by_cases e : S.2 4 p = 99
  · rw [e]
    refine r_tableIn (off := 150) (tgt := 173) dX3_parsesCommand_23 (by decide) (by decide) (by decide) rfl ?_
    refine r_aload_n dX3_parsesCommand_173 rfl ?_
    refine r_iload_n dX3_parsesCommand_174 rfl ?_
    refine r_invV dX3_parsesCommand_175 (c_m_parsesC S G r _ (p + 1, 0) k t h7 ht hB hpt (Nat.zero_le _) (by omega)) q2076 q2078 qs65 (JG_410 _ _ _) k9 pn_X3_parsesC mh_X3_parsesC rfl (by omega) (Nat.le_refl _) (Nat.le_refl _) (Nat.le_of_ble_eq_true rfl) (fun v175 h175 hq175 => ?_) (fun _ _ hq => hq.elim)
    obtain ⟨rfl, ⟨e2, rfl⟩ | ⟨e2, rfl⟩⟩ := hq175
    · refine r_goto (tgt := 292) dX3_parsesCommand_178 rfl ?_
      refine r_return dX3_parsesCommand_292 rfl ?_
      have em : mcm (S.2 4) t p = ((dgs (S.2 4) t 1 (nds (S.2 4) t [117, 116] (p + 1, 0))).1, 117, (dgs (S.2 4) t 1 (nds (S.2 4) t [117, 116] (p + 1, 0))).2, 0) := by rw [mcm, if_neg (by omega), if_neg (by omega), if_pos ⟨hpt, e⟩, if_pos e2]
      exact ⟨rfl, _, cmq_2 em (by decide), by rw [em]⟩
    refine r_goto (tgt := 292) dX3_parsesCommand_178 rfl ?_
    refine r_return dX3_parsesCommand_292 rfl ?_
    have em : mcm (S.2 4) t p = ((dgs (S.2 4) t 1 (nds (S.2 4) t [97, 116, 99, 104] (p + 1, 0))).1, 99, (dgs (S.2 4) t 1 (nds (S.2 4) t [97, 116, 99, 104] (p + 1, 0))).2, 0) := by rw [mcm, if_neg (by omega), if_neg (by omega), if_pos ⟨hpt, e⟩, if_neg e2]
    exact ⟨rfl, _, cmq_1 em (by decide), by rw [em]⟩
  by_cases e : S.2 4 p = 102
  · rw [e]
    refine r_tableIn (off := 158) (tgt := 181) dX3_parsesCommand_23 (by decide) (by decide) (by decide) rfl ?_
    exact l_m_cmdf (by omega) S G r Q p k t h7 ht hB hpt hk ⟨rfl, _, cmq_1 (show mcm (S.2 4) t p = _ by rw [mcm, if_neg (by omega), if_neg (by omega), if_neg (by omega), if_pos ⟨hpt, e⟩]) (by decide), by rw [mcm, if_neg (by omega), if_neg (by omega), if_neg (by omega), if_pos ⟨hpt, e⟩]⟩
  by_cases e : S.2 4 p = 108
  · rw [e]
    refine r_tableIn (off := 200) (tgt := 223) dX3_parsesCommand_23 (by decide) (by decide) (by decide) rfl ?_
    exact l_m_cmdl (by omega) S G r Q p k t h7 ht hB hpt hk ⟨rfl, _, cmq_1 (show mcm (S.2 4) t p = _ by rw [mcm, if_neg (by omega), if_neg (by omega), if_neg (by omega), if_neg (by omega), if_pos ⟨hpt, e⟩]) (by decide), by rw [mcm, if_neg (by omega), if_neg (by omega), if_neg (by omega), if_neg (by omega), if_pos ⟨hpt, e⟩]⟩
  by_cases e : S.2 4 p = 116
  · rw [e]
    refine r_tableIn (off := 228) (tgt := 251) dX3_parsesCommand_23 (by decide) (by decide) (by decide) rfl ?_
    exact l_m_cmdt (by omega) S G r Q p k t h7 ht hB hpt hk ⟨rfl, _, cmq_1 (show mcm (S.2 4) t p = _ by rw [mcm, if_neg (by omega), if_neg (by omega), if_neg (by omega), if_neg (by omega), if_neg (by omega), if_pos ⟨hpt, e⟩]) (by decide), by rw [mcm, if_neg (by omega), if_neg (by omega), if_neg (by omega), if_neg (by omega), if_neg (by omega), if_pos ⟨hpt, e⟩]⟩
  have ed : mcm (S.2 4) t p = ((p, 1), 0, 0, 0) := by rw [mcm, if_neg (by omega), if_neg (by omega), if_neg (by omega), if_neg (by omega), if_neg (by omega), if_neg (by omega)]
  have fin : SW E yX3_parsesCommand cX3_parsesCommand 3 none [] (fun o h' => o = none ∧ ∃ Q', cmq (S.2 4) t p k Q Q' ∧ h' = JG (PS S Q' (mcm (S.2 4) t p).1) G r) (fun _ _ => False) 4 0 0 (JG (PS S (va_up Q k (S.2 4 p)) (p + 1, 0)) G r) 277 [(0, .ref 410), (1, .int (nI k)), (2, .int (nI (S.2 4 p)))] [] :=
    l_m_cmdd S G r Q p k (S.2 4 p) ⟨rfl, va_up Q k (S.2 4 p), ⟨fun j hj => up_ne _ _ (by omega), fun z => by rw [ed] at z; cases z⟩, by rw [ed]⟩
  by_cases hin : 99 ≤ S.2 4 p ∧ S.2 4 p ≤ 116
  · exact r_tableIn (off := 254) (tgt := 277) dX3_parsesCommand_23 (nI_nlt9 (by omega) hin.1) (nI_ngt (by omega) hin.2) (by rw [nI_off (by omega) hin.1]; exact tab_cmd _ (by omega) (by omega)) rfl fin
  · exact r_tableOut (tgt := 277) dX3_parsesCommand_23 (by rw [nI_toInt (by omega)]; omega) rfl fin
