set_option maxRecDepth 100000
theorem l_m_co104 {E : EV} {QR : Option Value → MH → Prop} {QX : Nat → MH → Prop} {d kc ks : Nat} (hd0 : 4 ≤ d) (S : MS) (G : Nat → Nat) (r : MH) (k a b c b0 : Nat) (hG : gOK G) (hB : gB G b0) (hb0 : b0 < 8000000) (hk : k + 2 < 180) (h3 : S.2 7 (k + 2) = b ∨ 104 ≠ 110) (kk : ∀ sp, sp_adds G (nI a) = sp → QR (some (.int sp.2.1)) (JG (ss S 12 (nI sp.1)) sp.2.2 r)) : SW E yX3_carriesOut cX3_carriesOut 3 (some .int) [] QR QX d kc ks (JG S G r) 104 [(0, .ref 410), (1, .int (nI k)), (2, .int (nI a))] [] := by
  refine r_aload_n dX3_carriesOut_104 rfl ?_
  refine r_iload_n dX3_carriesOut_105 rfl ?_
  refine r_invV dX3_carriesOut_106 (c_m_adds S G r (nI a) hG) q1757 q1759 qs30 (JG_410 _ _ _) k9 pn_X3_adds mh_X3_adds rfl (by omega) (Nat.le_refl _) (Nat.le_refl _) (Nat.le_of_ble_eq_true rfl) (fun v106 h106 hq106 => ?_) (fun _ _ hq => hq.elim)
  obtain ⟨rfl, rfl⟩ := hq106
  refine r_ireturn dX3_carriesOut_109 rfl rfl ?_
  exact kk _ rfl
theorem l_m_co110 {E : EV} {QR : Option Value → MH → Prop} {QX : Nat → MH → Prop} {d kc ks : Nat} (hd0 : 4 ≤ d) (S : MS) (G : Nat → Nat) (r : MH) (k a b c b0 : Nat) (hG : gOK G) (hB : gB G b0) (hb0 : b0 < 8000000) (hk : k + 2 < 180) (h3 : S.2 7 (k + 2) = b ∨ 110 ≠ 110) (kk : ∀ sp, sp_pushes G (nI a) (nI b) = sp → QR (some (.int sp.2.1)) (JG (ss S 12 (nI sp.1)) sp.2.2 r)) : SW E yX3_carriesOut cX3_carriesOut 3 (some .int) [] QR QX d kc ks (JG S G r) 110 [(0, .ref 410), (1, .int (nI k)), (2, .int (nI a))] [] := by
  have h3 : S.2 7 (k + 2) = b := h3.resolve_right (fun z => z rfl)
  refine r_aload_n dX3_carriesOut_110 rfl ?_
  refine r_iload_n dX3_carriesOut_111 rfl ?_
  refine r_aload_n dX3_carriesOut_112 rfl ?_
  refine r_getfield dX3_carriesOut_113 fl_X3_39_9 (JG_410 _ _ _) rfl ?_
  refine r_iload_n dX3_carriesOut_116 rfl ?_
  refine r_iconst dX3_carriesOut_117 ki_2 ?_
  refine rn_iadd dX3_carriesOut_118 ?_
  refine rn_iaload dX3_carriesOut_119 (JG_418 _ _ _) (by omega) (by omega) ?_
  rw [h3]
  refine r_invV dX3_carriesOut_120 (c_m_pushes S G r (nI a) (nI b) hG) q1780 q1782 qs34 (JG_410 _ _ _) k9 pn_X3_pushes mh_X3_pushes rfl (by omega) (Nat.le_refl _) (Nat.le_refl _) (Nat.le_of_ble_eq_true rfl) (fun v120 h120 hq120 => ?_) (fun _ _ hq => hq.elim)
  obtain ⟨rfl, rfl⟩ := hq120
  refine r_ireturn dX3_carriesOut_123 rfl rfl ?_
  exact kk _ rfl
theorem l_m_co124 {E : EV} {QR : Option Value → MH → Prop} {QX : Nat → MH → Prop} {d kc ks : Nat} (hd0 : 4 ≤ d) (S : MS) (G : Nat → Nat) (r : MH) (k a b c b0 : Nat) (hG : gOK G) (hB : gB G b0) (hb0 : b0 < 8000000) (hk : k + 2 < 180) (h3 : S.2 7 (k + 2) = b ∨ 124 ≠ 110) (kk : ∀ sp, sp_catches G (nI a) = sp → QR (some (.int sp.2.1)) (JG (ss S 12 (nI sp.1)) sp.2.2 r)) : SW E yX3_carriesOut cX3_carriesOut 3 (some .int) [] QR QX d kc ks (JG S G r) 124 [(0, .ref 410), (1, .int (nI k)), (2, .int (nI a))] [] := by
  refine r_aload_n dX3_carriesOut_124 rfl ?_
  refine r_iload_n dX3_carriesOut_125 rfl ?_
  refine r_invV dX3_carriesOut_126 (c_m_catches S G r (nI a) hG) q1800 q1802 qs38 (JG_410 _ _ _) k9 pn_X3_catches mh_X3_catches rfl (by omega) (Nat.le_refl _) (Nat.le_refl _) (Nat.le_of_ble_eq_true rfl) (fun v126 h126 hq126 => ?_) (fun _ _ hq => hq.elim)
  obtain ⟨rfl, rfl⟩ := hq126
  refine r_ireturn dX3_carriesOut_129 rfl rfl ?_
  exact kk _ rfl
theorem l_m_co130 {E : EV} {QR : Option Value → MH → Prop} {QX : Nat → MH → Prop} {d kc ks : Nat} (hd0 : 4 ≤ d) (S : MS) (G : Nat → Nat) (r : MH) (k a b c b0 : Nat) (hG : gOK G) (hB : gB G b0) (hb0 : b0 < 8000000) (hk : k + 2 < 180) (h3 : S.2 7 (k + 2) = b ∨ 130 ≠ 110) (kk : ∀ sp, sp_rubs G (nI a) = sp → QR (some (.int sp.2.1)) (JG (ss S 12 (nI sp.1)) sp.2.2 r)) : SW E yX3_carriesOut cX3_carriesOut 3 (some .int) [] QR QX d kc ks (JG S G r) 130 [(0, .ref 410), (1, .int (nI k)), (2, .int (nI a))] [] := by
  refine r_aload_n dX3_carriesOut_130 rfl ?_
  refine r_iload_n dX3_carriesOut_131 rfl ?_
  refine r_invV dX3_carriesOut_132 (c_m_rubs S G r (nI a) hG) q1808 q1810 qs39 (JG_410 _ _ _) k9 pn_X3_rubs mh_X3_rubs rfl (by omega) (Nat.le_refl _) (Nat.le_refl _) (Nat.le_of_ble_eq_true rfl) (fun v132 h132 hq132 => ?_) (fun _ _ hq => hq.elim)
  obtain ⟨rfl, rfl⟩ := hq132
  refine r_ireturn dX3_carriesOut_135 rfl rfl ?_
  exact kk _ rfl
theorem l_m_co136 {E : EV} {QR : Option Value → MH → Prop} {QX : Nat → MH → Prop} {d kc ks : Nat} (hd0 : 4 ≤ d) (S : MS) (G : Nat → Nat) (r : MH) (k a b c b0 : Nat) (hG : gOK G) (hB : gB G b0) (hb0 : b0 < 8000000) (hk : k + 2 < 180) (h3 : S.2 7 (k + 2) = b ∨ 136 ≠ 110) (kk : ∀ sp, sp_leg G (nI a) = sp → QR (some (.int sp.2.1)) (JG (ss S 12 (nI sp.1)) sp.2.2 r)) : SW E yX3_carriesOut cX3_carriesOut 3 (some .int) [] QR QX d kc ks (JG S G r) 136 [(0, .ref 410), (1, .int (nI k)), (2, .int (nI a))] [] := by
  refine r_aload_n dX3_carriesOut_136 rfl ?_
  refine r_iload_n dX3_carriesOut_137 rfl ?_
  refine r_invV dX3_carriesOut_138 (c_m_addsLeg S G r (nI a) hG) q1957 q1959 qs51 (JG_410 _ _ _) k9 pn_X3_addsLeg mh_X3_addsLeg rfl (by omega) (Nat.le_refl _) (Nat.le_refl _) (Nat.le_of_ble_eq_true rfl) (fun v138 h138 hq138 => ?_) (fun _ _ hq => hq.elim)
  obtain ⟨rfl, rfl⟩ := hq138
  refine r_ireturn dX3_carriesOut_141 rfl rfl ?_
  exact kk _ rfl
theorem l_m_co142 {E : EV} {QR : Option Value → MH → Prop} {QX : Nat → MH → Prop} {d kc ks : Nat} (hd0 : 4 ≤ d) (S : MS) (G : Nat → Nat) (r : MH) (k a b c b0 : Nat) (hG : gOK G) (hB : gB G b0) (hb0 : b0 < 8000000) (hk : k + 2 < 180) (h3 : S.2 7 (k + 2) = b ∨ 142 ≠ 110) (kk : ∀ sp, sp_cuts G (nI a) = sp → QR (some (.int sp.2.1)) (JG (ss S 12 (nI sp.1)) sp.2.2 r)) : SW E yX3_carriesOut cX3_carriesOut 3 (some .int) [] QR QX d kc ks (JG S G r) 142 [(0, .ref 410), (1, .int (nI k)), (2, .int (nI a))] [] := by
  refine r_aload_n dX3_carriesOut_142 rfl ?_
  refine r_iload_n dX3_carriesOut_143 rfl ?_
  refine r_invV dX3_carriesOut_144 (c_m_cuts S G r (nI a) hG) q1965 q1967 qs52 (JG_410 _ _ _) k9 pn_X3_cuts mh_X3_cuts rfl (by omega) (Nat.le_refl _) (Nat.le_refl _) (Nat.le_of_ble_eq_true rfl) (fun v144 h144 hq144 => ?_) (fun _ _ hq => hq.elim)
  obtain ⟨rfl, rfl⟩ := hq144
  refine r_ireturn dX3_carriesOut_147 rfl rfl ?_
  exact kk _ rfl
theorem l_m_co148 {E : EV} {QR : Option Value → MH → Prop} {QX : Nat → MH → Prop} {d kc ks : Nat} (hd0 : 4 ≤ d) (S : MS) (G : Nat → Nat) (r : MH) (k a b c b0 : Nat) (hG : gOK G) (hB : gB G b0) (hb0 : b0 < 8000000) (hk : k + 2 < 180) (h3 : S.2 7 (k + 2) = b ∨ 148 ≠ 110) (kk : ∀ sp, sp_passes G (nI a) = sp → QR (some (.int sp.2.1)) (JG (ss S 12 (nI sp.1)) sp.2.2 r)) : SW E yX3_carriesOut cX3_carriesOut 3 (some .int) [] QR QX d kc ks (JG S G r) 148 [(0, .ref 410), (1, .int (nI k)), (2, .int (nI a))] [] := by
  refine r_aload_n dX3_carriesOut_148 rfl ?_
  refine r_iload_n dX3_carriesOut_149 rfl ?_
  refine r_invV dX3_carriesOut_150 (c_m_passes S G r (nI a) hB hb0) q1816 q1818 qs40 (JG_410 _ _ _) k9 pn_X3_passes mh_X3_passes rfl (by omega) (Nat.le_refl _) (Nat.le_refl _) (Nat.le_of_ble_eq_true rfl) (fun v150 h150 hq150 => ?_) (fun _ _ hq => hq.elim)
  obtain ⟨rfl, rfl⟩ := hq150
  refine r_ireturn dX3_carriesOut_153 rfl rfl ?_
  exact kk _ rfl
theorem c_m_carriesOut {E : EV} (S : MS) (G : Nat → Nat) (r : MH) (k c a b b0 : Nat) (hG : gOK G) (hB : gB G b0) (hb0 : b0 < 8000000) (hk : k + 2 < 180) (hc : isC c) (h1 : S.2 7 k = c) (h2 : S.2 7 (k + 1) = a) (h3 : c = 112 → S.2 7 (k + 2) = b) : SM E yX3_carriesOut 4 [.ref 410, .int (nI k)] (JG S G r) 0 0 (fun o h' => o = some (.int (spcm G (c, a, b)).2.1) ∧ h' = JG (ss S 12 (nI (spcm G (c, a, b)).1)) (spcm G (c, a, b)).2.2 r) (fun _ _ => False) := by
  refine SM.of (cc := cX3_carriesOut) (nL := 3) (ret := (some .int)) (hh := []) (ls := [(0, .ref 410), (1, .int (nI k))]) pl_X3 (Or.inl ⟨rfl, q2083⟩) rfl q78 rfl rfl ?_
  refine r_aload_n dX3_carriesOut_0 rfl ?_
  refine r_getfield dX3_carriesOut_1 fl_X3_39_9 (JG_410 _ _ _) rfl ?_
  refine r_iload_n dX3_carriesOut_4 rfl ?_
  refine r_iconst dX3_carriesOut_5 ki_1 ?_
  refine rn_iadd dX3_carriesOut_6 ?_
  refine rn_iaload dX3_carriesOut_7 (JG_418 _ _ _) (by omega) (by omega) ?_
  rw [h2]
  refine r_istore_n (ls' := [(0, _), (1, _), (2, _)]) dX3_carriesOut_8 rfl rfl ?_
  refine r_aload_n dX3_carriesOut_9 rfl ?_
  refine r_getfield dX3_carriesOut_10 fl_X3_39_9 (JG_410 _ _ _) rfl ?_
  refine r_iload_n dX3_carriesOut_13 rfl ?_
  refine rn_iaload dX3_carriesOut_14 (JG_418 _ _ _) (by omega) (by omega) ?_
  rw [h1]
  rcases hc with e | e | e | e | e | e | e <;> subst e
  · refine r_tableIn (off := 89) (tgt := 104) dX3_carriesOut_15 (by decide) (by decide) (by decide) rfl ?_
    exact l_m_co104 (by decide) S G r k a b 0 b0 hG hB hb0 hk (Or.inr (by decide)) (fun sp e => by
      rw [spcm, if_pos rfl, e]
      exact ⟨rfl, rfl⟩)
  · refine r_tableIn (off := 95) (tgt := 110) dX3_carriesOut_15 (by decide) (by decide) (by decide) rfl ?_
    exact l_m_co110 (by decide) S G r k a b 0 b0 hG hB hb0 hk (Or.inl (h3 rfl)) (fun sp e => by
      rw [spcm, if_neg (by dsimp only; decide), if_pos rfl, e]
      exact ⟨rfl, rfl⟩)
  · refine r_tableIn (off := 109) (tgt := 124) dX3_carriesOut_15 (by decide) (by decide) (by decide) rfl ?_
    exact l_m_co124 (by decide) S G r k a b 0 b0 hG hB hb0 hk (Or.inr (by decide)) (fun sp e => by
      rw [spcm, if_neg (by dsimp only; decide), if_neg (by dsimp only; decide), if_pos rfl, e]
      exact ⟨rfl, rfl⟩)
  · refine r_tableIn (off := 115) (tgt := 130) dX3_carriesOut_15 (by decide) (by decide) (by decide) rfl ?_
    exact l_m_co130 (by decide) S G r k a b 0 b0 hG hB hb0 hk (Or.inr (by decide)) (fun sp e => by
      rw [spcm, if_neg (by dsimp only; decide), if_neg (by dsimp only; decide), if_neg (by dsimp only; decide), if_pos rfl, e]
      exact ⟨rfl, rfl⟩)
  · refine r_tableIn (off := 121) (tgt := 136) dX3_carriesOut_15 (by decide) (by decide) (by decide) rfl ?_
    exact l_m_co136 (by decide) S G r k a b 0 b0 hG hB hb0 hk (Or.inr (by decide)) (fun sp e => by
      rw [spcm, if_neg (by dsimp only; decide), if_neg (by dsimp only; decide), if_neg (by dsimp only; decide), if_neg (by dsimp only; decide), if_pos rfl, e]
      exact ⟨rfl, rfl⟩)
  · refine r_tableIn (off := 127) (tgt := 142) dX3_carriesOut_15 (by decide) (by decide) (by decide) rfl ?_
    exact l_m_co142 (by decide) S G r k a b 0 b0 hG hB hb0 hk (Or.inr (by decide)) (fun sp e => by
      rw [spcm, if_neg (by dsimp only; decide), if_neg (by dsimp only; decide), if_neg (by dsimp only; decide), if_neg (by dsimp only; decide), if_neg (by dsimp only; decide), if_pos rfl, e]
      exact ⟨rfl, rfl⟩)
  · refine r_tableIn (off := 133) (tgt := 148) dX3_carriesOut_15 (by decide) (by decide) (by decide) rfl ?_
    exact l_m_co148 (by decide) S G r k a b 0 b0 hG hB hb0 hk (Or.inr (by decide)) (fun sp e => by
      rw [spcm, if_neg (by dsimp only; decide), if_neg (by dsimp only; decide), if_neg (by dsimp only; decide), if_neg (by dsimp only; decide), if_neg (by dsimp only; decide), if_neg (by dsimp only; decide), e]
      exact ⟨rfl, rfl⟩)
theorem l_m_ex130 {E : EV} {QR : Option Value → MH → Prop} {QX : Nat → MH → Prop} {d kc ks : Nat} (hd0 : 5 ≤ d) (S0 : MS) (G0 : Nat → Nat) (r : MH) (L : List (Nat × Nat × Nat)) (b0 c : Nat) (hb0 : b0 < 7000000) (hL : 3 * L.length ≤ 177) (ht : tri (S0.2 7) L) (h3 : S0.1 3 = nI c) (hc : c ≤ 8) (hbf : eq48 (S0.2 1) G0) (R : (Nat → Nat) × Option Nat) (kk : ∀ o h', rnP S0 c G0 r R L.length o h' → QR o h') : ∀ (n0 i : Nat) (v : Int32) (G : Nat → Nat), i ≤ L.length → L.length < n0 + i → gB G (b0 + 500 * i) → rnx G (L.drop i) i = R → SW E yX3_execute cX3_execute 5 (some .int) [] QR QX d kc ks (JG (ss S0 12 v) G r) 130 [(0, .ref 410), (1, .int (nI L.length)), (2, .int (nI 0)), (3, .int (nI i))] [] := by
  intro n0
  induction n0 with
  | zero => intro i v G h1 h2; omega
  | succ n0 ih =>
    intro i v G h1 h2 hB h4
    refine r_iload_n dX3_execute_130 rfl ?_
    refine r_iload_n dX3_execute_131 rfl ?_
    refine rn_icmp_ge (tgt := 174) dX3_execute_132 rfl (by omega) (by omega) (fun hc2 => ?_) (fun hc2 => ?_)
    · rw [List.drop_eq_nil_of_le hc2] at h4
      refine r_aload_n dX3_execute_174 rfl ?_
      refine r_aload_n dX3_execute_175 rfl ?_
      refine r_iload_n dX3_execute_176 rfl ?_
      refine r_invV dX3_execute_177 (c_m_done _ G r _) q1768 q1770 qs32 (JG_410 _ _ _) k9 pn_X3_done mh_X3_done rfl (by omega) (Nat.le_refl _) (Nat.le_refl _) (Nat.le_of_ble_eq_true rfl) (fun v177 h177 hq177 => ?_) (fun _ _ hq => hq.elim)
      obtain ⟨rfl, rfl⟩ := hq177
      rw [ss_ss]
      refine r_invV dX3_execute_180 (c_m_kept (ss S0 12 (nI 0)) G r G0 0 c _ (by decide) (ss_at _ _ _) h3 hc hbf) q1772 q1774 qs33 (JG_410 _ _ _) k9 pn_X3_kept mh_X3_kept rfl (by omega) (Nat.le_refl _) (Nat.le_refl _) (Nat.le_of_ble_eq_true rfl) (fun v180 h180 hq180 => ?_) (fun _ _ hq => hq.elim)
      obtain ⟨-, rfl, H, e2, rfl⟩ | ⟨z, -⟩ := hq180
      rotate_left
      · exact absurd rfl z
      refine r_ireturn dX3_execute_183 rfl rfl ?_
      rw [rnx] at h4
      exact kk _ _ (Or.inr ⟨by rw [← h4], rfl, H, e2, by rw [← h4]⟩)
    · obtain ⟨t1, t2, t3, t4⟩ := ht i hc2
      have hG := gB_ok hB (by omega)
      rw [List.drop_eq_getElem_cons hc2, rnx] at h4
      have hnB := spcm_gB hB (by omega) L[i]
      have hlt := spcm_lt G L[i]
      refine r_aload_n dX3_execute_135 rfl ?_
      refine r_iconst dX3_execute_136 ki_3 ?_
      refine r_iload_n dX3_execute_137 rfl ?_
      refine rn_imul dX3_execute_138 ?_
      refine r_invV dX3_execute_139 (c_m_carriesOut (ss S0 12 v) G r (3 * i) L[i].1 L[i].2.1 L[i].2.2 (b0 + 500 * i) hG hB (by omega) (by omega) t1 t2 t3 t4) q2080 q2082 qs66 (JG_410 _ _ _) k9 pn_X3_carriesOut mh_X3_carriesOut rfl (by omega) (Nat.le_refl _) (Nat.le_refl _) (Nat.le_of_ble_eq_true rfl) (fun v139 h139 hq139 => ?_) (fun _ _ hq => hq.elim)
      obtain ⟨rfl, rfl⟩ := hq139
      rw [ss_ss]
      refine r_istore (ls' := [(0, _), (1, _), (2, _), (3, _), (4, _)]) dX3_execute_142 rfl rfl ?_
      refine r_aload_n dX3_execute_144 rfl ?_
      refine r_getfield dX3_execute_145 fl_X3_42_9 (JG_410 _ _ _) rfl ?_
      refine r_ti (v := nI (spcm G L[i]).1) (ss_at _ _ _) ?_
      refine rn_if_eq (tgt := 168) dX3_execute_148 rfl (by omega) (fun c148 => ?_) (fun c148 => ?_)
      · rw [if_pos c148] at h4
        refine rn_iinc (n := 1) (ls' := [(0, _), (1, _), (2, _), (3, _), (4, _)]) dX3_execute_168 rfl rfl rfl ?_
        refine r_goto (tgt := 130) dX3_execute_171 rfl ?_
        refine r_drop (a := [(0, _), (1, _), (2, _), (3, _)]) (b := [(4, _)]) ?_
        exact ih (i + 1) _ _ hc2 (by omega) (gB_w hnB (by omega)) h4
      · rw [if_neg c148] at h4
        refine r_aload_n dX3_execute_151 rfl ?_
        refine r_iload_n dX3_execute_152 rfl ?_
        refine rg_put9 dX3_execute_153 fp_X3_30_9 rfl rfl ?_
        refine r_aload_n dX3_execute_156 rfl ?_
        refine r_iconst dX3_execute_157 ki_2 ?_
        refine rg_put12 dX3_execute_158 fp_X3_42_9 rfl rfl ?_
        refine r_aload_n dX3_execute_161 rfl ?_
        refine r_iload dX3_execute_162 rfl ?_
        refine r_invV dX3_execute_164 (c_m_kept (ss (ss (ss S0 12 (nI (spcm G L[i]).1)) 9 (nI i)) 12 (nI 2)) (spcm G L[i]).2.2 r G0 2 c _ (by decide) (ss_at _ _ _) h3 hc hbf) q1772 q1774 qs33 (JG_410 _ _ _) k9 pn_X3_kept mh_X3_kept rfl (by omega) (Nat.le_refl _) (Nat.le_refl _) (Nat.le_of_ble_eq_true rfl) (fun v164 h164 hq164 => ?_) (fun _ _ hq => hq.elim)
        obtain ⟨z, -⟩ | ⟨-, rfl, G2, e2, rfl⟩ := hq164
        · cases z
        refine r_ireturn dX3_execute_167 rfl rfl ?_
        exact kk _ _ (Or.inl ⟨i, by rw [← h4], rfl, G2, e2, _, rfl⟩)
theorem l_m_ex95w {E : EV} {QR : Option Value → MH → Prop} {QX : Nat → MH → Prop} {d kc ks : Nat} (hd0 : 1 ≤ d) (S : MS) (G : Nat → Nat) (r : MH) (Q : Nat → Nat) (p w k : Nat) (hp : p < 2 ^ 30) (kk : QR (some (.int (nI 0))) (JG (ss (ss (ss (PS S Q (p, 1)) 7 (nI 0)) 8 (nI p)) 12 (nI 1)) G r)) : SW E yX3_execute cX3_execute 5 (some .int) [] QR QX d kc ks (JG (PS S Q (p, w)) G r) 95 [(0, .ref 410), (1, .int (nI k)), (2, .int (nI 0))] [.int (nI 1), .ref 410] := by
  refine rg_put15 dX3_execute_95 fp_X3_191_9 nz1 (by decide) ?_
  rw [PS_15]
  refine r_aload_n dX3_execute_98 rfl ?_
  refine r_iconst dX3_execute_99 ki_0 ?_
  refine rg_put7 dX3_execute_100 fp_X3_185_9 rfl rfl ?_
  refine r_aload_n dX3_execute_103 rfl ?_
  refine r_getfield dX3_execute_104 fl_X3_191_9 (JG_410 _ _ _) rfl ?_
  refine r_ti (v := nI 1) (PS_b15 _ _ _ _) ?_
  refine rn_if_eq (tgt := 124) dX3_execute_107 rfl (by omega) (fun c107 => absurd c107 (by decide)) (fun c107 => ?_)
  refine r_aload_n dX3_execute_110 rfl ?_
  refine r_aload_n dX3_execute_111 rfl ?_
  refine r_getfield dX3_execute_112 fl_X3_188_9 (JG_410 _ _ _) rfl ?_
  refine r_ti (v := nI p) (PS_b14 _ _ _ _) ?_
  refine rg_put8 dX3_execute_115 fp_X3_26_9 rfl rfl ?_
  refine r_aload_n dX3_execute_118 rfl ?_
  refine r_iconst dX3_execute_119 ki_1 ?_
  refine r_invV dX3_execute_120 (c_m_fails _ G r (nI 1)) q1764 q1766 qs31 (JG_410 _ _ _) k9 pn_X3_fails mh_X3_fails rfl (by omega) (Nat.le_refl _) (Nat.le_refl _) (Nat.le_of_ble_eq_true rfl) (fun v120 h120 hq120 => ?_) (fun _ _ hq => hq.elim)
  obtain ⟨rfl, rfl⟩ := hq120
  refine r_ireturn dX3_execute_123 rfl rfl ?_
  exact kk
theorem l_m_ex95g {E : EV} {QR : Option Value → MH → Prop} {QX : Nat → MH → Prop} {d kc ks : Nat} (hd0 : 5 ≤ d) (S : MS) (G : Nat → Nat) (r : MH) (Q : Nat → Nat) (p w c b0 : Nat) (L : List (Nat × Nat × Nat)) (P : List (Nat × Nat × Nat) × (Nat × Nat)) (t : Nat) (hPL : P.1 = L) (hP : P.2.2 = 0 ∧ P.2.1 = t) (hPp : P.2.1 = p) (hB : gB G b0) (hb0 : b0 < 7000000) (hL : 3 * L.length ≤ 177) (ht : tri Q L) (h3 : S.1 3 = nI c) (hc : c ≤ 8) (kk : ∀ o h', exP S c G r P t o h' → QR o h') : SW E yX3_execute cX3_execute 5 (some .int) [] QR QX d kc ks (JG (PS S Q (p, w)) G r) 95 [(0, .ref 410), (1, .int (nI L.length)), (2, .int (nI 0))] [.int (nI 0), .ref 410] := by
  refine rg_put15 dX3_execute_95 fp_X3_191_9 nz0 (by decide) ?_
  rw [PS_15]
  refine r_aload_n dX3_execute_98 rfl ?_
  refine r_iconst dX3_execute_99 ki_0 ?_
  refine rg_put7 dX3_execute_100 fp_X3_185_9 rfl rfl ?_
  refine r_aload_n dX3_execute_103 rfl ?_
  refine r_getfield dX3_execute_104 fl_X3_191_9 (JG_410 _ _ _) rfl ?_
  refine r_ti (v := nI 0) (PS_b15 _ _ _ _) ?_
  refine rn_if_eq (tgt := 124) dX3_execute_107 rfl (by omega) (fun c107 => ?_) (fun c107 => absurd rfl c107)
  refine r_aload_n dX3_execute_124 rfl ?_
  refine r_invV dX3_execute_125 (c_m_begin _ G r) q1750 q1752 qs29 (JG_410 _ _ _) k9 pn_X3_begin mh_X3_begin rfl (by omega) (Nat.le_refl _) (Nat.le_refl _) (Nat.le_of_ble_eq_true rfl) (fun v125 h125 hq125 => ?_) (fun _ _ hq => hq.elim)
  obtain ⟨rfl, rfl⟩ := hq125
  refine r_iconst dX3_execute_128 ki_0 ?_
  refine r_istore_n (ls' := [(0, _), (1, _), (2, _), (3, _)]) dX3_execute_129 rfl rfl ?_
  subst hPL
  subst hPp
  refine r_heap (h' := JG (ss (sa (ss (PS S Q (P.2.1, 0)) 7 (nI 0)) 1 (va_cpy G ((ss (PS S Q (P.2.1, 0)) 7 (nI 0)).2 1) 0 0 48)) 12 _) G r) (by rw [ss_self]) ?_
  exact l_m_ex130 (by omega) _ G r P.1 b0 c hb0 hL (by rw [sa_ne _ _ (by decide), ss_2, PS_A7]; exact ht) (by rw [sa_1, ss_ne _ _ (by decide), PS_f (by decide) (by decide)]; exact h3) hc (by rw [sa_at]; exact eq48_cpy _ _) (rnx G P.1 0) (fun o h' q => kk o h' (exP_2 hP q)) _ 0 _ G (Nat.zero_le _) (Nat.lt_succ_self _) hB (by rw [List.drop_zero])
theorem l_m_ex71 {E : EV} {QR : Option Value → MH → Prop} {QX : Nat → MH → Prop} {d kc ks : Nat} (hd0 : 5 ≤ d) (S : MS) (G : Nat → Nat) (r : MH) (Q : Nat → Nat) (s : Nat × Nat) (t c b0 k : Nat) (L : List (Nat × Nat × Nat)) (h7 : S.1 7 = nI t) (ht : t ≤ 60) (hs : s.1 ≤ t) (hs2 : s.2 ≤ 1) (hk : k = L.length) (hB : gB G b0) (hb0 : b0 < 7000000) (hL : 3 * L.length ≤ 177) (htr : s.2 = 0 → tri Q L) (h3 : S.1 3 = nI c) (hc : c ≤ 8) (kk : ∀ o h', exP S c G r (L, s) t o h' → QR o h') : SW E yX3_execute cX3_execute 5 (some .int) [] QR QX d kc ks (JG (PS S Q s) G r) 71 [(0, .ref 410), (1, .int (nI k)), (2, .int (nI 0))] [] := by
  refine r_aload_n dX3_execute_71 rfl ?_
  refine r_aload_n dX3_execute_72 rfl ?_
  refine r_getfield dX3_execute_73 fl_X3_191_9 (JG_410 _ _ _) rfl ?_
  refine r_ti (v := nI s.2) (PS_a15 S _ _) ?_
  refine rn_if_ne (tgt := 90) dX3_execute_76 rfl (by omega) (fun c76 => ?_) (fun c76 => ?_)
  · refine r_iconst dX3_execute_90 ki_1 ?_
    refine r_goto (tgt := 95) dX3_execute_91 rfl ?_
    first
    | (have e0 : s.2 = 0 := c76
       have e1 : t ≤ s.1 := c87
       subst hk
       exact l_m_ex95g hd0 S G r Q s.1 s.2 c b0 L (L, s) t rfl ⟨e0, Nat.le_antisymm hs e1⟩ rfl hB hb0 hL (htr e0) h3 hc kk)
    | (exact l_m_ex95w (by omega) S G r Q s.1 s.2 k (by omega) (kk _ _ (exP_1 (P := (L, s)) (fun z => by have z1 := z.1; have z2 := z.2; dsimp only at z1 z2; omega))))
  · refine r_aload_n dX3_execute_79 rfl ?_
    refine r_getfield dX3_execute_80 fl_X3_188_9 (JG_410 _ _ _) rfl ?_
    refine r_ti (v := nI s.1) (PS_a14 S _ _) ?_
    refine r_aload_n dX3_execute_83 rfl ?_
    refine r_getfield dX3_execute_84 fl_X3_185_9 (JG_410 _ _ _) rfl ?_
    refine r_ti ((PS_a7 S _ _).trans h7) ?_
    refine rn_icmp_ge (tgt := 94) dX3_execute_87 rfl (by omega) (by omega) (fun c87 => ?_) (fun c87 => ?_)
    · refine r_iconst dX3_execute_94 ki_0 ?_
      first
      | (have e0 : s.2 = 0 := c76
         have e1 : t ≤ s.1 := c87
         subst hk
         exact l_m_ex95g hd0 S G r Q s.1 s.2 c b0 L (L, s) t rfl ⟨e0, Nat.le_antisymm hs e1⟩ rfl hB hb0 hL (htr e0) h3 hc kk)
      | (exact l_m_ex95w (by omega) S G r Q s.1 s.2 k (by omega) (kk _ _ (exP_1 (P := (L, s)) (fun z => by have z1 := z.1; have z2 := z.2; dsimp only at z1 z2; omega))))
    · refine r_iconst dX3_execute_90 ki_1 ?_
      refine r_goto (tgt := 95) dX3_execute_91 rfl ?_
      first
      | (have e0 : s.2 = 0 := c76
         have e1 : t ≤ s.1 := c87
         subst hk
         exact l_m_ex95g hd0 S G r Q s.1 s.2 c b0 L (L, s) t rfl ⟨e0, Nat.le_antisymm hs e1⟩ rfl hB hb0 hL (htr e0) h3 hc kk)
      | (exact l_m_ex95w (by omega) S G r Q s.1 s.2 k (by omega) (kk _ _ (exP_1 (P := (L, s)) (fun z => by have z1 := z.1; have z2 := z.2; dsimp only at z1 z2; omega))))
theorem l_m_ex14 {E : EV} {QR : Option Value → MH → Prop} {QX : Nat → MH → Prop} {d kc ks : Nat} (hd0 : 5 ≤ d) (S : MS) (G : Nat → Nat) (r : MH) (t c b0 : Nat) (h7 : S.1 7 = nI t) (ht : t ≤ 60) (hBf : ∀ i, i < t → S.2 4 i < 128) (hB : gB G b0) (hb0 : b0 < 7000000) (h3 : S.1 3 = nI c) (hc : c ≤ 8) (P : List (Nat × Nat × Nat) × (Nat × Nat)) (kk : ∀ o h', exP S c G r P t o h' → QR o h') : ∀ (n0 p : Nat) (Q : Nat → Nat) (L : List (Nat × Nat × Nat)), t < n0 + p → p ≤ t → 2 * L.length ≤ p → tri Q L → (L ++ (prg (S.2 4) t n0 p).1, (prg (S.2 4) t n0 p).2) = P → SW E yX3_execute cX3_execute 5 (some .int) [] QR QX d kc ks (JG (PS S Q (p, 0)) G r) 14 [(0, .ref 410), (1, .int (nI L.length)), (2, .int (nI 1))] [] := by
  intro n0
  induction n0 with
  | zero => intro p Q L h1 h2; omega
  | succ n0 ih =>
    intro p Q L h1 h2 h4 h5 h6
    rw [prg] at h6
    refine r_iload_n dX3_execute_14 rfl ?_
    refine rn_if_eq (tgt := 71) dX3_execute_15 rfl (by omega) (fun c15 => absurd c15 (by decide)) (fun c15 => ?_)
    refine r_aload_n dX3_execute_18 rfl ?_
    refine r_iconst dX3_execute_19 ki_3 ?_
    refine r_iload_n dX3_execute_20 rfl ?_
    refine rn_imul dX3_execute_21 ?_
    refine r_invV dX3_execute_22 (c_m_parsesCommand S G r Q p (3 * L.length) t h7 ht hBf h2 (by omega)) q2056 q2058 qs60 (JG_410 _ _ _) k9 pn_X3_parsesCommand mh_X3_parsesCommand rfl (by omega) (Nat.le_refl _) (Nat.le_refl _) (Nat.le_of_ble_eq_true rfl) (fun v22 h22 hq22 => ?_) (fun _ _ hq => hq.elim)
    obtain ⟨rfl, Q', ⟨q1, q2⟩, rfl⟩ := hq22
    have hm := mcm_p (B := S.2 4) h2
    have hcm := mcm_c (B := S.2 4) (t := t) (p := p)
    generalize hM : mcm (S.2 4) t p = M at q1 q2 hm hcm h6
    refine rn_iinc (n := 1) (ls' := [(0, _), (1, _), (2, _)]) dX3_execute_25 rfl rfl rfl ?_
    refine r_aload_n dX3_execute_28 rfl ?_
    refine r_getfield dX3_execute_29 fl_X3_191_9 (JG_410 _ _ _) rfl ?_
    refine r_ti (v := nI M.1.2) (PS_a15 S _ _) ?_
    refine rn_if_ne (tgt := 48) dX3_execute_32 rfl (by omega) (fun c32 => ?_) (fun c32 => ?_)
    · refine r_iconst dX3_execute_48 ki_0 ?_
      first
      | (have e0 : M.1.2 = 0 := c32
         have e1 : M.1.1 < t ∧ S.2 4 M.1.1 = 59 := c41
         have e2 := hm.2.2 e0
         refine r_istore_n (ls' := [(0, _), (1, _), (2, _)]) dX3_execute_49 rfl rfl ?_
         refine r_aload_n dX3_execute_50 rfl ?_
         refine r_dup dX3_execute_51 rfl ?_
         refine r_getfield dX3_execute_52 fl_X3_188_9 (JG_410 _ _ _) rfl ?_
         refine r_ti (v := nI M.1.1) (PS_a14 S _ _) ?_
         refine r_iload_n dX3_execute_55 rfl ?_
         refine rn_if_eq (tgt := 63) dX3_execute_56 rfl (by omega) (fun z => absurd z (by decide)) (fun z => ?_)
         refine r_iconst dX3_execute_59 ki_1 ?_
         refine r_goto (tgt := 64) dX3_execute_60 rfl ?_
         refine rn_iadd dX3_execute_64 ?_
         refine rg_put14 dX3_execute_65 fp_X3_188_9 rfl rfl ?_
         rw [show M.1 = (M.1.1, M.1.2) from rfl, PS_14, e0]
         refine r_goto (tgt := 14) dX3_execute_68 rfl ?_
         rw [if_pos ⟨e0, e1.1, e1.2⟩] at h6
         refine r_ls (ls' := [(0, _), (1, .int (nI (L ++ [M.2]).length)), (2, _)]) (by rw [List.length_append]; rfl) ?_
         exact ih (M.1.1 + 1) Q' (L ++ [M.2]) (by omega) e1.1 (by rw [List.length_append]; show 2 * (L.length + 1) ≤ _; omega) (tri_app h5 q1 (hcm e0) (q2 e0).1 (q2 e0).2.1 (q2 e0).2.2) (by rw [← h6, List.append_assoc]; rfl))
      | (have en : ¬ (M.1.2 = 0 ∧ M.1.1 < t ∧ S.2 4 M.1.1 = 59) := fun z => by first | exact c41 z.2 | omega
         refine r_istore_n (ls' := [(0, _), (1, _), (2, _)]) dX3_execute_49 rfl rfl ?_
         refine r_aload_n dX3_execute_50 rfl ?_
         refine r_dup dX3_execute_51 rfl ?_
         refine r_getfield dX3_execute_52 fl_X3_188_9 (JG_410 _ _ _) rfl ?_
         refine r_ti (v := nI M.1.1) (PS_a14 S _ _) ?_
         refine r_iload_n dX3_execute_55 rfl ?_
         refine rn_if_eq (tgt := 63) dX3_execute_56 rfl (by omega) (fun z => ?_) (fun z => absurd rfl z)
         refine r_iconst dX3_execute_63 ki_0 ?_
         refine rn_iadd dX3_execute_64 ?_
         refine rg_put14 dX3_execute_65 fp_X3_188_9 rfl rfl ?_
         rw [show PS S Q' M.1 = PS S Q' (M.1.1, M.1.2) from rfl, PS_14]
         refine r_goto (tgt := 14) dX3_execute_68 rfl ?_
         refine r_iload_n dX3_execute_14 rfl ?_
         refine rn_if_eq (tgt := 71) dX3_execute_15 rfl (by omega) (fun z => ?_) (fun z => absurd rfl z)
         rw [if_neg en] at h6
         subst h6
         exact l_m_ex71 hd0 S G r Q' (M.1.1 + 0, M.1.2) t c b0 (L.length + 1) (L ++ [M.2]) h7 ht hm.1 hm.2.1 (by rw [List.length_append]; rfl) hB hb0 (by rw [List.length_append]; show 3 * (L.length + 1) ≤ 177; omega) (fun e0 => tri_app h5 q1 (hcm e0) (q2 e0).1 (q2 e0).2.1 (q2 e0).2.2) h3 hc kk)
    · refine r_aload_n dX3_execute_35 rfl ?_
      refine r_invV dX3_execute_36 (c_m_here S G r Q' M.1 t h7 ht hBf hm.1) q2060 q2062 qs61 (JG_410 _ _ _) k9 pn_X3_here mh_X3_here rfl (by omega) (Nat.le_refl _) (Nat.le_refl _) (Nat.le_of_ble_eq_true rfl) (fun v36 h36 hq36 => ?_) (fun _ _ hq => hq.elim)
      obtain ⟨rfl, rfl⟩ := hq36
      refine r_bipush dX3_execute_39 kb_59 ?_
      refine r_icmp_ne (tgt := 48) dX3_execute_41 rfl  (fun c41 => ?_) (fun c41 => ?_)
      · rw [pkv_eq hBf (by decide)] at c41
        refine r_iconst dX3_execute_48 ki_0 ?_
        first
        | (have e0 : M.1.2 = 0 := c32
           have e1 : M.1.1 < t ∧ S.2 4 M.1.1 = 59 := c41
           have e2 := hm.2.2 e0
           refine r_istore_n (ls' := [(0, _), (1, _), (2, _)]) dX3_execute_49 rfl rfl ?_
           refine r_aload_n dX3_execute_50 rfl ?_
           refine r_dup dX3_execute_51 rfl ?_
           refine r_getfield dX3_execute_52 fl_X3_188_9 (JG_410 _ _ _) rfl ?_
           refine r_ti (v := nI M.1.1) (PS_a14 S _ _) ?_
           refine r_iload_n dX3_execute_55 rfl ?_
           refine rn_if_eq (tgt := 63) dX3_execute_56 rfl (by omega) (fun z => absurd z (by decide)) (fun z => ?_)
           refine r_iconst dX3_execute_59 ki_1 ?_
           refine r_goto (tgt := 64) dX3_execute_60 rfl ?_
           refine rn_iadd dX3_execute_64 ?_
           refine rg_put14 dX3_execute_65 fp_X3_188_9 rfl rfl ?_
           rw [show M.1 = (M.1.1, M.1.2) from rfl, PS_14, e0]
           refine r_goto (tgt := 14) dX3_execute_68 rfl ?_
           rw [if_pos ⟨e0, e1.1, e1.2⟩] at h6
           refine r_ls (ls' := [(0, _), (1, .int (nI (L ++ [M.2]).length)), (2, _)]) (by rw [List.length_append]; rfl) ?_
           exact ih (M.1.1 + 1) Q' (L ++ [M.2]) (by omega) e1.1 (by rw [List.length_append]; show 2 * (L.length + 1) ≤ _; omega) (tri_app h5 q1 (hcm e0) (q2 e0).1 (q2 e0).2.1 (q2 e0).2.2) (by rw [← h6, List.append_assoc]; rfl))
        | (have en : ¬ (M.1.2 = 0 ∧ M.1.1 < t ∧ S.2 4 M.1.1 = 59) := fun z => by first | exact c41 z.2 | omega
           refine r_istore_n (ls' := [(0, _), (1, _), (2, _)]) dX3_execute_49 rfl rfl ?_
           refine r_aload_n dX3_execute_50 rfl ?_
           refine r_dup dX3_execute_51 rfl ?_
           refine r_getfield dX3_execute_52 fl_X3_188_9 (JG_410 _ _ _) rfl ?_
           refine r_ti (v := nI M.1.1) (PS_a14 S _ _) ?_
           refine r_iload_n dX3_execute_55 rfl ?_
           refine rn_if_eq (tgt := 63) dX3_execute_56 rfl (by omega) (fun z => ?_) (fun z => absurd rfl z)
           refine r_iconst dX3_execute_63 ki_0 ?_
           refine rn_iadd dX3_execute_64 ?_
           refine rg_put14 dX3_execute_65 fp_X3_188_9 rfl rfl ?_
           rw [show PS S Q' M.1 = PS S Q' (M.1.1, M.1.2) from rfl, PS_14]
           refine r_goto (tgt := 14) dX3_execute_68 rfl ?_
           refine r_iload_n dX3_execute_14 rfl ?_
           refine rn_if_eq (tgt := 71) dX3_execute_15 rfl (by omega) (fun z => ?_) (fun z => absurd rfl z)
           rw [if_neg en] at h6
           subst h6
           exact l_m_ex71 hd0 S G r Q' (M.1.1 + 0, M.1.2) t c b0 (L.length + 1) (L ++ [M.2]) h7 ht hm.1 hm.2.1 (by rw [List.length_append]; rfl) hB hb0 (by rw [List.length_append]; show 3 * (L.length + 1) ≤ 177; omega) (fun e0 => tri_app h5 q1 (hcm e0) (q2 e0).1 (q2 e0).2.1 (q2 e0).2.2) h3 hc kk)
      · rw [pkv_eq hBf (by decide)] at c41
        refine r_iconst dX3_execute_44 ki_1 ?_
        refine r_goto (tgt := 49) dX3_execute_45 rfl ?_
        first
        | (have e0 : M.1.2 = 0 := c32
           have e1 : M.1.1 < t ∧ S.2 4 M.1.1 = 59 := c41
           have e2 := hm.2.2 e0
           refine r_istore_n (ls' := [(0, _), (1, _), (2, _)]) dX3_execute_49 rfl rfl ?_
           refine r_aload_n dX3_execute_50 rfl ?_
           refine r_dup dX3_execute_51 rfl ?_
           refine r_getfield dX3_execute_52 fl_X3_188_9 (JG_410 _ _ _) rfl ?_
           refine r_ti (v := nI M.1.1) (PS_a14 S _ _) ?_
           refine r_iload_n dX3_execute_55 rfl ?_
           refine rn_if_eq (tgt := 63) dX3_execute_56 rfl (by omega) (fun z => absurd z (by decide)) (fun z => ?_)
           refine r_iconst dX3_execute_59 ki_1 ?_
           refine r_goto (tgt := 64) dX3_execute_60 rfl ?_
           refine rn_iadd dX3_execute_64 ?_
           refine rg_put14 dX3_execute_65 fp_X3_188_9 rfl rfl ?_
           rw [show M.1 = (M.1.1, M.1.2) from rfl, PS_14, e0]
           refine r_goto (tgt := 14) dX3_execute_68 rfl ?_
           rw [if_pos ⟨e0, e1.1, e1.2⟩] at h6
           refine r_ls (ls' := [(0, _), (1, .int (nI (L ++ [M.2]).length)), (2, _)]) (by rw [List.length_append]; rfl) ?_
           exact ih (M.1.1 + 1) Q' (L ++ [M.2]) (by omega) e1.1 (by rw [List.length_append]; show 2 * (L.length + 1) ≤ _; omega) (tri_app h5 q1 (hcm e0) (q2 e0).1 (q2 e0).2.1 (q2 e0).2.2) (by rw [← h6, List.append_assoc]; rfl))
        | (have en : ¬ (M.1.2 = 0 ∧ M.1.1 < t ∧ S.2 4 M.1.1 = 59) := fun z => by first | exact c41 z.2 | omega
           refine r_istore_n (ls' := [(0, _), (1, _), (2, _)]) dX3_execute_49 rfl rfl ?_
           refine r_aload_n dX3_execute_50 rfl ?_
           refine r_dup dX3_execute_51 rfl ?_
           refine r_getfield dX3_execute_52 fl_X3_188_9 (JG_410 _ _ _) rfl ?_
           refine r_ti (v := nI M.1.1) (PS_a14 S _ _) ?_
           refine r_iload_n dX3_execute_55 rfl ?_
           refine rn_if_eq (tgt := 63) dX3_execute_56 rfl (by omega) (fun z => ?_) (fun z => absurd rfl z)
           refine r_iconst dX3_execute_63 ki_0 ?_
           refine rn_iadd dX3_execute_64 ?_
           refine rg_put14 dX3_execute_65 fp_X3_188_9 rfl rfl ?_
           rw [show PS S Q' M.1 = PS S Q' (M.1.1, M.1.2) from rfl, PS_14]
           refine r_goto (tgt := 14) dX3_execute_68 rfl ?_
           refine r_iload_n dX3_execute_14 rfl ?_
           refine rn_if_eq (tgt := 71) dX3_execute_15 rfl (by omega) (fun z => ?_) (fun z => absurd rfl z)
           rw [if_neg en] at h6
           subst h6
           exact l_m_ex71 hd0 S G r Q' (M.1.1 + 0, M.1.2) t c b0 (L.length + 1) (L ++ [M.2]) h7 ht hm.1 hm.2.1 (by rw [List.length_append]; rfl) hB hb0 (by rw [List.length_append]; show 3 * (L.length + 1) ≤ 177; omega) (fun e0 => tri_app h5 q1 (hcm e0) (q2 e0).1 (q2 e0).2.1 (q2 e0).2.2) h3 hc kk)
theorem c_m_execute {E : EV} (S : MS) (G : Nat → Nat) (r : MH) (t c b0 : Nat) (h7 : S.1 7 = nI t) (ht : t ≤ 60) (hBf : ∀ i, i < t → S.2 4 i < 128) (hB : gB G b0) (hb0 : b0 < 7000000) (h3 : S.1 3 = nI c) (hc : c ≤ 8) : SM E yX3_execute 5 [.ref 410] (JG S G r) 0 0 (fun o h' => exP S c G r (prg (S.2 4) t 61 0) t o h') (fun _ _ => False) := by
  refine SM.of (cc := cX3_execute) (nL := 5) (ret := (some .int)) (hh := []) (ls := [(0, .ref 410)]) pl_X3 (Or.inl ⟨rfl, q2055⟩) rfl q78 rfl rfl ?_
  refine r_aload_n dX3_execute_0 rfl ?_
  refine r_iconst dX3_execute_1 ki_0 ?_
  refine rg_put14 dX3_execute_2 fp_X3_188_9 rfl rfl ?_
  refine r_aload_n dX3_execute_5 rfl ?_
  refine r_iconst dX3_execute_6 ki_0 ?_
  refine rg_put15 dX3_execute_7 fp_X3_191_9 nz0 (by decide) ?_
  rw [PS_0]
  refine r_iconst dX3_execute_10 ki_0 ?_
  refine r_istore_n (ls' := [(0, _), (1, _)]) dX3_execute_11 rfl rfl ?_
  refine r_iconst dX3_execute_12 ki_1 ?_
  refine r_istore_n (ls' := [(0, _), (1, _), (2, _)]) dX3_execute_13 rfl rfl ?_
  exact l_m_ex14 (by decide) S G r t c b0 h7 ht hBf hB hb0 h3 hc _ (fun o h' q => q) 61 0 (S.2 7) [] (by omega) (Nat.zero_le _) (Nat.zero_le _) (tri_0 _) rfl
