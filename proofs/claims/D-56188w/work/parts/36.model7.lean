set_option maxRecDepth 100000
theorem c_m_here {E : EV} (S : MS) (G : Nat → Nat) (r : MH) (Q : Nat → Nat) (s : Nat × Nat) (t : Nat) (h7 : S.1 7 = nI t) (ht : t ≤ 60) (hB : ∀ i, i < t → S.2 4 i < 128) (hs : s.1 ≤ t) : SM E yX3_here 0 [.ref 410] (JG (PS S Q s) G r) 0 0 (fun o h' => o = some (.int (pkv (S.2 4) t s.1)) ∧ h' = JG (PS S Q s) G r) (fun _ _ => False) := by
  refine SM.of (cc := cX3_here) (nL := 1) (ret := (some .int)) (hh := []) (ls := [(0, .ref 410)]) pl_X3 (Or.inl ⟨rfl, q2063⟩) rfl q78 rfl rfl ?_
  refine r_aload_n dX3_here_0 rfl ?_
  refine r_getfield dX3_here_1 fl_X3_188_9 (JG_410 _ _ _) rfl ?_
  refine r_ti (v := nI s.1) (PS_a14 S _ _) ?_
  refine r_aload_n dX3_here_4 rfl ?_
  refine r_getfield dX3_here_5 fl_X3_185_9 (JG_410 _ _ _) rfl ?_
  refine r_ti ((PS_a7 S _ _).trans h7) ?_
  refine rn_icmp_ge (tgt := 23) dX3_here_8 rfl (by omega) (by omega) (fun c8 => ?_) (fun c8 => ?_)
  · refine r_iconst dX3_here_23 ki_m1 ?_
    refine r_ireturn dX3_here_24 rfl rfl ?_
    first
    | (exact ⟨by rw [pkv_in (by omega)], rfl⟩)
    | (exact ⟨by rw [pkv_out (by omega)], rfl⟩)
  · refine r_aload_n dX3_here_11 rfl ?_
    refine r_getfield dX3_here_12 fl_X3_22_9 (JG_410 _ _ _) rfl ?_
    refine r_aload_n dX3_here_15 rfl ?_
    refine r_getfield dX3_here_16 fl_X3_188_9 (JG_410 _ _ _) rfl ?_
    refine r_ti (v := nI s.1) (PS_a14 S _ _) ?_
    refine rn_caload dX3_here_19 (JG_415 _ _ _) (by omega) (by omega) ?_
    rw [PS_A4]
    refine r_goto (tgt := 24) dX3_here_20 rfl ?_
    refine r_ireturn dX3_here_24 rfl rfl ?_
    first
    | (exact ⟨by rw [pkv_in (by omega)], rfl⟩)
    | (exact ⟨by rw [pkv_out (by omega)], rfl⟩)
theorem l_m_needs21 {E : EV} {QR : Option Value → MH → Prop} {QX : Nat → MH → Prop} {d kc ks : Nat} (S : MS) (G : Nat → Nat) (r : MH) (Q : Nat → Nat) (p w z c : Nat) (hp : p ≤ 61) (hz : z ≤ 1) (kk : QR none (JG (PS S Q (p + (1 - z), z)) G r)) : SW E yX3_needs cX3_needs 2 none [] QR QX d kc ks (JG (PS S Q (p, w)) G r) 21 [(0, .ref 410), (1, .int (nI c))] [.int (nI z), .ref 410] := by
  refine rg_put15 dX3_needs_21 fp_X3_191_9 (nzz hz) (ftz hz) ?_
  rw [PS_15]
  refine r_aload_n dX3_needs_24 rfl ?_
  refine r_dup dX3_needs_25 rfl ?_
  refine r_getfield dX3_needs_26 fl_X3_188_9 (JG_410 _ _ _) rfl ?_
  refine r_ti (v := nI p) (PS_a14 S _ _) ?_
  refine r_aload_n dX3_needs_29 rfl ?_
  refine r_getfield dX3_needs_30 fl_X3_191_9 (JG_410 _ _ _) rfl ?_
  refine r_ti (v := nI z) (PS_a15 S _ _) ?_
  refine rn_if_eq (tgt := 40) dX3_needs_33 rfl (by omega) (fun c33 => ?_) (fun c33 => ?_)
  · refine r_iconst dX3_needs_40 ki_1 ?_
    refine rn_iadd dX3_needs_41 ?_
    refine rg_put14 dX3_needs_42 fp_X3_188_9 rfl rfl ?_
    rw [PS_14]
    refine r_return dX3_needs_45 rfl ?_
    first
    | (rw [show 1 - z = 1 by omega] at kk
       exact kk)
    | (rw [show 1 - z = 0 by omega] at kk
       exact kk)
  · refine r_iconst dX3_needs_36 ki_0 ?_
    refine r_goto (tgt := 41) dX3_needs_37 rfl ?_
    refine rn_iadd dX3_needs_41 ?_
    refine rg_put14 dX3_needs_42 fp_X3_188_9 rfl rfl ?_
    rw [PS_14]
    refine r_return dX3_needs_45 rfl ?_
    first
    | (rw [show 1 - z = 1 by omega] at kk
       exact kk)
    | (rw [show 1 - z = 0 by omega] at kk
       exact kk)
theorem c_m_needs {E : EV} (S : MS) (G : Nat → Nat) (r : MH) (Q : Nat → Nat) (s : Nat × Nat) (c : Nat) (t : Nat) (h7 : S.1 7 = nI t) (ht : t ≤ 60) (hB : ∀ i, i < t → S.2 4 i < 128) (hs : s.1 ≤ t) (hw : s.2 ≤ 1) (hc : c < 2 ^ 31) : SM E yX3_needs 1 [.ref 410, .int (nI c)] (JG (PS S Q s) G r) 0 0 (fun o h' => o = none ∧ h' = JG (PS S Q (nd (S.2 4) t c s)) G r) (fun _ _ => False) := by
  refine SM.of (cc := cX3_needs) (nL := 2) (ret := none) (hh := []) (ls := [(0, .ref 410), (1, .int (nI c))]) pl_X3 (Or.inl ⟨rfl, q2071⟩) rfl q78 rfl rfl ?_
  refine r_aload_n dX3_needs_0 rfl ?_
  refine r_aload_n dX3_needs_1 rfl ?_
  refine r_getfield dX3_needs_2 fl_X3_191_9 (JG_410 _ _ _) rfl ?_
  refine r_ti (v := nI s.2) (PS_a15 S _ _) ?_
  refine rn_if_ne (tgt := 16) dX3_needs_5 rfl (by omega) (fun c5 => ?_) (fun c5 => ?_)
  · refine r_iconst dX3_needs_16 ki_1 ?_
    refine r_goto (tgt := 21) dX3_needs_17 rfl ?_
    first
    | (exact l_m_needs21 S G r Q s.1 s.2 0 c (by omega) (by decide) ⟨rfl, by rw [nd, if_pos ⟨by omega, c13⟩]⟩)
    | (exact l_m_needs21 S G r Q s.1 s.2 1 c (by omega) (by decide) ⟨rfl, by rw [nd, if_neg (fun z => by first | exact c13 z.2 | exact absurd z.1 (by omega))]; rfl⟩)
  · refine r_aload_n dX3_needs_8 rfl ?_
    refine r_invV dX3_needs_9 (c_m_here S G r Q s t h7 ht hB hs) q2060 q2062 qs61 (JG_410 _ _ _) k9 pn_X3_here mh_X3_here rfl (by omega) (Nat.le_refl _) (Nat.le_refl _) (Nat.le_of_ble_eq_true rfl) (fun v9 h9 hq9 => ?_) (fun _ _ hq => hq.elim)
    obtain ⟨rfl, rfl⟩ := hq9
    refine r_iload_n dX3_needs_12 rfl ?_
    refine r_icmp_eq (tgt := 20) dX3_needs_13 rfl  (fun c13 => ?_) (fun c13 => ?_)
    · rw [pkv_eq hB hc] at c13
      refine r_iconst dX3_needs_20 ki_0 ?_
      first
      | (exact l_m_needs21 S G r Q s.1 s.2 0 c (by omega) (by decide) ⟨rfl, by rw [nd, if_pos ⟨by omega, c13⟩]⟩)
      | (exact l_m_needs21 S G r Q s.1 s.2 1 c (by omega) (by decide) ⟨rfl, by rw [nd, if_neg (fun z => by first | exact c13 z.2 | exact absurd z.1 (by omega))]; rfl⟩)
    · rw [pkv_eq hB hc] at c13
      refine r_iconst dX3_needs_16 ki_1 ?_
      refine r_goto (tgt := 21) dX3_needs_17 rfl ?_
      first
      | (exact l_m_needs21 S G r Q s.1 s.2 0 c (by omega) (by decide) ⟨rfl, by rw [nd, if_pos ⟨by omega, c13⟩]⟩)
      | (exact l_m_needs21 S G r Q s.1 s.2 1 c (by omega) (by decide) ⟨rfl, by rw [nd, if_neg (fun z => by first | exact c13 z.2 | exact absurd z.1 (by omega))]; rfl⟩)
theorem c_m_needsThree {E : EV} (S : MS) (G : Nat → Nat) (r : MH) (Q : Nat → Nat) (s : Nat × Nat) (a b c : Nat) (t : Nat) (h7 : S.1 7 = nI t) (ht : t ≤ 60) (hB : ∀ i, i < t → S.2 4 i < 128) (hs : s.1 ≤ t) (hw : s.2 ≤ 1) (ha : a < 2 ^ 31) (hb : b < 2 ^ 31) (hc : c < 2 ^ 31) : SM E yX3_needsThree 2 [.ref 410, .int (nI a), .int (nI b), .int (nI c)] (JG (PS S Q s) G r) 0 0 (fun o h' => o = none ∧ h' = JG (PS S Q (nds (S.2 4) t [a, b, c] s)) G r) (fun _ _ => False) := by
  have h1 := nd_p (B := S.2 4) (c := a) hs
  have h2 := nd_p (B := S.2 4) (c := b) h1.1
  refine SM.of (cc := cX3_needsThree) (nL := 4) (ret := none) (hh := []) (ls := [(0, .ref 410), (1, .int (nI a)), (2, .int (nI b)), (3, .int (nI c))]) pl_X3 (Or.inl ⟨rfl, q2067⟩) rfl q78 rfl rfl ?_
  refine r_aload_n dX3_needsThree_0 rfl ?_
  refine r_iload_n dX3_needsThree_1 rfl ?_
  refine r_invV dX3_needsThree_2 (c_m_needs S G r Q s a t h7 ht hB hs hw ha) q2068 q2070 qs63 (JG_410 _ _ _) k9 pn_X3_needs mh_X3_needs rfl (by omega) (Nat.le_refl _) (Nat.le_refl _) (Nat.le_of_ble_eq_true rfl) (fun v2 h2 hq2 => ?_) (fun _ _ hq => hq.elim)
  obtain ⟨rfl, rfl⟩ := hq2
  refine r_aload_n dX3_needsThree_5 rfl ?_
  refine r_iload_n dX3_needsThree_6 rfl ?_
  refine r_invV dX3_needsThree_7 (c_m_needs S G r Q (nd (S.2 4) t a s) b t h7 ht hB h1.1 (nd_w _ _ _ _) hb) q2068 q2070 qs63 (JG_410 _ _ _) k9 pn_X3_needs mh_X3_needs rfl (by omega) (Nat.le_refl _) (Nat.le_refl _) (Nat.le_of_ble_eq_true rfl) (fun v7 h7 hq7 => ?_) (fun _ _ hq => hq.elim)
  obtain ⟨rfl, rfl⟩ := hq7
  refine r_aload_n dX3_needsThree_10 rfl ?_
  refine r_iload_n dX3_needsThree_11 rfl ?_
  refine r_invV dX3_needsThree_12 (c_m_needs S G r Q (nd (S.2 4) t b (nd (S.2 4) t a s)) c t h7 ht hB h2.1 (nd_w _ _ _ _) hc) q2068 q2070 qs63 (JG_410 _ _ _) k9 pn_X3_needs mh_X3_needs rfl (by omega) (Nat.le_refl _) (Nat.le_refl _) (Nat.le_of_ble_eq_true rfl) (fun v12 h12 hq12 => ?_) (fun _ _ hq => hq.elim)
  obtain ⟨rfl, rfl⟩ := hq12
  refine r_return dX3_needsThree_15 rfl ?_
  exact ⟨rfl, rfl⟩
theorem l_m_digits40 {E : EV} {QR : Option Value → MH → Prop} {QX : Nat → MH → Prop} {d kc ks : Nat} (hd0 : 2 ≤ d) (S : MS) (G : Nat → Nat) (r : MH) (Q : Nat → Nat) (m : Nat) (t : Nat) (h7 : S.1 7 = nI t) (ht : t ≤ 60) (hB : ∀ i, i < t → S.2 4 i < 128) (hm : m ≤ 3) {R : Nat × Nat} (kk : ∀ q, q = R → QR (some (.int (nI q.2))) (JG (PS S Q (q.1, 0)) G r)) : ∀ (n0 n c p v : Nat), n < n0 → c + n = m → p ≤ t → dgv (S.2 4) t n p v = R → SW E yX3_digits cX3_digits 4 (some .int) [] QR QX d kc ks (JG (PS S Q (p, 0)) G r) 40 [(0, .ref 410), (1, .int (nI m)), (2, .int (nI v)), (3, .int (nI c))] [] := by
  intro n0
  induction n0 with
  | zero => intro n c p v h1; omega
  | succ n0 ih =>
    intro n c p v h1 h2 h3 h4
    refine r_aload_n dX3_digits_40 rfl ?_
    refine r_getfield dX3_digits_41 fl_X3_191_9 (JG_410 _ _ _) rfl ?_
    refine r_ti (v := nI 0) (PS_a15 S _ _) ?_
    refine rn_if_ne (tgt := 95) dX3_digits_44 rfl (by omega) (fun c44 => absurd rfl c44) (fun c44 => ?_)
    refine r_iload_n dX3_digits_47 rfl ?_
    refine r_iload_n dX3_digits_48 rfl ?_
    refine rn_icmp_ge (tgt := 95) dX3_digits_49 rfl (by omega) (by omega) (fun hc => ?_) (fun hc => ?_)
    · rw [show n = 0 by omega, dgv] at h4
      refine r_iload_n dX3_digits_95 rfl ?_
      refine r_ireturn dX3_digits_96 rfl rfl ?_
      exact kk (p, v) h4
    · obtain ⟨n, rfl⟩ : ∃ k, n = k + 1 := ⟨n - 1, by omega⟩
      rw [dgv] at h4
      refine r_aload_n dX3_digits_52 rfl ?_
      refine r_invV dX3_digits_53 (c_m_here S G r Q (p, 0) t h7 ht hB h3) q2060 q2062 qs61 (JG_410 _ _ _) k9 pn_X3_here mh_X3_here rfl (by omega) (Nat.le_refl _) (Nat.le_refl _) (Nat.le_of_ble_eq_true rfl) (fun v53 h53 hq53 => ?_) (fun _ _ hq => hq.elim)
      obtain ⟨rfl, rfl⟩ := hq53
      refine r_bipush dX3_digits_56 kb_48 ?_
      refine r_bipush dX3_digits_58 kb_57 ?_
      refine r_invS dX3_digits_60 (c_m_in (JG (PS S Q (p, 0)) G r) (pkv (S.2 4) t p) (nI 48) (nI 57)) q1761 q1762 pn_X3_in mh_X3_in rfl (by omega) (Nat.le_refl _) (Nat.le_refl _) (Nat.le_of_ble_eq_true rfl) (fun v60 h60 hq60 => ?_) (fun _ _ hq => hq.elim)
      obtain ⟨rfl, rfl⟩ := hq60
      refine r_ti (bi_cg (pkv_d hB)) ?_
      refine rb_if_eq (tgt := 95) dX3_digits_63 rfl  (fun c63 => ?_) (fun c63 => ?_)
      · rw [if_neg c63] at h4
        refine r_iload_n dX3_digits_95 rfl ?_
        refine r_ireturn dX3_digits_96 rfl rfl ?_
        exact kk (p, v) h4
      · rw [if_pos c63] at h4
        refine r_bipush dX3_digits_66 kb_10 ?_
        refine r_iload_n dX3_digits_68 rfl ?_
        refine rn_imul dX3_digits_69 ?_
        refine r_aload_n dX3_digits_70 rfl ?_
        refine r_invV dX3_digits_71 (c_m_here S G r Q (p, 0) t h7 ht hB h3) q2060 q2062 qs61 (JG_410 _ _ _) k9 pn_X3_here mh_X3_here rfl (by omega) (Nat.le_refl _) (Nat.le_refl _) (Nat.le_of_ble_eq_true rfl) (fun v71 h71 hq71 => ?_) (fun _ _ hq => hq.elim)
        obtain ⟨rfl, rfl⟩ := hq71
        refine r_ti (v := nI (S.2 4 p)) (pkv_in c63.1) ?_
        refine rn_iadd dX3_digits_74 ?_
        refine r_bipush dX3_digits_75 kb_48 ?_
        refine rn_isub dX3_digits_77 (by omega) ?_
        refine r_istore_n (ls' := [(0, _), (1, _), (2, _), (3, _)]) dX3_digits_78 rfl rfl ?_
        refine r_aload_n dX3_digits_79 rfl ?_
        refine r_dup dX3_digits_80 rfl ?_
        refine r_getfield dX3_digits_81 fl_X3_188_9 (JG_410 _ _ _) rfl ?_
        refine r_ti (v := nI p) (PS_a14 S _ _) ?_
        refine r_iconst dX3_digits_84 ki_1 ?_
        refine rn_iadd dX3_digits_85 ?_
        refine rg_put14 dX3_digits_86 fp_X3_188_9 rfl rfl ?_
        rw [PS_14]
        refine rn_iinc (n := 1) (ls' := [(0, _), (1, _), (2, _), (3, _)]) dX3_digits_89 rfl rfl rfl ?_
        refine r_goto (tgt := 40) dX3_digits_92 rfl ?_
        exact ih n (c + 1) (p + 1) _ (by omega) (by omega) c63.1 h4
theorem l_m_digits33 {E : EV} {QR : Option Value → MH → Prop} {QX : Nat → MH → Prop} {d kc ks : Nat} (hd0 : 2 ≤ d) (S : MS) (G : Nat → Nat) (r : MH) (Q : Nat → Nat) (m p w z : Nat) (t : Nat) (h7 : S.1 7 = nI t) (ht : t ≤ 60) (hB : ∀ i, i < t → S.2 4 i < 128) (hm : m ≤ 3) (hp : p ≤ t) (hz : z ≤ 1) (kk : QR (some (.int (nI (if z = 0 then (dgv (S.2 4) t m p 0).2 else 0)))) (JG (PS S Q (if z = 0 then ((dgv (S.2 4) t m p 0).1, 0) else (p, z))) G r)) : SW E yX3_digits cX3_digits 4 (some .int) [] QR QX d kc ks (JG (PS S Q (p, w)) G r) 33 [(0, .ref 410), (1, .int (nI m))] [.int (nI z), .ref 410] := by
  refine rg_put15 dX3_digits_33 fp_X3_191_9 (nzz hz) (ftz hz) ?_
  rw [PS_15]
  refine r_iconst dX3_digits_36 ki_0 ?_
  refine r_istore_n (ls' := [(0, _), (1, _), (2, _)]) dX3_digits_37 rfl rfl ?_
  refine r_iconst dX3_digits_38 ki_0 ?_
  refine r_istore_n (ls' := [(0, _), (1, _), (2, _), (3, _)]) dX3_digits_39 rfl rfl ?_
  by_cases hz0 : z = 0
  · subst hz0
    exact l_m_digits40 (by omega) S G r Q m t h7 ht hB hm (fun q e => by rw [if_pos rfl, if_pos rfl] at kk; rw [e]; exact kk) _ m 0 p 0 (Nat.lt_succ_self _) (Nat.zero_add _) hp rfl
  rw [if_neg hz0, if_neg hz0] at kk
  refine r_aload_n dX3_digits_40 rfl ?_
  refine r_getfield dX3_digits_41 fl_X3_191_9 (JG_410 _ _ _) rfl ?_
  refine r_ti (v := nI z) (PS_a15 S _ _) ?_
  refine rn_if_ne (tgt := 95) dX3_digits_44 rfl (by omega) (fun c44 => ?_) (fun c44 => absurd c44 hz0)
  refine r_iload_n dX3_digits_95 rfl ?_
  refine r_ireturn dX3_digits_96 rfl rfl ?_
  exact kk
theorem c_m_digits {E : EV} (S : MS) (G : Nat → Nat) (r : MH) (Q : Nat → Nat) (s : Nat × Nat) (m : Nat) (t : Nat) (h7 : S.1 7 = nI t) (ht : t ≤ 60) (hB : ∀ i, i < t → S.2 4 i < 128) (hs : s.1 ≤ t) (hw : s.2 ≤ 1) (hm : m ≤ 3) : SM E yX3_digits 2 [.ref 410, .int (nI m)] (JG (PS S Q s) G r) 0 0 (fun o h' => o = some (.int (nI (dgs (S.2 4) t m s).2)) ∧ h' = JG (PS S Q (dgs (S.2 4) t m s).1) G r) (fun _ _ => False) := by
  have h1 := nd_p (B := S.2 4) (c := 32) hs
  have h2 := nd_w (S.2 4) t 32 s
  refine SM.of (cc := cX3_digits) (nL := 4) (ret := (some .int)) (hh := []) (ls := [(0, .ref 410), (1, .int (nI m))]) pl_X3 (Or.inl ⟨rfl, q2075⟩) rfl q78 rfl rfl ?_
  refine r_aload_n dX3_digits_0 rfl ?_
  refine r_bipush dX3_digits_1 kb_32 ?_
  refine r_invV dX3_digits_3 (c_m_needs S G r Q s 32 t h7 ht hB hs hw (by decide)) q2068 q2070 qs63 (JG_410 _ _ _) k9 pn_X3_needs mh_X3_needs rfl (by omega) (Nat.le_refl _) (Nat.le_refl _) (Nat.le_of_ble_eq_true rfl) (fun v3 h3 hq3 => ?_) (fun _ _ hq => hq.elim)
  obtain ⟨rfl, rfl⟩ := hq3
  refine r_aload_n dX3_digits_6 rfl ?_
  refine r_aload_n dX3_digits_7 rfl ?_
  refine r_getfield dX3_digits_8 fl_X3_191_9 (JG_410 _ _ _) rfl ?_
  refine r_ti (v := nI (nd (S.2 4) t 32 s).2) (PS_a15 S _ _) ?_
  refine rn_if_ne (tgt := 28) dX3_digits_11 rfl (by omega) (fun c11 => ?_) (fun c11 => ?_)
  · refine r_iconst dX3_digits_28 ki_1 ?_
    refine r_goto (tgt := 33) dX3_digits_29 rfl ?_
    first
    | (exact l_m_digits33 (by decide) S G r Q m (nd (S.2 4) t 32 s).1 (nd (S.2 4) t 32 s).2 0 t h7 ht hB hm h1.1 (by decide) (by rw [dgs, if_pos (show (nd (S.2 4) t 32 s).2 = 0 ∧ isd (S.2 4) t (nd (S.2 4) t 32 s).1 from ⟨by omega, c25⟩)]; exact ⟨rfl, rfl⟩))
    | (exact l_m_digits33 (by decide) S G r Q m (nd (S.2 4) t 32 s).1 (nd (S.2 4) t 32 s).2 1 t h7 ht hB hm h1.1 (by decide) (by rw [dgs, if_neg (show ¬ ((nd (S.2 4) t 32 s).2 = 0 ∧ isd (S.2 4) t (nd (S.2 4) t 32 s).1) from fun z => by first | exact c25 z.2 | exact absurd z.1 (by omega))]; exact ⟨rfl, rfl⟩))
  · refine r_aload_n dX3_digits_14 rfl ?_
    refine r_invV dX3_digits_15 (c_m_here S G r Q (nd (S.2 4) t 32 s) t h7 ht hB h1.1) q2060 q2062 qs61 (JG_410 _ _ _) k9 pn_X3_here mh_X3_here rfl (by omega) (Nat.le_refl _) (Nat.le_refl _) (Nat.le_of_ble_eq_true rfl) (fun v15 h15 hq15 => ?_) (fun _ _ hq => hq.elim)
    obtain ⟨rfl, rfl⟩ := hq15
    refine r_bipush dX3_digits_18 kb_48 ?_
    refine r_bipush dX3_digits_20 kb_57 ?_
    refine r_invS dX3_digits_22 (c_m_in (JG (PS S Q (nd (S.2 4) t 32 s)) G r) (pkv (S.2 4) t (nd (S.2 4) t 32 s).1) (nI 48) (nI 57)) q1761 q1762 pn_X3_in mh_X3_in rfl (by omega) (Nat.le_refl _) (Nat.le_refl _) (Nat.le_of_ble_eq_true rfl) (fun v22 h22 hq22 => ?_) (fun _ _ hq => hq.elim)
    obtain ⟨rfl, rfl⟩ := hq22
    refine r_ti (bi_cg (pkv_d hB)) ?_
    refine rb_if_ne (tgt := 32) dX3_digits_25 rfl  (fun c25 => ?_) (fun c25 => ?_)
    · refine r_iconst dX3_digits_32 ki_0 ?_
      first
      | (exact l_m_digits33 (by decide) S G r Q m (nd (S.2 4) t 32 s).1 (nd (S.2 4) t 32 s).2 0 t h7 ht hB hm h1.1 (by decide) (by rw [dgs, if_pos (show (nd (S.2 4) t 32 s).2 = 0 ∧ isd (S.2 4) t (nd (S.2 4) t 32 s).1 from ⟨by omega, c25⟩)]; exact ⟨rfl, rfl⟩))
      | (exact l_m_digits33 (by decide) S G r Q m (nd (S.2 4) t 32 s).1 (nd (S.2 4) t 32 s).2 1 t h7 ht hB hm h1.1 (by decide) (by rw [dgs, if_neg (show ¬ ((nd (S.2 4) t 32 s).2 = 0 ∧ isd (S.2 4) t (nd (S.2 4) t 32 s).1) from fun z => by first | exact c25 z.2 | exact absurd z.1 (by omega))]; exact ⟨rfl, rfl⟩))
    · refine r_iconst dX3_digits_28 ki_1 ?_
      refine r_goto (tgt := 33) dX3_digits_29 rfl ?_
      first
      | (exact l_m_digits33 (by decide) S G r Q m (nd (S.2 4) t 32 s).1 (nd (S.2 4) t 32 s).2 0 t h7 ht hB hm h1.1 (by decide) (by rw [dgs, if_pos (show (nd (S.2 4) t 32 s).2 = 0 ∧ isd (S.2 4) t (nd (S.2 4) t 32 s).1 from ⟨by omega, c25⟩)]; exact ⟨rfl, rfl⟩))
      | (exact l_m_digits33 (by decide) S G r Q m (nd (S.2 4) t 32 s).1 (nd (S.2 4) t 32 s).2 1 t h7 ht hB hm h1.1 (by decide) (by rw [dgs, if_neg (show ¬ ((nd (S.2 4) t 32 s).2 = 0 ∧ isd (S.2 4) t (nd (S.2 4) t 32 s).1) from fun z => by first | exact c25 z.2 | exact absurd z.1 (by omega))]; exact ⟨rfl, rfl⟩))
