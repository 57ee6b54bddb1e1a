set_option maxRecDepth 100000
/-! ===== the forwarders of lambda classes, walked ===== -/
section FW
variable {E : EV} {G : GL} {p : Program} {l : Launch} {e : Env} {R : Room} {s : State} {ci : ClassId} {args : Array Value} {below : List Frame} {meth : Method} {c : Code} {H : Heap} {locs : List Loc} {cells slots : Nat} {Q : State → Prop}
variable {q : MethodName × Nat × Nat × Lambda.Shape} {z2 : List UInt8 × Nat × List Nat × Nat × Nat} {i : Nat} {pc : Nat} {lsr : Array Slot} {st : List Value} {cc : ByteArray}
theorem fw_getf {j f a : Nat} {vs : List Value} {v : Value} (hexec : p.tables.exec = Jvm.exec) (hb : c.code = cc) (hq : lsit[i]? = some q) (hz : fent[i]? = some z2) (hl : lamOK q ci s) (hts : ∀ w ∈ lw_all, w.before args s = true)
    (hj : z2.2.2.1[j]? = some f) (hv : vs[j]? = some v) (hcell : H[a]? = some { cls := ci, slots := vs.toArray, vm := .none }) (hd : decode cc pc = .ok (.getfield f, 3))
    (k : W p l e R s ⟨ci, 1⟩ args below meth c H locs cells slots Q (F0 ⟨ci, 1⟩ (pc + 3) lsr (v :: st))) : W p l e R s ⟨ci, 1⟩ args below meth c H locs cells slots Q (F0 ⟨ci, 1⟩ pc lsr (.ref a :: st)) := by
  intro T hT X
  have htsT : ∀ w ∈ lw_all, w.before args T = true := fun w hw => word_at X.warmed (good_of_word (lw_good1 hw)) (hts w hw)
  obtain ⟨kk, tk, file, methk, ck, toy, t, -, -, -, -, -, -, -, -, -, -, -, -, -, -, -, -, -, -, -, hfl⟩ := fwd_facts hq hz (lamOK_warm X.warmed hl) htsT
  obtain ⟨g0, hfr, hst, hsl⟩ := hfl j f hj
  obtain ⟨t, st1, hq1⟩ := k T hT X
  have hd' : decode c.code pc = .ok (.getfield f, 3) := by rw [hb]; exact hd
  refine ⟨t, ?_, hq1⟩
  jvm_step X.here [X.here.top, hexec, hd', getfield.wp_ready (e := e) (s := T) (c := ci) (field := g0) (a := a) (rest := st) (cell := { cls := ci, slots := vs.toArray, vm := .none }) (v := v)
    (f := F0 ⟨ci, 1⟩ pc lsr (.ref a :: st)) X.here.top hfr hst rfl (by rw [hT]; exact hcell) (by intro h; cases h) (by rw [hsl, List.getElem?_toArray]; exact hv)]
  exact st1
theorem fw_invS {yT : MethodName} {d2 a2 b2 pcI mi : Nat} {vs : List Value} {h : MH} {ty : FieldType} {QR2 : Option Value → MH → Prop} {QX2 : Nat → MH → Prop} (hexec : p.tables.exec = Jvm.exec) (hfl : l.flags = flags0) (hb : c.code = cc) (hq : lsit[i]? = some q) (hz : fent[i]? = some z2) (hl : lamOK q ci s) (hts : ∀ w ∈ lw_all, w.before args s = true)
    (hM : SM E yT d2 vs h a2 b2 QR2 QX2) (hyT : yT = ⟨q.2.2.2.implClass, q.2.2.2.implName, q.2.2.2.implDesc.toString⟩) (hmh : yT.cls ≠ "java/lang/invoke/MethodHandle" ∧ yT.cls ≠ "java/lang/invoke/VarHandle") (hsta : Cond.static yT ∈ lw_all) (hn : (parseMethodDescriptor yT.desc).map (fun z => z.parameters.length) = some vs.length)
    (hR : Rep E G h H) (hG : GOK E G s) (hfr : d2 + 1 ≤ R.frames) (hlo : 59 + LB d2 ≤ R.locals) (hce : a2 ≤ R.cells) (hsl : b2 ≤ R.slots) (hsz : lsr.size = c.maxLocals) (hlk : meth.locks = false) (hrt : meth.sig.returnType = some ty) (hex : c.exceptionTable.toList = [])
    (hmi : z2.2.2.2.1 = mi) (hd : decode cc pcI = .ok (.invokestatic mi, 3)) (hd2 : decode cc (pcI + 3) = .ok (.ireturn, 1)) (hret : ∀ v h', QR2 v h' → ∃ n, v = some (.int n) ∧ narrow ty (.int n) = .int n) :
    W p l e R s ⟨ci, 1⟩ args below meth c H [] 0 0 (sMQ below E G QR2 QX2 args s a2 b2) (F0 ⟨ci, 1⟩ pcI lsr ((vs.map (mv G.1)).reverse)) := by
  intro T hT X
  have htsT : ∀ w ∈ lw_all, w.before args T = true := fun w hw => word_at X.warmed (good_of_word (lw_good1 hw)) (hts w hw)
  obtain ⟨kk, tk, file, methk, ck, toy, t, f1, f2, f3, f4, f5, f6, f7, f8, f9, f10, f11, f12, f13, f14, f15, f16, f17, f18, f19, -⟩ := fwd_facts hq hz (lamOK_warm X.warmed hl) htsT
  obtain ⟨⟨ccM, nLM, retM, hhM, hcode, -⟩, hini, -⟩ := id hM
  obtain ⟨mB, methM, cM, hnamed, hmethM, -, -, -, -, -, -, hsigM⟩ := code_at hcode htsT
  have hstatic : methM.isStatic = true := Cond.static_spec hnamed hmethM (htsT _ hsta)
  have hcls := findClass_of_methodNamed hnamed
  obtain ⟨kT, hkT, hnT⟩ := className_of_methodNamed hnamed
  have hmf := State.methodFound?_of_named hnamed hmh
  have eT : toy = mB.cls := by
    rw [hyT] at hcls
    exact Option.some.inj (f14.symm.trans hcls)
  subst eT
  cases f15.symm.trans hkT
  have htB : t = mB := by
    rw [hyT] at hmf
    simp only [State.methodFound?, f14, f15, Option.bind_eq_bind, Option.bind_some] at hmf
    rw [f17] at hmf
    exact Option.some.inj hmf
  subst htB
  have hinit : tk.init = .initialized := Cond.initialized_spec hcls f15 (htsT _ hini)
  have hsp : ∀ y : Method, signaturePolymorphic tk y = false := fun y => by
    simp [signaturePolymorphic, hnT, hmh.1, hmh.2]
  subst hmi
  obtain ⟨b, hmem⟩ := memberRef_ask' (e := e) (vm := T.vm) (d := ci) (index := z2.2.2.2.1) f1 f3 (Or.inl f4) f5
  have hlen : (vs.map (mv G.1)).length = methM.sig.parameters.length := by
    rw [hsigM] at hn
    rw [List.length_map]
    exact (Option.some.inj hn).symm
  have hd' : decode c.code pcI = .ok (.invokestatic z2.2.2.2.1, 3) := by rw [hb]; exact hd
  have hK := s_back (G := G) (l := l) (R := R) (p := p) (e := e) (below := below) (s := s) (sargs := args) (len := 3) (W9 := 8) hM hfl hts hfr (by omega)
  rcases hK ⟨ci, 1⟩ meth c ⟨T, [], 0, 0⟩ (F0 ⟨ci, 1⟩ pcI lsr []) (.invokestatic z2.2.2.2.1) t (vs.map (mv G.1)).toArray X rfl hsz hd' (by show 2 * 0 + 0 ≤ 8; decide) hnamed
      ⟨by show 0 + a2 ≤ R.cells; omega, by show 0 + b2 ≤ R.slots; omega, rfl, by show Rep E G h T.heap; rw [hT]; exact hR, hG.warm X.warmed⟩ with
    ⟨v, ⟨U', l2, c2, s2⟩, X', ⟨v0, h', L, rfl, hq1, hRep, e1, hLn, e2, e3⟩, hsteps⟩ | ⟨q1, ⟨U', l2, c2, s2⟩, X', ⟨q0, h', L, rfl, hq1, hRep, e1, hLn, e2, e3⟩, hsteps⟩
  · have e1 : l2 = L := e1
    have e2 : c2 = a2 := e2.trans (Nat.zero_add _)
    have e3 : s2 = b2 := e3.trans (Nat.zero_add _)
    dsimp only [Pt.U, Pt.locs, Pt.cells, Pt.slots] at X' hRep hsteps
    rw [e1, e2, e3] at X'
    obtain ⟨n, rfl, hnar⟩ := hret v0 h' hq1
    have kw : W p l e R s ⟨ci, 1⟩ args below meth c U'.heap L a2 b2 (sMQ below E G QR2 QX2 args s a2 b2) (F0 ⟨ci, 1⟩ (pcI + 3) lsr [.int n]) :=
      sm_ret (W.zret (ty := ty) hexec hb hrt hnar (fun t ht hW => ⟨some (.int n), h', rfl, hq1, by rw [ht]; exact hRep⟩) hLn hd2 hlk) (Nat.le_refl _) (Nat.le_refl _)
    obtain ⟨tt, a1, b1⟩ := kw U' rfl X'
    refine ⟨tt, ?_, b1⟩
    jvm_step X.here [X.here.top, hexec, hd', invokestatic.wp_ready (e := e) (s := T) (m := t) (k := tk) (meth := methM) (args := vs.map (mv G.1)) (rest := [])
      (f := F0 ⟨ci, 1⟩ pcI lsr ((vs.map (mv G.1)).reverse)) X.here.top ⟨z2.2.2.2.2, _, _, b, t.cls, tk, hmem, f19, f15, by simp [hsp]⟩ f18 f15 hmethM (hsp _) hstatic hinit hlen (by rw [List.append_nil])]
    intro acts'
    rw [doInvoke_state]
    exact hsteps.trans a1
  · have e1 : l2 = L := e1
    have e2 : c2 = a2 := e2.trans (Nat.zero_add _)
    have e3 : s2 = b2 := e3.trans (Nat.zero_add _)
    dsimp only [Pt.U, Pt.locs, Pt.cells, Pt.slots] at X' hRep hsteps
    rw [e1, e2, e3] at X'
    obtain ⟨st1, hrun, hend, hW, hsm⟩ := X'.leaveThrown (G.1 q0) (g := F0 ⟨ci, 1⟩ pcI lsr []) rfl rfl rfl (by rw [hex]; intro z hz; cases hz) hlk
    refine ⟨_, ?_, .threw (G.1 q0), hrun, hend, h', L, hRep, hLn, Or.inr ⟨q0, rfl, hq1, hW, hsm⟩⟩
    jvm_step X.here [X.here.top, hexec, hd', invokestatic.wp_ready (e := e) (s := T) (m := t) (k := tk) (meth := methM) (args := vs.map (mv G.1)) (rest := [])
      (f := F0 ⟨ci, 1⟩ pcI lsr ((vs.map (mv G.1)).reverse)) X.here.top ⟨z2.2.2.2.2, _, _, b, t.cls, tk, hmem, f19, f15, by simp [hsp]⟩ f18 f15 hmethM (hsp _) hstatic hinit hlen (by rw [List.append_nil])]
    intro acts'
    rw [doInvoke_state]
    exact hsteps.trans st1
theorem fw_invV {yT : MethodName} {d2 a2 b2 pcI mi : Nat} {vs As fs : List Value} {ob oc : Nat} {r9 : vw_C} {h : MH} {ty : FieldType} {QR2 : Option Value → MH → Prop} {QX2 : Nat → MH → Prop} (hexec : p.tables.exec = Jvm.exec) (hfl : l.flags = flags0) (hb : c.code = cc) (hq : lsit[i]? = some q) (hz : fent[i]? = some z2) (hl : lamOK q ci s) (hts : ∀ w ∈ lw_all, w.before args s = true)
    (hvs : vs = .ref ob :: As) (hM : SM E yT d2 vs h a2 b2 QR2 QX2) (hyT : yT = ⟨q.2.2.2.implClass, q.2.2.2.implName, q.2.2.2.implDesc.toString⟩) (hmh : yT.cls ≠ "java/lang/invoke/MethodHandle" ∧ yT.cls ≠ "java/lang/invoke/VarHandle") (hins : Cond.instanceMethod yT ∈ lw_all) (hselw : Cond.selects r9.1 yT yT ∈ lw_all) (hob : h.2 ob = some (.inr (oc, fs))) (hr9 : kcl[oc]? = some r9) (hitf : q.2.2.2.implItf = false) (hn : (parseMethodDescriptor yT.desc).map (fun z => z.parameters.length) = some As.length)
    (hR : Rep E G h H) (hG : GOK E G s) (hfr : d2 + 1 ≤ R.frames) (hlo : 59 + LB d2 ≤ R.locals) (hce : a2 ≤ R.cells) (hsl : b2 ≤ R.slots) (hsz : lsr.size = c.maxLocals) (hlk : meth.locks = false) (hrt : meth.sig.returnType = some ty) (hex : c.exceptionTable.toList = [])
    (hmi : z2.2.2.2.1 = mi) (hd : decode cc pcI = .ok (.invokevirtual mi, 3)) (hd2 : decode cc (pcI + 3) = .ok (.ireturn, 1)) (hret : ∀ v h', QR2 v h' → ∃ n, v = some (.int n) ∧ narrow ty (.int n) = .int n) :
    W p l e R s ⟨ci, 1⟩ args below meth c H [] 0 0 (sMQ below E G QR2 QX2 args s a2 b2) (F0 ⟨ci, 1⟩ pcI lsr ((vs.map (mv G.1)).reverse)) := by
  intro T hT X
  have htsT : ∀ w ∈ lw_all, w.before args T = true := fun w hw => word_at X.warmed (good_of_word (lw_good1 hw)) (hts w hw)
  obtain ⟨kk, tk, file, methk, ck, toy, t, f1, f2, f3, f4, f5, f6, f7, f8, f9, f10, f11, f12, f13, f14, f15, f16, f17, f18, f19, -⟩ := fwd_facts hq hz (lamOK_warm X.warmed hl) htsT
  obtain ⟨⟨ccM, nLM, retM, hhM, hcode, -⟩, hini, -⟩ := id hM
  obtain ⟨mB, methM, cM, hnamed, hmethM, -, -, -, -, -, -, hsigM⟩ := code_at hcode htsT
  obtain ⟨mk', methM', hnamed', hmethM', hstM, habM⟩ := Cond.instanceMethod_spec (htsT _ hins)
  cases hnamed.symm.trans hnamed'
  cases hmethM.symm.trans hmethM'
  obtain ⟨cell, g1, g2, g3⟩ := rd_recv hR (hG.warm X.warmed) htsT hob hr9
  obtain ⟨c9, r8, m9, q1, q2, q3, q4, kP, hkP, hkPi⟩ := Cond.selects_spec (htsT _ hselw)
  cases g3.symm.trans q1
  cases (State.methodFound?_of_named hnamed hmh).symm.trans q2
  cases hnamed.symm.trans q3
  have hselP : selectMethod e.platform T.vm cell.cls mB = .method mB := by rw [Launch.admits_selectMethod X.admits]; exact q4
  have hcls := findClass_of_methodNamed hnamed
  obtain ⟨kT, hkT, hnT⟩ := className_of_methodNamed hnamed
  have hmf := State.methodFound?_of_named hnamed hmh
  have eT : toy = mB.cls := by
    rw [hyT] at hcls
    exact Option.some.inj (f14.symm.trans hcls)
  subst eT
  cases f15.symm.trans hkT
  have htB : t = mB := by
    rw [hyT] at hmf
    simp only [State.methodFound?, f14, f15, Option.bind_eq_bind, Option.bind_some] at hmf
    rw [f17] at hmf
    exact Option.some.inj hmf
  subst htB
  have hsp : ∀ y : Method, signaturePolymorphic tk y = false := fun y => by
    simp [signaturePolymorphic, hnT, hmh.1, hmh.2]
  subst hmi
  have hlen : (As.map (mv G.1)).length = methM.sig.parameters.length := by
    rw [hsigM] at hn
    rw [List.length_map]
    exact (Option.some.inj hn).symm
  have hd' : decode c.code pcI = .ok (.invokevirtual z2.2.2.2.1, 3) := by rw [hb]; exact hd
  have hK := s_back (G := G) (l := l) (R := R) (p := p) (e := e) (below := below) (s := s) (sargs := args) (len := 3) (W9 := 8) hM hfl hts hfr (by omega)
  rcases hK ⟨ci, 1⟩ meth c ⟨T, [], 0, 0⟩ (F0 ⟨ci, 1⟩ pcI lsr []) (.invokevirtual z2.2.2.2.1) t (vs.map (mv G.1)).toArray X rfl hsz hd' (by show 2 * 0 + 0 ≤ 8; decide) hnamed
      ⟨by show 0 + a2 ≤ R.cells; omega, by show 0 + b2 ≤ R.slots; omega, rfl, by show Rep E G h T.heap; rw [hT]; exact hR, hG.warm X.warmed⟩ with
    ⟨v, ⟨U', l2, c2, s2⟩, X', ⟨v0, h', L, rfl, hq1, hRep, e1, hLn, e2, e3⟩, hsteps⟩ | ⟨q1, ⟨U', l2, c2, s2⟩, X', ⟨q0, h', L, rfl, hq1, hRep, e1, hLn, e2, e3⟩, hsteps⟩
  · have e1 : l2 = L := e1
    have e2 : c2 = a2 := e2.trans (Nat.zero_add _)
    have e3 : s2 = b2 := e3.trans (Nat.zero_add _)
    dsimp only [Pt.U, Pt.locs, Pt.cells, Pt.slots] at X' hRep hsteps
    rw [e1, e2, e3] at X'
    obtain ⟨n, rfl, hnar⟩ := hret v0 h' hq1
    have kw : W p l e R s ⟨ci, 1⟩ args below meth c U'.heap L a2 b2 (sMQ below E G QR2 QX2 args s a2 b2) (F0 ⟨ci, 1⟩ (pcI + 3) lsr [.int n]) :=
      sm_ret (W.zret (ty := ty) hexec hb hrt hnar (fun t ht hW => ⟨some (.int n), h', rfl, hq1, by rw [ht]; exact hRep⟩) hLn hd2 hlk) (Nat.le_refl _) (Nat.le_refl _)
    obtain ⟨tt, a1, b1⟩ := kw U' rfl X'
    refine ⟨tt, ?_, b1⟩
    jvm_step X.here [X.here.top, hexec, hd', invokevirtual.wp_ready (e := e) (s := T) (a := G.1 ob) (r := t) (m := t) (k := tk) (mk := tk) (rmeth := methM) (meth := methM) (args := As.map (mv G.1)) (rest := []) (cell := cell)
      (f := F0 ⟨ci, 1⟩ pcI lsr ((vs.map (mv G.1)).reverse)) X.here.top ⟨kk, file, z2.2.2.2.2, _, t.cls, tk, f1, f3, f4, f19, f15, f16.trans hitf⟩ f18 f15 hmethM (hsp _) hstM hlen (by rw [hvs]; show (((Value.ref ob :: As).map (mv G.1)).reverse) = _; simp [mv]) (by rw [hT]; exact g1) (fun z h => by rw [h] at g2; cases g2) hselP hmethM habM f15 (f16.trans hitf)]
    intro acts'
    rw [doInvoke_state]
    rw [hvs] at hsteps
    exact hsteps.trans a1
  · have e1 : l2 = L := e1
    have e2 : c2 = a2 := e2.trans (Nat.zero_add _)
    have e3 : s2 = b2 := e3.trans (Nat.zero_add _)
    dsimp only [Pt.U, Pt.locs, Pt.cells, Pt.slots] at X' hRep hsteps
    rw [e1, e2, e3] at X'
    obtain ⟨st1, hrun, hend, hW, hsm⟩ := X'.leaveThrown (G.1 q0) (g := F0 ⟨ci, 1⟩ pcI lsr []) rfl rfl rfl (by rw [hex]; intro z hz; cases hz) hlk
    refine ⟨_, ?_, .threw (G.1 q0), hrun, hend, h', L, hRep, hLn, Or.inr ⟨q0, rfl, hq1, hW, hsm⟩⟩
    jvm_step X.here [X.here.top, hexec, hd', invokevirtual.wp_ready (e := e) (s := T) (a := G.1 ob) (r := t) (m := t) (k := tk) (mk := tk) (rmeth := methM) (meth := methM) (args := As.map (mv G.1)) (rest := []) (cell := cell)
      (f := F0 ⟨ci, 1⟩ pcI lsr ((vs.map (mv G.1)).reverse)) X.here.top ⟨kk, file, z2.2.2.2.2, _, t.cls, tk, f1, f3, f4, f19, f15, f16.trans hitf⟩ f18 f15 hmethM (hsp _) hstM hlen (by rw [hvs]; show (((Value.ref ob :: As).map (mv G.1)).reverse) = _; simp [mv]) (by rw [hT]; exact g1) (fun z h => by rw [h] at g2; cases g2) hselP hmethM habM f15 (f16.trans hitf)]
    intro acts'
    rw [doInvoke_state]
    rw [hvs] at hsteps
    exact hsteps.trans st1
end FW
