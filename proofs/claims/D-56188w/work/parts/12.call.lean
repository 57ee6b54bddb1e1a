set_option maxRecDepth 100000
/-! ===== contracts, calls, exceptions ===== -/
theorem lw_good1 {w : Cond} (h : w ∈ lw_all) : goodWord w = true := (List.mem_filter.mp h).2
theorem fv.moved {u U : State} (hvm : u.vm.Alike U.vm) {cell : Cell} {o n d : String} {v : Value} (h : fv u cell o n d v) : fv U cell o n d v := by
  obtain ⟨cf, kf, i, f, h1, h2, h3⟩ := h
  obtain ⟨k', hi', -⟩ := State.fieldFound?_setVm hvm h1
  exact ⟨cf, k', i, f, hi', h2, h3⟩
theorem nw_warm {w : Cond} (hw : nwGood w = true) {s U : State} (hW : s.WarmedH U.vm) (h : va_Nw w s) : va_Nw w U := by
  cases w <;> first | exact absurd hw (by decide) | exact va_Nw.warmC hW h | exact va_Nw.warmM hW h | exact va_Nw.warmD hW h | (simp [nwGood] at hw)
theorem lamOK_warm {q : MethodName × Nat × Nat × Lambda.Shape} {c : ClassId} {s U : State} (hW : s.WarmedH U.vm) (h : lamOK q c s) : lamOK q c U := by
  obtain ⟨m, k, cf, i0, p0, hm, hk, hcf, hsh, hfind, hmade, hcall, ic, ki, hic, hki, hii⟩ := h
  obtain ⟨k', hk', he⟩ := hW.alike.2.2 _ _ hk
  obtain ⟨ki', hki', hei⟩ := hW.alike.2.2 _ _ hki
  refine ⟨m, k', cf, i0, p0, ?_, hk', by rw [he]; exact hcf, hsh, by rw [he]; exact hfind, Lambda.isMade_warmer hW hmade, ?_, ic, ki', by rw [hW.alike.findClass]; exact hic, hki', by rw [hei]; exact hii⟩
  · have := State.methodNamed?_setVm (s := s) hW.alike q.1
    rw [hm] at this
    exact this
  · have hA := hW.alike
    simp only [State.lambdaCallable, hA.findClass, hA.assignable, hA.superclasses, hA.declaredIn] at hcall ⊢
    exact hcall
theorem GOK.warm {E : EV} {G : GL} {s U : State} (h : GOK E G s) (hW : s.WarmedH U.vm) : GOK E G U := by
  obtain ⟨h1, h2, h3, h4, h5, h6, h7, h8, h9, h10, ⟨h11, h12⟩, h13⟩ := h
  have hvm := hW.alike
  refine ⟨va_K.moved hvm h1, fun w hw hg => nw_warm hg hW (h2 w hw hg), fun q hq => va_Nc.moved hvm (h3 q hq), va_AO.moved hvm h4, fun k c hc => ?_, fun q hq => va_Z.moved hvm (h6 q hq), fun i q hq => vk_R.warm hW (h7 i q hq), h8, h9, h10, ⟨vx_Zq.moved hvm h11, vx_Zq.moved hvm h12⟩, fun i q hq => lamOK_warm hW (h13 i q hq)⟩
  obtain ⟨cell, e1, e2, e3, e4⟩ := h5 k c hc
  refine ⟨cell, e1, e2, e3, ?_⟩
  cases c with
  | inl a =>
    obtain ⟨f1, f2, f3⟩ := e4
    exact ⟨State.isArrayOf_alike hvm f1, f2, f3⟩
  | inr ob =>
    obtain ⟨r, f1, f2, f3⟩ := e4
    exact ⟨r, f1, by rw [hvm.findClass]; exact f2, fun j hj => (f3 j hj).moved hvm⟩
/-- what the word of a method's code says -/
theorem code_at {y : MethodName} {cc : ByteArray} {nL : Nat} {ret : Option FieldType} {hh : List (Nat × Nat × Nat × Nat)} {s : State} {args : Array Value} (hc : isCode y cc nL ret hh) (hts : ∀ w ∈ lw_all, w.before args s = true) :
    ∃ (mk : MethodId) (meth : Method) (c : Code), s.methodNamed? y = some mk ∧ s.vm.method? mk = some meth ∧ meth.code = some c ∧ c.code = cc ∧ c.maxLocals = nL ∧ meth.sig.returnType = ret ∧ meth.locks = false ∧ c.exceptionTable.toList = tableOf hh ∧ parseMethodDescriptor y.desc = some meth.sig := by
  rcases hc with ⟨rfl, hc⟩ | hc
  · obtain ⟨mk, hn⟩ := Cond.code_named (hts _ hc)
    obtain ⟨meth, c, h1, h2, h3, h4, h5, h6, h7, h8⟩ := Cond.code_spec hn (hts _ hc)
    exact ⟨mk, meth, c, hn, h1, h2, h3, h4, h5, h6, by rw [Array.isEmpty_iff.mp h7]; rfl, h8⟩
  · obtain ⟨mk, meth, c, hn, h1, h2, h3, h4, h5, h6, h7, h8⟩ := Cond.codeWith_spec (hts _ hc)
    exact ⟨mk, meth, c, hn, h1, h2, h3, h4, h6, h7, by rw [← h5, table_eq], h8⟩
theorem lm_args (ρ : Nat → Nat) (vs : List Value) : ∀ i, lv_args i (vs.map (mv ρ)) = lm ρ (lv_args i vs) := by
  induction vs with
  | nil => intro i; rfl
  | cons v t ih =>
    intro i
    show (i, mv ρ v) :: lv_args (if (mv ρ v).category = 2 then i + 2 else i + 1) (t.map (mv ρ)) = (i, mv ρ v) :: lm ρ (lv_args (if v.category = 2 then i + 2 else i + 1) t)
    rw [mv_cat, ih]
theorem lg_len (ρ : Nat → Nat) (vs : List Value) : (lg_sl (vs.map (mv ρ))).length = (lg_sl vs).length := by
  induction vs with
  | nil => rfl
  | cons v t ih =>
    have e : ∀ (w : Value) (l : List Value), (lg_sl (w :: l)).length = (if w.category = 2 then 2 else 1) + (lg_sl l).length := by
      intro w l
      unfold lg_sl
      rw [List.flatMap_cons, List.length_append]
      split <;> rfl
    rw [List.map_cons, e, e, mv_cat, ih]
/-- A CONTRACT OUT OF A WALK -/
theorem SM.of {E : EV} {y : MethodName} {cc : ByteArray} {nL : Nat} {ret : Option FieldType} {hh : List (Nat × Nat × Nat × Nat)} {QR : Option Value → MH → Prop} {QX : Nat → MH → Prop} {d mc ms : Nat} {h : MH} {vs : List Value} {ls : List (Nat × Value)}
    (hy : plainName y.cls = true) (hcode : isCode y cc nL ret hh) (hn : Nat.ble nL 40 = true) (hini : Cond.initialized y.cls ∈ lw_all) (hlen : Nat.ble (lg_sl vs).length nL = true) (hls : lv_args 0 vs = ls)
    (body : SW E y cc nL ret hh QR QX d mc ms h 0 ls []) : SM E y d vs h mc ms QR QX := by
  refine ⟨⟨cc, nL, ret, hh, hcode, Nat.le_of_ble_eq_true hn⟩, hini, fun l hfl G => ?_⟩
  subst hls
  refine MetFree.of_bodyS (code := cc) (maxLocals := nL) (ret := ret) hy ?_ ?_
  · intro args s m hp hnm
    obtain ⟨mk, meth, c, hn, h1, h2, h3, h4, h5, h6, -, -⟩ := code_at hcode (atoms_spec (ws := lw_all) hp)
    cases hnm.symm.trans hn
    exact ⟨meth, c, h1, h2, h3, h4, h5, h6⟩
  · intro p e s m args below meth c s₁ B hml hP _
    obtain ⟨rfl, hR, hG⟩ := hP
    have hts := atoms_spec (ws := lw_all) B.pre
    have hh0 : s₁.heap = s.heap := by rw [B.state]; rfl
    have hl := lv_entry (vs.map (mv G.1)) (n := nL) (by rw [lg_len]; exact Nat.le_of_ble_eq_true hlen)
    rw [lm_args] at hl
    have htab : c.exceptionTable.toList = tableOf hh := by
      obtain ⟨mk, meth9, c9, hn9, h1, h2, -, -, -, -, h7, -⟩ := code_at hcode hts
      cases Option.some.inj (hn9.symm.trans B.named)
      cases Option.some.inj (h1.symm.trans B.method)
      cases Option.some.inj (h2.symm.trans (Stand.of_body B).code)
      exact h7
    have K := body l G mc ms p e s m (vs.map (mv G.1)).toArray below meth c s.heap [] 0 0 _ ⟨B.exec, B.bytes, B.returns, B.notSynchronized, hml, findClass_of_methodNamed B.named, ⟨(name_of_methodNamed B.named B.method).1, B.named⟩, htab, hts, hG, hfl⟩ hR (fun z hz => by cases hz) (by omega) (by omega) hl
    obtain ⟨t, a1, oc, b1, b2, b3⟩ := K s₁ hh0 (Stand.of_body B)
    refine ⟨t, oc, ?_, b1, b2, b3⟩
    rw [lg_entry_eq]
    exact a1
/-- fewer frames, cells, slots will do -/
def sPre (E : EV) (G : GL) (R : Room) (vs : List Value) (h : MH) (mc ms : Nat) : Pt → Array Value → Prop := fun A a => A.cells + mc ≤ R.cells ∧ A.slots + ms ≤ R.slots ∧ a = (vs.map (mv G.1)).toArray ∧ Rep E G h A.U.heap ∧ GOK E G A.U
def sPost (E : EV) (G : GL) (QR : Option Value → MH → Prop) (mc ms : Nat) : Pt → Array Value → Option Value → Pt → Prop := fun A _ v B => ∃ (v0 : Option Value) (h' : MH) (L : List Loc), v = v0.map (mv G.1) ∧ QR v0 h' ∧ Rep E G h' B.U.heap ∧ B.locs = A.locs ++ L ∧ (∀ z ∈ L, G.2.1 ≤ z.base) ∧ B.cells = A.cells + mc ∧ B.slots = A.slots + ms
def sPostX (E : EV) (G : GL) (QX : Nat → MH → Prop) (mc ms : Nat) : Pt → Array Value → Addr → Pt → Prop := fun A _ q B => ∃ (q0 : Nat) (h' : MH) (L : List Loc), q = G.1 q0 ∧ QX q0 h' ∧ Rep E G h' B.U.heap ∧ B.locs = A.locs ++ L ∧ (∀ z ∈ L, G.2.1 ≤ z.base) ∧ B.cells = A.cells + mc ∧ B.slots = A.slots + ms
theorem s_back {E : EV} {y : MethodName} {d0 : Nat} {vs : List Value} {h0 : MH} {mc ms : Nat} {QR : Option Value → MH → Prop} {QX : Nat → MH → Prop} {l : Launch} {R : Room} {p : Program} {e : Env} {below : List Frame} {s : State} {sargs : Array Value} {len W9 : Nat} {G : GL}
    (hM : SM E y d0 vs h0 mc ms QR QX) (hfl : l.flags = flags0) (hts : ∀ w ∈ lw_all, w.before sargs s = true) (hfr : d0 + 1 ≤ R.frames) (hlo : W9 + 51 + LB d0 ≤ R.locals) :
    vx_Back l R p e below s sargs y len W9 (sPre E G R vs h0 mc ms) (sPost E G QR mc ms) (sPostX E G QX mc ms) := by
  intro m meth c A g ig mk a X hg hsize hdg hW hn hp
  obtain ⟨⟨cc, nL, ret, hh, hcode, hnL⟩, hini, hmet⟩ := hM
  have htsA : ∀ w ∈ lw_all, w.before a A.U = true := fun w hw => word_at X.warmed (good_of_word (lw_good1 hw)) (hts w hw)
  have h1 : (headSpec lw_all (RM d0 mc ms)).pre.before a A.U = true := atoms_intro htsA
  obtain ⟨p1, p2, p3, p4, p5⟩ := hp
  obtain ⟨mkY, methY, cY, hnY, hmY, hcY, -, hlY, -, -, -, -⟩ := code_at hcode htsA
  cases hn.symm.trans hnY
  have hPc : (fun a s => a = (vs.map (mv G.1)).toArray ∧ Rep E G h0 s.heap ∧ GOK E G s) a (A.U.calling g mk a) := ⟨p3, p4, p5.warm (State.WarmedH.refl A.U)⟩
  obtain ⟨U, Ls, c0, s0⟩ := A
  dsimp only [Pt.U, Pt.locs, Pt.cells, Pt.slots] at h1 htsA p1 p2 p4 p5 X hn hPc hnY hmY ⊢
  obtain ⟨kY, hkY, -⟩ := className_of_methodNamed hn
  have hinitY : kY.init = .initialized := Cond.initialized_spec (findClass_of_methodNamed hn) hkY (htsA _ hini)
  have h : At U g.method c below := by rw [hg]; exact X.here
  have happ : (headSpec lw_all (RM d0 mc ms)).appliesLoose y e.platform (U.calling g mk a) = true :=
    Spec.appliesLoose_calling (g := g) h hdg hn hkY hinitY
      (X.room_calling (g := g) (R' := RM d0 mc ms) hsize hmY hcY hfr (by rw [hlY]; show _ + LB d0 ≤ _; omega) p1 p2) h1
  obtain ⟨mid, hmid⟩ := h.above
  have hfr9 : (U.setTop g).frames = (.java g :: mid) ++ below := by rw [State.frames_setTop' g h.top, hmid]; rfl
  obtain ⟨oc, s₂, hsteps, -, hend, hq⟩ := Steps.callFree (hmet l hfl G) p X.admits X.cas X.clock (acts := []) hfr9 happ hPc trivial
  have hq' : sQ E G QR QX mc ms a (U.calling g mk a) oc s₂ := hq
  rw [State.frames_setTop' g h.top] at hend
  obtain ⟨g₀, hg0⟩ := Option.isSome_iff_exists.mp h.top
  obtain ⟨r, hr⟩ := State.topJava?_eq_some.mp hg0
  have hr' : (({ U with heap := s₂.heap, slotsUsed := s₂.slotsUsed } : State).setVm s₂.vm).frames = .java g₀ :: r := hr
  obtain ⟨h', L, hRep, hLn, hq'⟩ := hq'
  rcases hq' with ⟨v0, rfl, hqr, hfe⟩ | ⟨q, rfl, hqx, hW₂, hsm⟩
  · obtain ⟨-, hW₂, e2, q2, q3, q4, q5, q6⟩ := id hfe
    have e3 : s₂ = ({ (U.calling g mk a).setFrames s₂.frames with heap := s₂.heap, slotsUsed := s₂.slotsUsed } : State).setVm s₂.vm := by
      have : s₂ = ({ s₂ with vm := (U.calling g mk a).vm } : State).setVm s₂.vm := rfl
      rw [e2] at this
      exact this
    obtain ⟨c₂, i₂, len₂, hc₂, hd₂, hf₂⟩ := hend
    have hW' : U.WarmedH s₂.vm := hW₂
    have hcc : c₂ = c := by
      have h1 : s₂.code? g.method = U.code? g.method := by
        rw [State.code?_eq, State.code?_eq, hW'.alike.method?]
      exact Option.some.inj (hc₂.symm.trans (h1.trans h.code))
    subst hcc
    have hlen : len₂ = len := by rw [hdg] at hd₂; cases hd₂; rfl
    subst hlen
    have hs₂ : s₂ = (({ U with heap := s₂.heap, slotsUsed := s₂.slotsUsed } : State).setVm s₂.vm).setTop { g with pc := g.pc + len₂, stack := (v0.map (mv G.1)).toList ++ g.stack } := by
      refine e3.trans ?_
      rw [hf₂, State.calling_eq h.top, State.setFrames_setFrames, State.setTop_of_frames _ hr', hr]
      rfl
    have hsame : U.sameButNew ({ U with heap := s₂.heap, slotsUsed := s₂.slotsUsed } : State) L mc ms := by
      refine ⟨?_, q2, q3, q4, q5, q6⟩
      obtain ⟨t, ht, -⟩ := State.frames_cons hr
      show ({ U with heap := s₂.heap, slotsUsed := s₂.slotsUsed } : State) = { U.setFrames U.frames with heap := s₂.heap, slotsUsed := s₂.slotsUsed }
      rw [State.setFrames_self ht]
    subst hg
    refine Or.inl ⟨v0.map (mv G.1), ⟨(({ U with heap := s₂.heap, slotsUsed := s₂.slotsUsed } : State).setVm s₂.vm), Ls ++ L, c0 + mc, s0 + ms⟩,
      ⟨X.admits, X.cas, X.clock, X.frames, X.room, X.hears, X.method, X.code, (X.here.setHeapUsed s₂.heap s₂.slotsUsed).setVm hW'.alike, X.tail, State.WarmedH.trans X.warmed hW', X.limits, X.bytes, X.same.trans (hsame.setVm s.vm)⟩,
      ⟨v0, h', L, rfl, hqr, hRep, rfl, hLn, rfl, rfl⟩, ?_⟩
    show Steps p.tables e below _ ((({ U with heap := s₂.heap, slotsUsed := s₂.slotsUsed } : State).setVm s₂.vm).setTop { g with pc := g.pc + len₂, stack := (v0.map (mv G.1)).toList ++ g.stack })
    rw [← hs₂]
    exact hsteps
  · obtain ⟨e2, q2, q3, q4, q5, q6⟩ := id hsm
    have e3 : s₂ = ({ (U.calling g mk a).setFrames s₂.frames with heap := s₂.heap, slotsUsed := s₂.slotsUsed } : State).setVm s₂.vm := by
      have : s₂ = ({ s₂ with vm := (U.calling g mk a).vm } : State).setVm s₂.vm := rfl
      rw [e2] at this
      exact this
    have hf₂ : s₂.frames = .throwing (G.1 q) :: .java g :: U.frames.tail := hend
    have hW' : U.WarmedH s₂.vm := hW₂
    have hs₂ : s₂ = ((({ U with heap := s₂.heap, slotsUsed := s₂.slotsUsed } : State).setVm s₂.vm).setTop g).pushFrame (.throwing (G.1 q)) := by
      refine e3.trans ?_
      rw [hf₂, State.calling_eq h.top, State.setFrames_setFrames, State.pushFrame, State.frames_setTop _ hr', State.setTop_of_frames _ hr', State.setFrames_setFrames, hr]
      rfl
    have hsame : U.sameButNew ({ U with heap := s₂.heap, slotsUsed := s₂.slotsUsed } : State) L mc ms := by
      refine ⟨?_, q2, q3, q4, q5, q6⟩
      obtain ⟨t, ht, -⟩ := State.frames_cons hr
      show ({ U with heap := s₂.heap, slotsUsed := s₂.slotsUsed } : State) = { U.setFrames U.frames with heap := s₂.heap, slotsUsed := s₂.slotsUsed }
      rw [State.setFrames_self ht]
    subst hg
    refine Or.inr ⟨G.1 q, ⟨(({ U with heap := s₂.heap, slotsUsed := s₂.slotsUsed } : State).setVm s₂.vm), Ls ++ L, c0 + mc, s0 + ms⟩,
      ⟨X.admits, X.cas, X.clock, X.frames, X.room, X.hears, X.method, X.code, (X.here.setHeapUsed s₂.heap s₂.slotsUsed).setVm hW'.alike, X.tail, State.WarmedH.trans X.warmed hW', X.limits, X.bytes, X.same.trans (hsame.setVm s.vm)⟩,
      ⟨q, h', L, rfl, hqx, hRep, rfl, hLn, rfl, rfl⟩, ?_⟩
    show Steps p.tables e below _ (((({ U with heap := s₂.heap, slotsUsed := s₂.slotsUsed } : State).setVm s₂.vm).setTop g).pushFrame (.throwing (G.1 q)))
    rw [← hs₂]
    exact hsteps
theorem st_cat (ρ : Nat → Nat) (st : List Value) : ((st.map (mv ρ)).map fun v => v.category).sum = (st.map fun v => v.category).sum := by rw [List.map_map]; exact congrArg List.sum (List.map_congr_left fun v _ => mv_cat _ v)
theorem locs_app {n0 : Nat} {locs L : List Loc} (h : ∀ z ∈ locs, n0 ≤ z.base) (hL : ∀ z ∈ L, n0 ≤ z.base) : ∀ z ∈ locs ++ L, n0 ≤ z.base := by
  intro z hz
  rcases List.mem_append.mp hz with h1 | h1
  · exact h z h1
  · exact hL z h1
/-- from the frame g the machine comes to the invocation of y with the arguments a -/
def sInv (p : Program) (l : Launch) (e : Env) (R : Room) (s : State) (m : MethodId) (args : Array Value) (below : List Frame) (meth : Method) (c : Code) (H : Heap) (locs : List Loc) (cells slots : Nat) (y : MethodName) (g : JFrame) (rest : List Value) (a : Array Value) : Prop :=
  ∀ T : State, T.heap = H → Stand p l e R s m args below meth c T locs cells slots → ∃ (mk : MethodId) (vm₁ : Vm), s.WarmedH vm₁ ∧ Stand p l e R s m args below meth c (T.setVm vm₁) locs cells slots ∧ s.methodNamed? y = some mk ∧
    ∀ target, Steps p.tables e below (doInvoke e ((T.setVm vm₁).setTop { g with stack := rest }) [] mk a).1 target → Steps p.tables e below (T.setTop g) target
section RC
variable {E : EV} {y : MethodName} {cc : ByteArray} {nL : Nat} {ret : Option FieldType} {hh : List (Nat × Nat × Nat × Nat)} {QR : Option Value → MH → Prop} {QX : Nat → MH → Prop} {d kc ks : Nat} {h : MH} {pc : Nat} {ls : List (Nat × Value)} {st : List Value}
/-- A CALL, whatever its instruction -/
theorem s_call {y2 : MethodName} {d2 a2 b2 len kc' ks' : Nat} {vs : List Value} {QR2 : Option Value → MH → Prop} {QX2 : Nat → MH → Prop} {stk : List Value} {ig : Instr}
    (hM : SM E y2 d2 vs h a2 b2 QR2 QX2) (hd1 : d2 + 1 ≤ d) (hk1 : kc' + a2 ≤ kc) (hk2 : ks' + b2 ≤ ks) (hst : (st.map fun v => v.category).sum ≤ 8) (hdg : decode cc pc = .ok (ig, len))
    (hinv : ∀ (l : Launch) (G : GL) (mc ms : Nat) (p : Program) (e : Env) (s : State) (m : MethodId) (args : Array Value) (below : List Frame) (meth : Method) (c : Code) (H : Heap) (locs : List Loc) (cells slots : Nat) (lsr : Array Slot), SC E y cc nL ret hh l G p s m args meth c → Rep E G h H → lsr.size = nL →
      sInv p l e (RM d mc ms) s m args below meth c H locs cells slots y2 (F0 m pc lsr (stk.map (mv G.1))) (st.map (mv G.1)) (vs.map (mv G.1)).toArray)
    (kr : ∀ v h', QR2 v h' → SW E y cc nL ret hh QR QX d kc' ks' h' (pc + len) ls (v.toList ++ st))
    (kx : ∀ q h', QX2 q h' → SX E y cc nL ret hh QR QX d kc' ks' h' pc ls q) : SW E y cc nL ret hh QR QX d kc ks h pc ls stk := by
  intro l G mc ms p e s m args below meth c H locs cells slots lsr C hR hL hc hs hl
  obtain ⟨hx, hb, hr, hlk, hml, hown, hnm, het, hts, hG, hfl⟩ := id C
  intro T hT X
  obtain ⟨mk, vm₁, hW1, X₁, hnamed, hstep⟩ := hinv l G mc ms p e s m args below meth c H locs cells slots lsr C hR hl.1 T hT X
  have hsz : lsr.size = c.maxLocals := hl.1.trans hml.symm
  have hLB : 8 + 51 + LB d2 ≤ LB d := by unfold LB; omega
  have hmr : 2 * (F0 m pc lsr (stk.map (mv G.1))).monitorRoom = 0 := rfl
  have hK := s_back (G := G) (l := l) (R := RM d mc ms) (p := p) (e := e) (below := below) (s := s) (sargs := args) (len := len) (W9 := 8) hM hfl hts hd1 hLB
  rcases hK m meth c ⟨T.setVm vm₁, locs, cells, slots⟩ { F0 m pc lsr (stk.map (mv G.1)) with stack := st.map (mv G.1) } ig mk (vs.map (mv G.1)).toArray X₁ rfl hsz (by rw [hb]; exact hdg) (by
      show 2 * (F0 m pc lsr (stk.map (mv G.1))).monitorRoom + _ ≤ 8
      rw [hmr, st_cat]
      omega) (X₁.named hnamed)
      ⟨show cells + a2 ≤ mc by omega, show slots + b2 ≤ ms by omega, rfl, by show Rep E G h T.heap; rw [hT]; exact hR, hG.warm hW1⟩ with
    ⟨v, ⟨U', l2, c2, s2⟩, X', ⟨v0, h', L, rfl, hq, hRep, e1, hLn, e2, e3⟩, hsteps⟩ | ⟨q, ⟨U', l2, c2, s2⟩, X', ⟨q0, h', L, rfl, hq, hRep, e1, hLn, e2, e3⟩, hsteps⟩
  · dsimp only [Pt.U, Pt.locs, Pt.cells, Pt.slots] at X' hRep e1 e2 e3 hsteps
    subst e1; subst e2; subst e3
    obtain ⟨t, a1, b1⟩ := kr v0 h' hq l G mc ms p e s m args below meth c U'.heap (locs ++ L) (cells + a2) (slots + b2) lsr C hRep (locs_app hL hLn) (by omega) (by omega) hl U' rfl X'
    refine ⟨t, hstep _ (hsteps.trans ?_), b1⟩
    have e9 : (v0.toList ++ st).map (mv G.1) = (v0.map (mv G.1)).toList ++ st.map (mv G.1) := by cases v0 <;> rfl
    rw [e9] at a1
    exact a1
  · dsimp only [Pt.U, Pt.locs, Pt.cells, Pt.slots] at X' hRep e1 e2 e3 hsteps
    subst e1; subst e2; subst e3
    obtain ⟨t, a1, b1⟩ := kx q0 h' hq l G mc ms p e s m args below meth c U'.heap (locs ++ L) (cells + a2) (slots + b2) lsr (st.map (mv G.1)) C hRep (locs_app hL hLn) (by omega) (by omega) hl U' rfl X'
    exact ⟨t, hstep _ (hsteps.trans a1), b1⟩
theorem r_invV {y2 : MethodName} {d2 a2 b2 kc' ks' : Nat} {QR2 : Option Value → MH → Prop} {QX2 : Nat → MH → Prop} {stk As : List Value} {idx b ci : Nat} {fs : List Value} {r : vw_C} (hd : decode cc pc = .ok (.invokevirtual idx, 3)) (hM : SM E y2 d2 (.ref b :: As) h a2 b2 QR2 QX2) (hlnk : Cond.methodLink y.cls idx y2 ∈ lw_all) (hins : Cond.instanceMethod y2 ∈ lw_all) (hsel : Cond.selects r.1 y2 y2 ∈ lw_all) (hb2 : h.2 b = some (.inr (ci, fs))) (hr2 : kcl[ci]? = some r) (hn : (parseMethodDescriptor y2.desc).map (fun z => z.parameters.length) = some As.length) (hmh : y2.cls ≠ "java/lang/invoke/MethodHandle" ∧ y2.cls ≠ "java/lang/invoke/VarHandle") (hstk : stk = As.reverse ++ .ref b :: st) (hd1 : d2 + 1 ≤ d) (hk1 : kc' + a2 ≤ kc) (hk2 : ks' + b2 ≤ ks) (hst : (st.map fun v => v.category).sum ≤ 8) (kr : ∀ v h', QR2 v h' → SW E y cc nL ret hh QR QX d kc' ks' h' (pc + 3) ls (v.toList ++ st)) (kx : ∀ q h', QX2 q h' → SX E y cc nL ret hh QR QX d kc' ks' h' pc ls q) : SW E y cc nL ret hh QR QX d kc ks h pc ls stk := by
  refine s_call (vs := (.ref b :: As)) (st := st) hM hd1 hk1 hk2 hst hd ?_ kr kx
  intro l G mc ms p e s m args below meth c H locs cells slots lsr C hR hsz T hT X
  obtain ⟨hx, hb, hr, hlk, hml, hown, hnm, het, hts, hG, hfl⟩ := id C
  obtain ⟨⟨cc2, nL2, ret2, hh2, hcode, -⟩, hini, -⟩ := hM
  obtain ⟨mk, methM, cM, hnamed, hmethM, -, -, -, -, -, -, hsigM⟩ := code_at hcode hts
  have hlen : ∀ sig, parseMethodDescriptor y2.desc = some sig → (As.map (mv G.1)).length = sig.parameters.length := fun sig hs => by
    rw [hs] at hn
    rw [List.length_map]
    exact (Option.some.inj hn).symm
  subst hstk
  obtain ⟨cell, g1, g2, g3⟩ := rd_recv hR hG hts hb2 hr2
  obtain ⟨mk', methM', hnamed', hmethM', hstM, habM⟩ := Cond.instanceMethod_spec (hts _ hins)
  cases hnamed.symm.trans hnamed'
  cases hmethM.symm.trans hmethM'
  obtain ⟨c2, r2, m2, q1, q2, q3, q4, kP, hkP, hkPi⟩ := Cond.selects_spec (hts _ hsel)
  cases g3.symm.trans q1
  cases (State.methodFound?_of_named hnamed hmh).symm.trans q2
  cases hnamed.symm.trans q3
  have hselP : selectMethod e.platform s.vm cell.cls mk = .method mk := by rw [Launch.admits_selectMethod X.admits]; exact q4
  obtain ⟨vm₁, X₁, hstep₁⟩ := X.invokevirtual hx hown (hts _ hlnk) hnamed hmethM hstM hkP hkPi hmh (a := G.1 b) (cell := cell) (by rw [hT]; exact g1)
    (fun z h => by rw [h] at g2; cases g2) hselP hmethM habM hkP hkPi (g := F0 m pc lsr ((As.reverse ++ .ref b :: st).map (mv G.1))) rfl (argsL := As.map (mv G.1)) (rest := st.map (mv G.1)) (hlen _ hsigM) (by show (As.reverse ++ .ref b :: st).map (mv G.1) = _; simp [List.map_append, List.map_reverse, mv]) (by rw [hb]; exact hd)
  exact ⟨mk, vm₁, X₁.warmed, X₁, hnamed, fun target h => hstep₁ _ fun acts => by rw [doInvoke_state]; exact h⟩
theorem r_invVN {y2 : MethodName} {d2 a2 b2 kc' ks' : Nat} {QR2 : Option Value → MH → Prop} {QX2 : Nat → MH → Prop} {stk As : List Value} {idx b ci : Nat} {host : String} {fs : List Value} {r : vw_C} (hd : decode cc pc = .ok (.invokevirtual idx, 3)) (hM : SM E y2 d2 (.ref b :: As) h a2 b2 QR2 QX2) (hlnk : Cond.methodLinkNest y.cls idx y2 host ∈ lw_tbl) (hins : Cond.instanceMethod y2 ∈ lw_all) (hsel : Cond.selects r.1 y2 y2 ∈ lw_all) (hb2 : h.2 b = some (.inr (ci, fs))) (hr2 : kcl[ci]? = some r) (hn : (parseMethodDescriptor y2.desc).map (fun z => z.parameters.length) = some As.length) (hmh : y2.cls ≠ "java/lang/invoke/MethodHandle" ∧ y2.cls ≠ "java/lang/invoke/VarHandle") (hstk : stk = As.reverse ++ .ref b :: st) (hd1 : d2 + 1 ≤ d) (hk1 : kc' + a2 ≤ kc) (hk2 : ks' + b2 ≤ ks) (hst : (st.map fun v => v.category).sum ≤ 8) (kr : ∀ v h', QR2 v h' → SW E y cc nL ret hh QR QX d kc' ks' h' (pc + 3) ls (v.toList ++ st)) (kx : ∀ q h', QX2 q h' → SX E y cc nL ret hh QR QX d kc' ks' h' pc ls q) : SW E y cc nL ret hh QR QX d kc ks h pc ls stk := by
  refine s_call (vs := (.ref b :: As)) (st := st) hM hd1 hk1 hk2 hst hd ?_ kr kx
  intro l G mc ms p e s m args below meth c H locs cells slots lsr C hR hsz T hT X
  obtain ⟨hx, hb, hr, hlk, hml, hown, hnm, het, hts, hG, hfl⟩ := id C
  obtain ⟨⟨cc2, nL2, ret2, hh2, hcode, -⟩, hini, -⟩ := hM
  obtain ⟨mk, methM, cM, hnamed, hmethM, -, -, -, -, -, -, hsigM⟩ := code_at hcode hts
  have hlen : ∀ sig, parseMethodDescriptor y2.desc = some sig → (As.map (mv G.1)).length = sig.parameters.length := fun sig hs => by
    rw [hs] at hn
    rw [List.length_map]
    exact (Option.some.inj hn).symm
  subst hstk
  obtain ⟨cell, g1, g2, g3⟩ := rd_recv hR hG hts hb2 hr2
  obtain ⟨mk', methM', hnamed', hmethM', hstM, habM⟩ := Cond.instanceMethod_spec (hts _ hins)
  cases hnamed.symm.trans hnamed'
  cases hmethM.symm.trans hmethM'
  obtain ⟨c2, r2, m2, q1, q2, q3, q4, kP, hkP, hkPi⟩ := Cond.selects_spec (hts _ hsel)
  cases g3.symm.trans q1
  cases (State.methodFound?_of_named hnamed hmh).symm.trans q2
  cases hnamed.symm.trans q3
  have hselP : selectMethod e.platform s.vm cell.cls mk = .method mk := by rw [Launch.admits_selectMethod X.admits]; exact q4
  obtain ⟨vm₁, X₁, hstep₁⟩ := X.invokevirtualNest hx hown (va_Nw.use rfl (hG.nw hlnk rfl)) hnamed hmethM hstM hkP hkPi hmh (a := G.1 b) (cell := cell) (by rw [hT]; exact g1)
    (fun z h => by rw [h] at g2; cases g2) hselP hmethM habM hkP hkPi (g := F0 m pc lsr ((As.reverse ++ .ref b :: st).map (mv G.1))) rfl (argsL := As.map (mv G.1)) (rest := st.map (mv G.1)) (hlen _ hsigM) (by show (As.reverse ++ .ref b :: st).map (mv G.1) = _; simp [List.map_append, List.map_reverse, mv]) (by rw [hb]; exact hd)
  exact ⟨mk, vm₁, X₁.warmed, X₁, hnamed, fun target h => hstep₁ _ fun acts => by rw [doInvoke_state]; exact h⟩
theorem r_invS {y2 : MethodName} {d2 a2 b2 kc' ks' : Nat} {QR2 : Option Value → MH → Prop} {QX2 : Nat → MH → Prop} {stk As : List Value} {idx : Nat} (hd : decode cc pc = .ok (.invokestatic idx, 3)) (hM : SM E y2 d2 As h a2 b2 QR2 QX2) (hlnk : Cond.methodLink y.cls idx y2 ∈ lw_all) (hsta : Cond.static y2 ∈ lw_all) (hn : (parseMethodDescriptor y2.desc).map (fun z => z.parameters.length) = some As.length) (hmh : y2.cls ≠ "java/lang/invoke/MethodHandle" ∧ y2.cls ≠ "java/lang/invoke/VarHandle") (hstk : stk = As.reverse ++ st) (hd1 : d2 + 1 ≤ d) (hk1 : kc' + a2 ≤ kc) (hk2 : ks' + b2 ≤ ks) (hst : (st.map fun v => v.category).sum ≤ 8) (kr : ∀ v h', QR2 v h' → SW E y cc nL ret hh QR QX d kc' ks' h' (pc + 3) ls (v.toList ++ st)) (kx : ∀ q h', QX2 q h' → SX E y cc nL ret hh QR QX d kc' ks' h' pc ls q) : SW E y cc nL ret hh QR QX d kc ks h pc ls stk := by
  refine s_call (vs := As) (st := st) hM hd1 hk1 hk2 hst hd ?_ kr kx
  intro l G mc ms p e s m args below meth c H locs cells slots lsr C hR hsz T hT X
  obtain ⟨hx, hb, hr, hlk, hml, hown, hnm, het, hts, hG, hfl⟩ := id C
  obtain ⟨⟨cc2, nL2, ret2, hh2, hcode, -⟩, hini, -⟩ := hM
  obtain ⟨mk, methM, cM, hnamed, hmethM, -, -, -, -, -, -, hsigM⟩ := code_at hcode hts
  have hlen : ∀ sig, parseMethodDescriptor y2.desc = some sig → (As.map (mv G.1)).length = sig.parameters.length := fun sig hs => by
    rw [hs] at hn
    rw [List.length_map]
    exact (Option.some.inj hn).symm
  subst hstk
  have hstatic : methM.isStatic = true := Cond.static_spec hnamed hmethM (hts _ hsta)
  obtain ⟨kP, hkP, -⟩ := className_of_methodNamed hnamed
  have hinitP : kP.init = .initialized := Cond.initialized_spec (findClass_of_methodNamed hnamed) hkP (hts _ hini)
  obtain ⟨vm₁, X₁, hstep₁⟩ := X.invokestatic hx hown (hts _ hlnk) hnamed hmethM hstatic hkP hinitP hmh (g := F0 m pc lsr ((As.reverse ++ st).map (mv G.1))) rfl (argsL := As.map (mv G.1)) (rest := st.map (mv G.1)) (hlen _ hsigM) (by show (As.reverse ++ st).map (mv G.1) = _; simp [List.map_append, List.map_reverse, mv]) (by rw [hb]; exact hd)
  exact ⟨mk, vm₁, X₁.warmed, X₁, hnamed, fun target h => hstep₁ _ fun acts => by rw [doInvoke_state]; exact h⟩
theorem r_invSN {y2 : MethodName} {d2 a2 b2 kc' ks' : Nat} {QR2 : Option Value → MH → Prop} {QX2 : Nat → MH → Prop} {stk As : List Value} {idx : Nat} {host : String} (hd : decode cc pc = .ok (.invokestatic idx, 3)) (hM : SM E y2 d2 As h a2 b2 QR2 QX2) (hlnk : Cond.methodLinkNest y.cls idx y2 host ∈ lw_tbl) (hsta : Cond.static y2 ∈ lw_all) (hn : (parseMethodDescriptor y2.desc).map (fun z => z.parameters.length) = some As.length) (hmh : y2.cls ≠ "java/lang/invoke/MethodHandle" ∧ y2.cls ≠ "java/lang/invoke/VarHandle") (hstk : stk = As.reverse ++ st) (hd1 : d2 + 1 ≤ d) (hk1 : kc' + a2 ≤ kc) (hk2 : ks' + b2 ≤ ks) (hst : (st.map fun v => v.category).sum ≤ 8) (kr : ∀ v h', QR2 v h' → SW E y cc nL ret hh QR QX d kc' ks' h' (pc + 3) ls (v.toList ++ st)) (kx : ∀ q h', QX2 q h' → SX E y cc nL ret hh QR QX d kc' ks' h' pc ls q) : SW E y cc nL ret hh QR QX d kc ks h pc ls stk := by
  refine s_call (vs := As) (st := st) hM hd1 hk1 hk2 hst hd ?_ kr kx
  intro l G mc ms p e s m args below meth c H locs cells slots lsr C hR hsz T hT X
  obtain ⟨hx, hb, hr, hlk, hml, hown, hnm, het, hts, hG, hfl⟩ := id C
  obtain ⟨⟨cc2, nL2, ret2, hh2, hcode, -⟩, hini, -⟩ := hM
  obtain ⟨mk, methM, cM, hnamed, hmethM, -, -, -, -, -, -, hsigM⟩ := code_at hcode hts
  have hlen : ∀ sig, parseMethodDescriptor y2.desc = some sig → (As.map (mv G.1)).length = sig.parameters.length := fun sig hs => by
    rw [hs] at hn
    rw [List.length_map]
    exact (Option.some.inj hn).symm
  subst hstk
  have hstatic : methM.isStatic = true := Cond.static_spec hnamed hmethM (hts _ hsta)
  obtain ⟨kP, hkP, -⟩ := className_of_methodNamed hnamed
  have hinitP : kP.init = .initialized := Cond.initialized_spec (findClass_of_methodNamed hnamed) hkP (hts _ hini)
  obtain ⟨vm₁, X₁, hstep₁⟩ := X.invokestaticNest hx hown (va_Nw.use rfl (hG.nw hlnk rfl)) hnamed hmethM hstatic hkP hinitP hmh (g := F0 m pc lsr ((As.reverse ++ st).map (mv G.1))) rfl (argsL := As.map (mv G.1)) (rest := st.map (mv G.1)) (hlen _ hsigM) (by show (As.reverse ++ st).map (mv G.1) = _; simp [List.map_append, List.map_reverse, mv]) (by rw [hb]; exact hd)
  exact ⟨mk, vm₁, X₁.warmed, X₁, hnamed, fun target h => hstep₁ _ fun acts => by rw [doInvoke_state]; exact h⟩
theorem r_invI {y2 : MethodName} {d2 a2 b2 kc' ks' : Nat} {QR2 : Option Value → MH → Prop} {QX2 : Nat → MH → Prop} {stk As : List Value} {idx b : Nat} (hd : decode cc pc = .ok (.invokespecial idx, 3)) (hM : SM E y2 d2 (.ref b :: As) h a2 b2 QR2 QX2) (hlnk : Cond.methodLink y.cls idx y2 ∈ lw_all) (hins : Cond.instanceMethod y2 ∈ lw_all) (hy1 : y2.name = "<init>") (hcd : ∃ cc2 nL2, Cond.code y2 cc2 nL2 none ∈ lw_all) (hn : (parseMethodDescriptor y2.desc).map (fun z => z.parameters.length) = some As.length) (hmh : y2.cls ≠ "java/lang/invoke/MethodHandle" ∧ y2.cls ≠ "java/lang/invoke/VarHandle") (hstk : stk = As.reverse ++ .ref b :: st) (hd1 : d2 + 1 ≤ d) (hk1 : kc' + a2 ≤ kc) (hk2 : ks' + b2 ≤ ks) (hst : (st.map fun v => v.category).sum ≤ 8) (kr : ∀ v h', QR2 v h' → SW E y cc nL ret hh QR QX d kc' ks' h' (pc + 3) ls (v.toList ++ st)) (kx : ∀ q h', QX2 q h' → SX E y cc nL ret hh QR QX d kc' ks' h' pc ls q) : SW E y cc nL ret hh QR QX d kc ks h pc ls stk := by
  refine s_call (vs := (.ref b :: As)) (st := st) hM hd1 hk1 hk2 hst hd ?_ kr kx
  intro l G mc ms p e s m args below meth c H locs cells slots lsr C hR hsz T hT X
  obtain ⟨hx, hb, hr, hlk, hml, hown, hnm, het, hts, hG, hfl⟩ := id C
  obtain ⟨⟨cc2, nL2, ret2, hh2, hcode, -⟩, hini, -⟩ := hM
  obtain ⟨mk, methM, cM, hnamed, hmethM, -, -, -, -, -, -, hsigM⟩ := code_at hcode hts
  have hlen : ∀ sig, parseMethodDescriptor y2.desc = some sig → (As.map (mv G.1)).length = sig.parameters.length := fun sig hs => by
    rw [hs] at hn
    rw [List.length_map]
    exact (Option.some.inj hn).symm
  subst hstk
  obtain ⟨cc3, nL3, hcd⟩ := hcd
  have hpl : e.platform.magicAccessors = ({} : Platform).magicAccessors := by rw [X.admits.platform]
  obtain ⟨mk', methM', cM', kP, vm₁, hnamed', -, -, -, -, -, -, -, hW₁, hstep₁⟩ := Steps.initColdArgs (e := e) X.here hx X.warmed hpl hown hy1 hmh (hts _ hlnk) (hts _ hins) (hts _ hcd) (f := F0 m pc lsr ((As.reverse ++ .ref b :: st).map (mv G.1))) rfl (a := G.1 b) (argsL := As.map (mv G.1)) (rest := st.map (mv G.1)) hlen (by show (As.reverse ++ .ref b :: st).map (mv G.1) = _; simp [List.map_append, List.map_reverse, mv]) (by rw [hb]; exact hd)
  exact ⟨mk', vm₁, hW₁, X.noted hW₁, hnamed', fun target h => hstep₁ _ fun acts => by rw [doInvoke_state]; exact h⟩
theorem r_invIN {y2 : MethodName} {d2 a2 b2 kc' ks' : Nat} {QR2 : Option Value → MH → Prop} {QX2 : Nat → MH → Prop} {stk As : List Value} {idx b : Nat} {host : String} (hd : decode cc pc = .ok (.invokespecial idx, 3)) (hM : SM E y2 d2 (.ref b :: As) h a2 b2 QR2 QX2) (hlnk : Cond.methodLinkNest y.cls idx y2 host ∈ lw_tbl) (hins : Cond.instanceMethod y2 ∈ lw_all) (hy1 : y2.name = "<init>") (hcd : ∃ cc2 nL2, Cond.code y2 cc2 nL2 none ∈ lw_all) (hn : (parseMethodDescriptor y2.desc).map (fun z => z.parameters.length) = some As.length) (hmh : y2.cls ≠ "java/lang/invoke/MethodHandle" ∧ y2.cls ≠ "java/lang/invoke/VarHandle") (hstk : stk = As.reverse ++ .ref b :: st) (hd1 : d2 + 1 ≤ d) (hk1 : kc' + a2 ≤ kc) (hk2 : ks' + b2 ≤ ks) (hst : (st.map fun v => v.category).sum ≤ 8) (kr : ∀ v h', QR2 v h' → SW E y cc nL ret hh QR QX d kc' ks' h' (pc + 3) ls (v.toList ++ st)) (kx : ∀ q h', QX2 q h' → SX E y cc nL ret hh QR QX d kc' ks' h' pc ls q) : SW E y cc nL ret hh QR QX d kc ks h pc ls stk := by
  refine s_call (vs := (.ref b :: As)) (st := st) hM hd1 hk1 hk2 hst hd ?_ kr kx
  intro l G mc ms p e s m args below meth c H locs cells slots lsr C hR hsz T hT X
  obtain ⟨hx, hb, hr, hlk, hml, hown, hnm, het, hts, hG, hfl⟩ := id C
  obtain ⟨⟨cc2, nL2, ret2, hh2, hcode, -⟩, hini, -⟩ := hM
  obtain ⟨mk, methM, cM, hnamed, hmethM, -, -, -, -, -, -, hsigM⟩ := code_at hcode hts
  have hlen : ∀ sig, parseMethodDescriptor y2.desc = some sig → (As.map (mv G.1)).length = sig.parameters.length := fun sig hs => by
    rw [hs] at hn
    rw [List.length_map]
    exact (Option.some.inj hn).symm
  subst hstk
  obtain ⟨cc3, nL3, hcd⟩ := hcd
  have hpl : e.platform.magicAccessors = ({} : Platform).magicAccessors := by rw [X.admits.platform]
  obtain ⟨mk', methM', cM', kP, vm₁, hnamed', -, -, -, -, -, -, -, hW₁, hstep₁⟩ := Steps.initColdArgsNest (e := e) X.here hx X.warmed hpl hown hy1 hmh (va_Nw.use rfl (hG.nw hlnk rfl)) (hts _ hins) (hts _ hcd) (f := F0 m pc lsr ((As.reverse ++ .ref b :: st).map (mv G.1))) rfl (a := G.1 b) (argsL := As.map (mv G.1)) (rest := st.map (mv G.1)) hlen (by show (As.reverse ++ .ref b :: st).map (mv G.1) = _; simp [List.map_append, List.map_reverse, mv]) (by rw [hb]; exact hd)
  exact ⟨mk', vm₁, hW₁, X.noted hW₁, hnamed', fun target h => hstep₁ _ fun acts => by rw [doInvoke_state]; exact h⟩
theorem r_invU {y2 : MethodName} {d2 a2 b2 kc' ks' : Nat} {QR2 : Option Value → MH → Prop} {QX2 : Nat → MH → Prop} {stk As : List Value} {x2 : MethodName} {owner : String} {idx b ci : Nat} {fs : List Value} {r : vw_C} (hd : decode cc pc = .ok (.invokevirtual idx, 3)) (hM : SM E y2 d2 (.ref b :: As) h a2 b2 QR2 QX2) (hlnk : Cond.methodLink y.cls idx x2 ∈ lw_all) (hsame : Cond.sameMethod x2.cls owner x2.name x2.desc ∈ lw_all) (hdec : Cond.declares ⟨owner, x2.name, x2.desc⟩ ∈ lw_tbl ∨ (Cond.instanceMethod ⟨owner, x2.name, x2.desc⟩ ∈ lw_all ∧ ∃ b0 m0 r0, Cond.code ⟨owner, x2.name, x2.desc⟩ b0 m0 r0 ∈ lw_all)) (how : owner ≠ "java/lang/invoke/MethodHandle" ∧ owner ≠ "java/lang/invoke/VarHandle") (hins : Cond.instanceMethod y2 ∈ lw_all) (hsel : Cond.selects r.1 x2 y2 ∈ lw_all) (hb2 : h.2 b = some (.inr (ci, fs))) (hr2 : kcl[ci]? = some r) (hn : (parseMethodDescriptor x2.desc).map (fun z => z.parameters.length) = some As.length) (hmh : x2.cls ≠ "java/lang/invoke/MethodHandle" ∧ x2.cls ≠ "java/lang/invoke/VarHandle") (hstk : stk = As.reverse ++ .ref b :: st) (hd1 : d2 + 1 ≤ d) (hk1 : kc' + a2 ≤ kc) (hk2 : ks' + b2 ≤ ks) (hst : (st.map fun v => v.category).sum ≤ 8) (kr : ∀ v h', QR2 v h' → SW E y cc nL ret hh QR QX d kc' ks' h' (pc + 3) ls (v.toList ++ st)) (kx : ∀ q h', QX2 q h' → SX E y cc nL ret hh QR QX d kc' ks' h' pc ls q) : SW E y cc nL ret hh QR QX d kc ks h pc ls stk := by
  refine s_call (vs := (.ref b :: As)) (st := st) hM hd1 hk1 hk2 hst hd ?_ kr kx
  intro l G mc ms p e s m args below meth c H locs cells slots lsr C hR hsz T hT X
  obtain ⟨hx, hb, hr, hlk, hml, hown, hnm, het, hts, hG, hfl⟩ := id C
  obtain ⟨⟨cc2, nL2, ret2, hh2, hcode, -⟩, hini, -⟩ := hM
  obtain ⟨mk, methM, cM, hnamed, hmethM, -, -, -, -, -, -, hsigM⟩ := code_at hcode hts
  have hlen : ∀ sig, parseMethodDescriptor x2.desc = some sig → (As.map (mv G.1)).length = sig.parameters.length := fun sig hs => by
    rw [hs] at hn
    rw [List.length_map]
    exact (Option.some.inj hn).symm
  subst hstk
  obtain ⟨cell, g1, g2, g3⟩ := rd_recv hR hG hts hb2 hr2
  have hd0 : va_Decl s ⟨owner, x2.name, x2.desc⟩ := by
    rcases hdec with hdec | ⟨w1, b0, m0, r0, w2⟩
    · exact Cond.declares_spec (va_Nw.use (A := args) rfl (hG.nw hdec rfl))
    · exact va_Decl.of (hts _ w1) (hts _ w2)
  obtain ⟨r0, rM, hn0, hrm, hstR, hsigR⟩ := hd0
  obtain ⟨cn, ck, r1, hcn, hck, hni, hf, hn1⟩ := Cond.sameMethod_found (hts _ hsame)
  cases hn0.symm.trans hn1
  obtain ⟨mk', methM', hnamed', hmethM', -, habM⟩ := Cond.instanceMethod_spec (hts _ hins)
  cases hnamed.symm.trans hnamed'
  cases hmethM.symm.trans hmethM'
  obtain ⟨c2, r2, m2, q1, q2, q3, q4, kP, hkP, hkPi⟩ := Cond.selects_spec (hts _ hsel)
  cases g3.symm.trans q1
  cases hf.symm.trans q2
  cases hnamed.symm.trans q3
  have hselP : selectMethod e.platform s.vm cell.cls r0 = .method mk := by rw [Launch.admits_selectMethod X.admits]; exact q4
  obtain ⟨vm₁, X₁, hstep₁⟩ := X.invokevirtualUp hx hown (hts _ hlnk) (hts _ hsame) how hn0 hrm hstR (a := G.1 b) (cell := cell) (by rw [hT]; exact g1)
    (fun z h => by rw [h] at g2; cases g2) hselP hmethM habM hkP hkPi (g := F0 m pc lsr ((As.reverse ++ .ref b :: st).map (mv G.1))) rfl (argsL := As.map (mv G.1)) (rest := st.map (mv G.1)) (hlen _ hsigR) (by show (As.reverse ++ .ref b :: st).map (mv G.1) = _; simp [List.map_append, List.map_reverse, mv]) (by rw [hb]; exact hd)
  exact ⟨mk, vm₁, X₁.warmed, X₁, hnamed, fun target h => hstep₁ _ fun acts => by rw [doInvoke_state]; exact h⟩
theorem r_invSU {y2 : MethodName} {d2 a2 b2 kc' ks' : Nat} {QR2 : Option Value → MH → Prop} {QX2 : Nat → MH → Prop} {stk As : List Value} {idx b ci : Nat} {fs : List Value} {r : vw_C} (hd : decode cc pc = .ok (.invokespecial idx, 3)) (hM : SM E y2 d2 (.ref b :: As) h a2 b2 QR2 QX2) (hlnk : Cond.methodLink y.cls idx y2 ∈ lw_all) (hsame : Cond.sameMethod y2.cls y2.cls y2.name y2.desc ∈ lw_all) (hsup : Cond.superclass y.cls y2.cls ∈ lw_all) (hno : y2.name ≠ "<init>") (hins : Cond.instanceMethod y2 ∈ lw_all) (hb2 : h.2 b = some (.inr (ci, fs))) (hr2 : kcl[ci]? = some r) (hn : (parseMethodDescriptor y2.desc).map (fun z => z.parameters.length) = some As.length) (hmh : y2.cls ≠ "java/lang/invoke/MethodHandle" ∧ y2.cls ≠ "java/lang/invoke/VarHandle") (hstk : stk = As.reverse ++ .ref b :: st) (hd1 : d2 + 1 ≤ d) (hk1 : kc' + a2 ≤ kc) (hk2 : ks' + b2 ≤ ks) (hst : (st.map fun v => v.category).sum ≤ 8) (kr : ∀ v h', QR2 v h' → SW E y cc nL ret hh QR QX d kc' ks' h' (pc + 3) ls (v.toList ++ st)) (kx : ∀ q h', QX2 q h' → SX E y cc nL ret hh QR QX d kc' ks' h' pc ls q) : SW E y cc nL ret hh QR QX d kc ks h pc ls stk := by
  refine s_call (vs := (.ref b :: As)) (st := st) hM hd1 hk1 hk2 hst hd ?_ kr kx
  intro l G mc ms p e s m args below meth c H locs cells slots lsr C hR hsz T hT X
  obtain ⟨hx, hb, hr, hlk, hml, hown, hnm, het, hts, hG, hfl⟩ := id C
  obtain ⟨⟨cc2, nL2, ret2, hh2, hcode, -⟩, hini, -⟩ := hM
  obtain ⟨mk, methM, cM, hnamed, hmethM, -, -, -, -, -, -, hsigM⟩ := code_at hcode hts
  have hlen : ∀ sig, parseMethodDescriptor y2.desc = some sig → (As.map (mv G.1)).length = sig.parameters.length := fun sig hs => by
    rw [hs] at hn
    rw [List.length_map]
    exact (Option.some.inj hn).symm
  subst hstk
  obtain ⟨cell, g1, g2, g3⟩ := rd_recv hR hG hts hb2 hr2
  obtain ⟨mk', methM', hnamed', hmethM', hstM, habM⟩ := Cond.instanceMethod_spec (hts _ hins)
  cases hnamed.symm.trans hnamed'
  cases hmethM.symm.trans hmethM'
  obtain ⟨kB, hkB, -⟩ := Vm.findClass_spec g3
  obtain ⟨ps, dk, kp, hps, hdk, hkp, hsuper, -, -, hnid⟩ := Cond.superclass_spec hown (hts _ hsup)
  have hn2 : s.methodNamed? ⟨y2.cls, y2.name, y2.desc⟩ = some mk := hnamed
  have hpm : ps = mk.cls := Option.some.inj (hps.symm.trans (findClass_of_methodNamed hnamed))
  have hsub : s.vm.isSubclass ps mk.cls = true := by rw [hpm]; simp [Vm.isSubclass, Vm.isSubclassAux]
  obtain ⟨vm₁, X₁, hstep₁⟩ := X.invokespecialUp hx hown (hts _ hlnk) (hts _ hsame) hn2 hmethM hstM habM hno hdk hnid hps hsuper hsub (a := G.1 b) (cell := cell) (by rw [hT]; exact g1)
    (fun z h => by rw [h] at g2; cases g2) hkB (g := F0 m pc lsr ((As.reverse ++ .ref b :: st).map (mv G.1))) rfl (argsL := As.map (mv G.1)) (rest := st.map (mv G.1)) (hlen _ hsigM) (by show (As.reverse ++ .ref b :: st).map (mv G.1) = _; simp [List.map_append, List.map_reverse, mv]) (by rw [hb]; exact hd)
  exact ⟨mk, vm₁, X₁.warmed, X₁, hnamed, fun target h => hstep₁ _ (by rw [doInvoke_state]; exact h)⟩
theorem x_out {q : Nat} (hout : hh.all (fun z => !(Nat.ble z.1 pc && Nat.blt pc z.2.1)) = true) (hq : QX q h) : SX E y cc nL ret hh QR QX d kc ks h pc ls q := by
  intro l G mc ms p e s m args below meth c H locs cells slots lsr rest C hR hL hc hs hl
  obtain ⟨hx, hb, hr, hlk, hml, hown, hnm, het, hts, hG, hfl⟩ := id C
  intro T hT X
  have hcov : ∀ z ∈ c.exceptionTable.toList, covers z pc = false := by
    rw [het]
    intro z hz
    obtain ⟨w, hw, rfl⟩ := List.mem_map.mp hz
    have h1 := List.all_eq_true.mp hout w hw
    simp only [Bool.not_eq_true', Bool.and_eq_false_iff] at h1
    simp only [covers, Bool.and_eq_false_iff, decide_eq_false_iff_not]
    rcases h1 with g | g
    · exact Or.inl fun k => by rw [Nat.ble_eq_true_of_le k] at g; cases g
    · exact Or.inr fun k => by rw [show Nat.blt pc w.2.1 = true from Nat.ble_eq_true_of_le k] at g; cases g
  obtain ⟨st1, hrun, hend, hW, hsm⟩ := X.leaveThrown (G.1 q) (g := F0 m pc lsr rest) rfl rfl rfl hcov hlk
  exact ⟨_, st1, .threw (G.1 q), hrun, hend, h, locs, by show Rep E G h T.heap; rw [hT]; exact hR, hL, Or.inr ⟨q, rfl, hq, hW, hsm.mono (by omega) (by omega)⟩⟩
theorem x_catch {q ci : Nat} {fs : List Value} {r : vw_C} {nm : String} (pre : List (Nat × Nat × Nat × Nat)) (x : Nat × Nat × Nat × Nat) (suf : List (Nat × Nat × Nat × Nat)) (hsplit : hh = pre ++ x :: suf) (hq : h.2 q = some (.inr (ci, fs))) (hK : KK ≤ q) (hr2 : mcl[ci]? = some r)
    (hpass : ∀ z ∈ pre, (Nat.ble z.1 pc && Nat.blt pc z.2.1) = false ∨ (z.2.2.2 ≠ 0 ∧ ∃ nm : String, Cond.classLink y.cls z.2.2.2 nm ∈ lw_all ∧ (r.1, nm) ∈ ncl)) (hcov : (Nat.ble x.1 pc && Nat.blt pc x.2.1) = true) (h0 : x.2.2.2 ≠ 0) (hlnk : Cond.classLink y.cls x.2.2.2 nm ∈ lw_all) (hcast : Cond.castable r.1 nm ∈ lw_tbl)
    (k : SW E y cc nL ret hh QR QX d kc ks h x.2.2.1 ls [.ref q]) : SX E y cc nL ret hh QR QX d kc ks h pc ls q := by
  intro l G mc ms p e s m args below meth c H locs cells slots lsr rest C hR hL hc hs hl
  obtain ⟨hx, hb, hr, hlk, hml, hown, hnm, het, hts, hG, hfl⟩ := id C
  rcases hR.2.2.2.2.2 q _ hK hq with ⟨r', e1, ce, q1, q2, q3, -⟩ | ⟨e1, -⟩
  · have hrr : r' = r := Option.some.inj (e1.symm.trans hr2)
    subst hrr
    have hcl : s.vm.findClass r'.1 = some ce.cls := by rw [q2]; exact (hG.K.1 ci r' e1).2.1
    have hcv : ∀ z : Nat × Nat × Nat × Nat, covers ⟨z.1, z.2.1, z.2.2.1, z.2.2.2⟩ pc = (Nat.ble z.1 pc && Nat.blt pc z.2.1) := fun z => by
      have e1 : decide (z.1 ≤ pc) = Nat.ble z.1 pc := by rw [Bool.eq_iff_iff, decide_eq_true_iff]; exact ⟨Nat.ble_eq_true_of_le, Nat.le_of_ble_eq_true⟩
      have e2 : decide (pc < z.2.1) = Nat.blt pc z.2.1 := by rw [Bool.eq_iff_iff, decide_eq_true_iff]; exact ⟨fun k => Nat.ble_eq_true_of_le k, fun k => Nat.le_of_ble_eq_true k⟩
      show (decide (z.1 ≤ pc) && decide (pc < z.2.1)) = _
      rw [e1, e2]
    refine vx_catch hown (pre.map fun q => ⟨q.1, q.2.1, q.2.2.1, q.2.2.2⟩) ⟨x.1, x.2.1, x.2.2.1, x.2.2.2⟩ (suf.map fun q => ⟨q.1, q.2.1, q.2.2.1, q.2.2.2⟩) (by rw [het, hsplit]; exact List.map_append) (fun z hz => ?_) (by rw [hcv]; exact hcov) h0 (hts _ hlnk) (va_Nw.use rfl (hG.nw hcast rfl)) q1 q3 hcl (k l G mc ms p e s m args below meth c H locs cells slots lsr C hR hL hc hs hl)
    obtain ⟨w, hw, rfl⟩ := List.mem_map.mp hz
    rcases hpass w hw with g | ⟨g1, nm9, g2, g3⟩
    · exact Or.inl (by rw [hcv]; exact g)
    · exact Or.inr ⟨g1, nm9, hts _ g2, hG.nc g3⟩
  · exfalso
    have h2 : ci < mcl.length := (List.getElem?_eq_some_iff.mp hr2).1
    rw [mcl_len] at h2
    have e1 : 100 ≤ ci := e1
    omega
theorem r_athrow {q : Nat} {st : List Value} (hd : decode cc pc = .ok (.athrow, 1)) (hout : hh.all (fun z => !(Nat.ble z.1 pc && Nat.blt pc z.2.1)) = true) (hq : QX q h) : SW E y cc nL ret hh QR QX d kc ks h pc ls (.ref q :: st) := by
  intro l G mc ms p e s m args below meth c H locs cells slots lsr C hR hL hc hs hl
  obtain ⟨hx, hb, hr, hlk, hml, hown, hnm, het, hts, hG, hfl⟩ := id C
  intro T hT X
  have hcov : ∀ z ∈ c.exceptionTable.toList, covers z pc = false := by
    rw [het]
    intro z hz
    obtain ⟨w, hw, rfl⟩ := List.mem_map.mp hz
    have h1 := List.all_eq_true.mp hout w hw
    simp only [Bool.not_eq_true', Bool.and_eq_false_iff] at h1
    simp only [covers, Bool.and_eq_false_iff, decide_eq_false_iff_not]
    rcases h1 with g | g
    · exact Or.inl fun k => by rw [Nat.ble_eq_true_of_le k] at g; cases g
    · exact Or.inr fun k => by rw [show Nat.blt pc w.2.1 = true from Nat.ble_eq_true_of_le k] at g; cases g
  obtain ⟨st1, hrun, hend, hW, hsm⟩ := X.athrowLeaves hx (g := F0 m pc lsr ((.ref q :: st).map (mv G.1))) rfl rfl rfl hcov (a := G.1 q) (rest := st.map (mv G.1)) rfl (by rw [hb]; exact hd) hlk
  exact ⟨_, st1, .threw (G.1 q), hrun, hend, h, locs, by show Rep E G h T.heap; rw [hT]; exact hR, hL, Or.inr ⟨q, rfl, hq, hW, hsm.mono (by omega) (by omega)⟩⟩
end RC
