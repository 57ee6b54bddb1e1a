set_option maxRecDepth 100000
/-! ===== lambdas: called ===== -/
/-- the forwarders: bytes, locals, the fields' entries, the method's, its class's -/
def fent : List (List UInt8 × Nat × List Nat × Nat × Nat) := [([42, 180, 0, 15, 43, 184, 0, 23, 172], 2, [15], 23, 19), ([42, 180, 0, 16, 42, 180, 0, 18, 43, 184, 0, 26, 172], 2, [16, 18], 26, 22), ([42, 180, 0, 15, 43, 184, 0, 23, 172], 2, [15], 23, 19), ([42, 180, 0, 15, 43, 184, 0, 23, 172], 2, [15], 23, 19), ([42, 180, 0, 15, 43, 184, 0, 23, 172], 2, [15], 23, 19), ([42, 180, 0, 15, 43, 184, 0, 23, 172], 2, [15], 23, 19), ([42, 180, 0, 15, 43, 184, 0, 23, 172], 2, [15], 23, 19), ([42, 180, 0, 16, 42, 180, 0, 18, 27, 28, 184, 0, 26, 172], 3, [16, 18], 26, 22), ([42, 180, 0, 15, 27, 184, 0, 23, 172], 2, [15], 23, 19), ([42, 180, 0, 15, 27, 184, 0, 23, 172], 2, [15], 23, 19), ([42, 180, 0, 15, 43, 184, 0, 23, 172], 2, [15], 23, 19), ([42, 180, 0, 16, 42, 180, 0, 18, 43, 184, 0, 26, 172], 2, [16, 18], 26, 22), ([42, 180, 0, 15, 43, 184, 0, 23, 172], 2, [15], 23, 19), ([42, 180, 0, 15, 43, 184, 0, 23, 172], 2, [15], 23, 19), ([42, 180, 0, 15, 43, 184, 0, 23, 172], 2, [15], 23, 19), ([42, 180, 0, 15, 43, 184, 0, 23, 172], 2, [15], 23, 19), ([42, 180, 0, 15, 43, 184, 0, 23, 172], 2, [15], 23, 19), ([42, 180, 0, 17, 42, 180, 0, 19, 43, 182, 0, 27, 172], 2, [17, 19], 27, 23)]
def fokB (z : (MethodName × Nat × Nat × Lambda.Shape) × (List UInt8 × Nat × List Nat × Nat × Nat)) : Bool :=
  (z.1.2.2.2.file z.1.1.cls).any fun D =>
    (((layoutMethods D).bind (·[1]?)).any fun m => (m.code.any fun c => decide (c.code.data.toList = z.2.1) && decide (c.maxLocals = z.2.2.1)) && decide (m.accessFlags = 1) && decide (m.sig.returnType = z.1.2.2.2.sam.returnType)) &&
    decide (D.constantPool[z.2.2.2.2.1]? = some (.methodref z.2.2.2.2.2 (z.2.2.2.2.1 - 1))) && decide (D.constantPool.className? z.2.2.2.2.2 = some z.1.2.2.2.implClass) &&
    decide (D.constantPool.nameAndType? (z.2.2.2.2.1 - 1) = some (z.1.2.2.2.implName, z.1.2.2.2.implDesc.toString)) && decide (D.constantPool[z.2.2.2.2.2]? = some (.class_ (z.2.2.2.2.2 - 1))) &&
    decide (D.constantPool.string? (z.2.2.2.2.2 - 1) = some z.1.2.2.2.implClass) && decide (z.2.2.2.2.2 ≠ D.thisClass) &&
    z.2.2.2.1.zipIdx.all fun fj => decide (D.constantPool[fj.1]? = some (.fieldref 2 (fj.1 - 1))) && (layoutFields D 0).any fun l => ((D.constantPool.nameAndType? (fj.1 - 1)).any fun nd => decide (l.1.findIdx? (·.name == nd.1) = some fj.2)) && (l.1[fj.2]?).any fun f => !f.isStatic && decide (f.slot = fj.2)
theorem fok_all : ∀ z ∈ lsit.zip fent, fokB z = true := by decide +kernel
theorem fwd_facts {q : MethodName × Nat × Nat × Lambda.Shape} {z2 : List UInt8 × Nat × List Nat × Nat × Nat} {i : Nat} {c : ClassId} {s : State} {args : Array Value} (hq : lsit[i]? = some q) (hz : fent[i]? = some z2) (hl : lamOK q c s) (hts : ∀ w ∈ lw_all, w.before args s = true) :
    ∃ (k tk : Class) (file : ClassFile) (methk : Method) (ck : Code) (toy : ClassId) (t : MethodId), s.vm.classes[c]? = some k ∧ k.name = q.1.cls ++ "$$Lambda" ∧ k.cf = some file ∧ file.constantPool[z2.2.2.2.1]? = some (.methodref z2.2.2.2.2 (z2.2.2.2.1 - 1)) ∧
      file.constantPool.nameAndType? (z2.2.2.2.1 - 1) = some (q.2.2.2.implName, q.2.2.2.implDesc.toString) ∧ s.vm.method? ⟨c, 1⟩ = some methk ∧ methk.code = some ck ∧ ck.code.data.toList = z2.1 ∧ ck.maxLocals = z2.2.1 ∧ methk.locks = false ∧ methk.accessFlags = 0x0001 ∧
      methk.sig.returnType = q.2.2.2.sam.returnType ∧ ck.exceptionTable.toList = [] ∧ s.vm.findClass q.2.2.2.implClass = some toy ∧ s.vm.classes[toy]? = some tk ∧ tk.isInterface = q.2.2.2.implItf ∧
      ((methodIn toy q.2.2.2.implName q.2.2.2.implDesc.toString tk.isInterface none).ask { classPath := fun _ => none } s.vm).1 = .ok t ∧ s.vm.methodReady c z2.2.2.2.1 t ∧ s.vm.classReady c z2.2.2.2.2 toy ∧
      ∀ (j f : Nat), z2.2.2.1[j]? = some f → ∃ g0, s.vm.fieldReady c f c g0 ∧ g0.isStatic = false ∧ g0.slot = j := by
  obtain ⟨m, dk, cf, i0, p0, hm, hk, hcf, hsh, hfind, hmade, hcall, -⟩ := hl
  obtain ⟨kS, hkS, hnS⟩ := className_of_methodNamed hm
  cases hk.symm.trans hkS
  obtain ⟨dk', k, ok, tk, file, D, object, iface, toy, lay, methods, target, found, hd', hk', hfile, hD, hobj, -, hok, hlay, hms, ht, htk, hg, -, hrec, -, -, -, hitf, hpool, hmeth, hfields, hty, hres, -⟩ := Lambda.isMade_spec hmade
  cases hk.symm.trans hd'
  have h0 := obj_0 hts object ok hobj hok
  rw [h0] at hlay
  have hf9 := fok_all (q, z2) (List.mem_of_getElem? (i := i) (by rw [List.getElem?_zip_eq_some]; exact ⟨hq, hz⟩))
  unfold fokB at hf9
  rw [← hnS, hD, Option.any_some] at hf9
  simp only [Bool.and_eq_true, decide_eq_true_eq] at hf9
  obtain ⟨⟨⟨⟨⟨⟨⟨g1, g2⟩, g3⟩, g4⟩, g5⟩, g6⟩, g7⟩, g8⟩ := hf9
  rw [hms, Option.bind_some, Option.any_eq_true] at g1
  obtain ⟨fw, hfw, g1⟩ := g1
  simp only [Bool.and_eq_true, decide_eq_true_eq, Option.any_eq_true] at g1
  obtain ⟨⟨⟨fc, hfc, g11, g12⟩, g13⟩, g14⟩ := g1
  obtain ⟨b, hb, hsame⟩ := hmeth 1 fw hfw
  simp only [Lambda.sameMethod, Bool.and_eq_true, decide_eq_true_eq] at hsame
  obtain ⟨⟨hn, -, hsig, hfl⟩, hcode⟩ := hsame
  cases hbc : b.code with
  | none => simp [hfc, hbc] at hcode
  | some y =>
    simp only [hfc, hbc, Bool.and_eq_true, decide_eq_true_eq] at hcode
    refine ⟨k, tk, file, b, y, toy, target, hk', hrec.1.trans (by rw [hnS]), hfile, by rw [hpool.2.1]; exact g2, by rw [hpool.2.1]; exact g4, by simp [Vm.method?, hk', hb], hbc, ?_, ?_, ?_, by rw [← hfl]; exact g13, by rw [← hsig]; exact g14, ?_, ht, htk, hitf, hg,
      ⟨k, hk', hres _ _ (Lambda.resolvedOf_method g2 g3 ht htk g4 hg)⟩, ⟨k, hk', hres _ _ (Lambda.resolvedOf_class g5 g7 g6 ht)⟩, fun j f hjf => ?_⟩
    · rw [← hcode.1.1.1.1.2.2]
      exact g11
    · rw [← hcode.1.1.1.1.2.1]
      exact g12
    · simp [Method.locks, Method.isSynchronized, ← hfl, g13, hasFlag, Acc.synchronized]
    · rw [Array.isEmpty_iff.mp hcode.1.1.2]
    · have g9 := List.all_eq_true.mp g8 (f, j) (List.mem_of_getElem? (i := j) (by rw [List.getElem?_zipIdx, hjf]; simp))
      rw [hlay] at g9
      simp only [Bool.and_eq_true, decide_eq_true_eq, Option.any_some, Option.any_eq_true] at g9
      obtain ⟨e1, ⟨nd, e2, e3⟩, g0, e4, e5⟩ := g9
      simp only [Bool.and_eq_true, decide_eq_true_eq, Bool.not_eq_true'] at e5
      exact ⟨g0, ⟨k, j, k, hk', hres _ _ (Lambda.resolvedOf_field e1 e2 e3), hk', hfields j _ e4⟩, e5.1, e5.2⟩
/-- the inner walk has ended by throwing (the returning one: Stand.outOf) -/
theorem outOfX {p : Program} {l : Launch} {e : Env} {R : Room} {s : State} {m : MethodId} {args : Array Value} {below : List Frame} {meth : Method} {c : Code} {T : State} {locs : List Loc} {cells slots : Nat}
    (X : Stand p l e R s m args below meth c T locs cells slots) {g : JFrame} (hg : g.method = m) {mk : MethodId} {a : Array Value} {t : State} {q : Addr} {L : List Loc} {k n : Nat}
    (hend : t.frames = .throwing q :: .java g :: below) (hW : (T.calling g mk a).WarmedH t.vm) (hsame : (T.calling g mk a).sameButNew ({ t with vm := (T.calling g mk a).vm } : State) L k n) :
    ∃ T', Stand p l e R s m args below meth c T' (locs ++ L) (cells + k) (slots + n) ∧ T.WarmedH T'.vm ∧ T'.heap = t.heap ∧ t = (T'.setTop g).pushFrame (.throwing q) := by
  subst hg
  have htop := X.here.top
  obtain ⟨g₀, hr⟩ := X.frames_eq
  obtain ⟨e2, q2, q3, q4, q5, q6⟩ := id hsame
  have e3 : t = ({ (T.calling g mk a).setFrames t.frames with heap := t.heap, slotsUsed := t.slotsUsed } : State).setVm t.vm := by
    have : t = ({ t with vm := (T.calling g mk a).vm } : State).setVm t.vm := rfl
    rw [e2] at this
    exact this
  have hW' : T.WarmedH t.vm := hW
  have hr' : (({ T with heap := t.heap, slotsUsed := t.slotsUsed } : State).setVm t.vm).frames = .java g₀ :: below := hr
  have hs₂ : t = ((({ T with heap := t.heap, slotsUsed := t.slotsUsed } : State).setVm t.vm).setTop g).pushFrame (.throwing q) := by
    refine e3.trans ?_
    rw [hend, State.calling_eq htop, State.setFrames_setFrames, State.pushFrame, State.frames_setTop _ hr', State.setTop_of_frames _ hr', State.setFrames_setFrames]
    rfl
  have hB : T.sameButNew ({ T with heap := t.heap, slotsUsed := t.slotsUsed } : State) L k n := by
    refine ⟨?_, q2, q3, q4, q5, q6⟩
    obtain ⟨th, hth, -⟩ := State.frames_cons hr
    show ({ T with heap := t.heap, slotsUsed := t.slotsUsed } : State) = { T.setFrames T.frames with heap := t.heap, slotsUsed := t.slotsUsed }
    rw [State.setFrames_self hth]
  exact ⟨({ T with heap := t.heap, slotsUsed := t.slotsUsed } : State).setVm t.vm,
    ⟨X.admits, X.cas, X.clock, X.frames, X.room, X.hears, X.method, X.code, (X.here.setHeapUsed t.heap t.slotsUsed).setVm hW'.alike, X.tail, State.WarmedH.trans X.warmed hW', X.limits, X.bytes, X.same.trans (hB.setVm s.vm)⟩, hW', rfl, hs₂⟩
/-- the class of a linked site answers its interface's method by its second method -/
theorem lam_sel {q : MethodName × Nat × Nat × Lambda.Shape} {c : ClassId} {s : State} {x : MethodName} {r0 : MethodId} (hl : lamOK q c s) (hx : x = ⟨q.2.2.2.iface, q.2.2.2.name, q.2.2.2.sam.toString⟩) (hn : s.methodNamed? x = some r0) (hmh : x.cls ≠ "java/lang/invoke/MethodHandle" ∧ x.cls ≠ "java/lang/invoke/VarHandle") :
    selectMethod {} s.vm c r0 = .method ⟨c, 1⟩ ∧ s.vm.assignable c r0.cls = true ∧ (∃ ki, s.vm.classes[r0.cls]? = some ki ∧ ki.isInterface = true) ∧
      ((c :: s.vm.superclasses c).any fun k => (declaredIn s.vm q.2.2.2.name q.2.2.2.sam.toString k).any fun (_, y) => y.isPrivate || y.isStatic) = false := by
  obtain ⟨m, dk, cf, i0, p0, hm, hk, hcf, hsh, hfind, hmade, hcall, ic, ki, hic, hki, hii⟩ := hl
  obtain ⟨dk', k, ok, tk, file, D, object, iface, toy, lay, methods, target, found, hd', hk', hfile, hD, hobj, hif, hok, hlay, hms, ht, htk, hg, hfound, hrec, -, -, -, hitf, hpool, hmeth, hfields, hty, hres, hsel⟩ := Lambda.isMade_spec hmade
  cases hif.symm.trans hic
  obtain ⟨i2, hi2, hasg, hway⟩ := State.lambdaCallable_spec hcall
  cases hif.symm.trans hi2
  have hcls := findClass_of_methodNamed hn
  have hmf := State.methodFound?_of_named hn hmh
  subst hx
  cases hif.symm.trans hcls
  simp only [State.methodFound?, hic, hki, hii, Option.bind_eq_bind, Option.bind_some] at hmf
  rw [hfound] at hmf
  have e9 : found = r0 := Option.some.inj hmf
  subst e9
  exact ⟨hsel, hasg, ⟨ki, hki, hii⟩, hway⟩
