set_option maxRecDepth 100000
/-! ===== 'throw new E()' on the mini heap (turned from vx_throw0 of the exceptions' laws) ===== -/
theorem nw_use {w : Cond} (hw : nwGood w = true) {s : State} {A : Array Value} (h : va_Nw w s) : w.before A s = true := by
  cases w <;> first | exact absurd hw (by decide) | exact va_Nw.use rfl h | (simp [nwGood] at hw)
section RT
variable {E : EV} {y : MethodName} {cc : ByteArray} {nL : Nat} {ret : Option FieldType} {hh : List (Nat × Nat × Nat × Nat)} {QR : Option Value → MH → Prop} {QX : Nat → MH → Prop} {d kc ks : Nat} {h : MH} {pc : Nat} {ls : List (Nat × Value)} {st : List Value}
theorem r_throw0 {cls : String} {names : List String} {ik ic ci : Nat} (hci : mcl[ci]? = some (cls, T0_, 0)) (hcls : Bundle.fit cls = true) (hnames : ∀ n ∈ names, Bundle.fit n = true)
    (hwk : Cond.classLink y.cls ik cls ∈ lw_all) (hwi : Cond.initialized cls ∈ lw_all) (hat : ∀ w ∈ vx_at0 y.cls ic cls names, w ∈ lw_all ∨ (w ∈ lw_tbl ∧ nwGood w = true))
    (hgood : ∀ w ∈ Cond.classLink y.cls ik cls :: Cond.initialized cls :: vx_at0 y.cls ic cls names, vx_ot w = true)
    (d0 : decode cc pc = .ok (.new ik, 3)) (d3 : decode cc (pc + 3) = .ok (.dup, 1)) (d4 : decode cc (pc + 4) = .ok (.invokespecial ic, 3)) (d7 : decode cc (pc + 7) = .ok (.athrow, 1))
    (hout : ∀ x ∈ tableOf hh, covers x (pc + 7) = false) (hd : names.length + 3 < d) (h1 : 1 ≤ kc) (h2 : 6 ≤ ks) (hnl : names.length ≤ 5)
    (k : QX h.1 (nh h (.inr (ci, [])))) : SW E y cc nL ret hh QR QX d kc ks h pc ls [] := by
  intro l G mc ms p e s m args below meth c H locs cells slots lsr C hR hL hc hs hl
  obtain ⟨hexec, hb, hr, hlk, hml, hown, hnm, het, hts, hG, hfl⟩ := id C
  intro T hT X
  have htr : e.platform.stackTraces = false := Launch.traces_off hfl X.admits
  have Y := vx_rebase X (R' := { frames := d, locals := LB d, cells := 1, slots := 6 }) (Nat.le_refl _) (Nat.le_refl _) (show cells + 1 ≤ mc by omega) (show slots + 6 ≤ ms by omega)
  obtain ⟨s', hA⟩ : ∃ z, z = (T.setVm s.vm).setFrames (.invoking m args :: below) := ⟨_, rfl⟩
  rw [← hA] at Y
  have hvm : s'.vm = s.vm := by rw [hA]; rfl
  have hhp : s'.heap = H := by rw [hA]; exact hT
  have hW0 : s.WarmedH s'.vm := by rw [hvm]; exact State.WarmedH.refl s
  have hat' : ∀ w ∈ vx_at0 y.cls ic cls names, w.before args s' = true := fun w hw => vx_ot_at hW0 hvm.symm (hgood w (List.mem_cons_of_mem _ (List.mem_cons_of_mem _ hw))) ((hat w hw).elim (hts w) (fun z => nw_use z.2 (hG.nw z.1 z.2)))
  have hk' : (Cond.classLink y.cls ik cls).before args s' = true := vx_ot_at hW0 hvm.symm (hgood _ List.mem_cons_self) (hts _ hwk)
  have hini' : (Cond.initialized cls).before args s' = true := vx_ot_at hW0 hvm.symm (hgood _ (List.mem_cons_of_mem _ List.mem_cons_self)) (hts _ hwi)
  have keep : ∀ a : Nat, a < G.2.2.2.2.1.size → ¬ G.2.1 ≤ a → H[a]? = G.2.2.2.2.1[a]? := fun a _ hn => hR.2.2.1 a (by omega)
  have hU' : vx_Zq Bundle.tN "UNASSIGNED_STACK" Bundle.steD (fun a => G.2.1 ≤ a) s' s'.heap := by rw [hhp]; exact vx_Zq.moved hW0.alike (hG.th.1.kept keep)
  have hN' : vx_Zq Bundle.tN "SUPPRESSED_SENTINEL" Bundle.listD (fun a => G.2.1 ≤ a) s' s'.heap := by rw [hhp]; exact vx_Zq.moved hW0.alike (hG.th.2.kept keep)
  have hw : ∀ w ∈ Bundle.ownAtoms0 y.cls ic cls names, w.before args s' = true := vx_own hat' (vx_isRefq hU'.1) (vx_isRefq hN'.1) hU'.2.word hN'.2.word
  have hown' : s'.vm.findClass y.cls = some m.cls := by rw [hvm]; exact hown
  have hins : (Cond.instantiable cls 6).before args s' = true := hw _ (by simp [Bundle.ownAtoms0])
  obtain ⟨vm₁, cX, kX, hfX, hkX, -, -, X₁, st1⟩ := Y.newCold hexec (own := y.cls) (C := cls) (index := ik) (n := 6) hown' hk' hins hini'
    (g := F0 m pc lsr []) rfl (by rw [hb]; exact d0) (Nat.le_refl _) (Nat.le_refl _)
  generalize hT1 : (T.setVm vm₁).pushCell { cls := cX, slots := kX.instanceTypes.map defaultValue, vm := .none } = T1 at X₁ st1
  have hcat : (Value.ref T.heap.size).category = 1 := rfl
  have hcellA : T1.heap[T.heap.size]? = some (freshCell cX kX) := by rw [← hT1]; exact State.heap_pushCell_size _ _
  have d3' : decode c.code (pc + 3) = .ok (.dup, 1) := by rw [hb]; exact d3
  have hsz : lsr.size = c.maxLocals := by rw [hml]; exact hl.1
  obtain ⟨U, hsteps, hrun, hend, hW, hsame, ce, hce, hO⟩ := X₁.ctorThrow0 hexec htr (own := y.cls) (cls := cls) (names := names) (ic := ic) hown' hcls hnames hw (fun x hx => nomatch hx) hfX hkX hcellA (by rw [hhp, hT]; exact Nat.le_refl _)
    (g := { method := m, pc := pc + 4, locals := lsr, stack := .ref T.heap.size :: .ref T.heap.size :: [], locked := none }) rfl hsz rfl rfl (rest := []) rfl
    (by rw [hb]; exact d4) (by rw [hb]; exact d7) (by rw [het]; exact hout) hd (by
      show 2 * 0 + (1 + 0) + (13 * (names.length + 1) + 41) ≤ 64 * d + 4096
      omega) hlk
  obtain ⟨f1, f2⟩ := vx_frame hsame
  rw [hhp] at f1 f2
  have hWs : s.WarmedH U.vm := State.WarmedH.trans hW0 hW
  have hcl : s.vm.findClass cls = some ce.cls := by
    have h9 := hO.cls
    rw [hvm] at h9
    exact h9
  have hsz1 : U.heap.size = H.size + 1 := by
    have a1 := hsame.2.2.1
    have a2 := (Array.getElem?_eq_some_iff.mp hce).1
    rw [hT] at a2
    have a3 : s'.heap.size = H.size := by rw [hhp]
    have a4 : ({ U with vm := s'.vm } : State).heap.size = U.heap.size := rfl
    omega
  have hall : s.sameButNew ({ U with vm := s.vm } : State) locs mc ms := by
    subst hA
    obtain ⟨e1, e2⟩ := hsame
    rw [State.setFrames_setFrames] at e1
    have h2 : (T.setVm s.vm).sameButNew ({ U with vm := s.vm } : State) [] (0 + 1) (0 + 6) := ⟨e1, e2⟩
    have h3 := X.same.trans h2
    rw [List.append_nil] at h3
    exact h3.mono (by omega) (by omega)
  have htop := hR.top hG
  have hKn := hG.K.1 ci _ hci
  have hce' : U.heap[G.1 h.1]? = some ce := by rw [htop, ← hT]; exact hce
  refine ⟨U, ?_, .threw T.heap.size, hrun, hend, nh h (.inr (ci, [])), locs, hR.push hG hsz1 (fun q hq => f2 q hq (fun z hz => nomatch hz)) (Or.inl ⟨_, hci, ce, hce', ?_, hO.vm, fun j hj => absurd hj (Nat.not_lt_zero _)⟩), hL, Or.inr ⟨h.1, by rw [htop, hT], k, hWs, hall⟩⟩
  · refine st1 _ ?_
    show Steps p.tables e below (T1.setTop { method := m, pc := pc + 3, locals := lsr, stack := .ref T.heap.size :: [], locked := none }) _
    jvm_step X₁.here [X₁.here.top, hexec, d3', Value.category]
    exact hsteps
  · exact Option.some.inj (hcl.symm.trans hKn.2.1)
end RT
