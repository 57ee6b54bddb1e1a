set_option maxRecDepth 100000
/-! ===== invokeinterface on a lambda object ===== -/
/-- the walk of a forwarder -/
def FWK (E : EV) (i : Nat) (q : MethodName × Nat × Nat × Lambda.Shape) (z2 : List UInt8 × Nat × List Nat × Nat × Nat) (d2 a2 b2 : Nat) (h : MH) (b : Nat) (vs As : List Value) (QR2 : Option Value → MH → Prop) (QX2 : Nat → MH → Prop) : Prop :=
  ∀ (p : Program) (l : Launch) (e : Env) (G : GL) (R : Room) (s : State) (args : Array Value) (below : List Frame) (meth : Method) (c : Code) (H : Heap) (lsr : Array Slot), p.tables.exec = Jvm.exec → l.flags = flags0 → c.code.data.toList = z2.1 → lamOK q (G.2.2.2.2.2 i) s → (∀ w ∈ lw_all, w.before args s = true) →
    Rep E G h H → GOK E G s → d2 + 1 ≤ R.frames → 59 + LB d2 ≤ R.locals → a2 ≤ R.cells → b2 ≤ R.slots → c.maxLocals = z2.2.1 → meth.locks = false → meth.sig.returnType = q.2.2.2.sam.returnType → c.exceptionTable.toList = [] →
    H[G.1 b]? = some { cls := G.2.2.2.2.2 i, slots := (vs.map (mv G.1)).toArray, vm := .none } → lv_has lsr z2.2.1 (lm G.1 (lv_args 0 (.ref b :: As))) →
    W p l e R s ⟨G.2.2.2.2.2 i, 1⟩ args below meth c H [] 0 0 (sMQ below E G QR2 QX2 args s a2 b2) (F0 ⟨G.2.2.2.2.2 i, 1⟩ 0 lsr [])
section RIL
variable {E : EV} {y : MethodName} {cc : ByteArray} {nL : Nat} {ret : Option FieldType} {hh : List (Nat × Nat × Nat × Nat)} {QR : Option Value → MH → Prop} {QX : Nat → MH → Prop} {d kc ks : Nat} {h : MH} {pc : Nat} {ls : List (Nat × Value)} {st : List Value}
theorem r_invL {i idx cnt b d2 a2 b2 kc' ks' : Nat} {q : MethodName × Nat × Nat × Lambda.Shape} {z2 : List UInt8 × Nat × List Nat × Nat × Nat} {x : MethodName} {vs As stk : List Value} {QR2 : Option Value → MH → Prop} {QX2 : Nat → MH → Prop}
    (hd : decode cc pc = .ok (.invokeinterface idx cnt, 5)) (hF : FWK E i q z2 d2 a2 b2 h b vs As QR2 QX2) (hq : lsit[i]? = some q) (hz : fent[i]? = some z2) (hx : x = ⟨q.2.2.2.iface, q.2.2.2.name, q.2.2.2.sam.toString⟩) (hmh : x.cls ≠ "java/lang/invoke/MethodHandle" ∧ x.cls ≠ "java/lang/invoke/VarHandle")
    (hlnk : Cond.methodLink y.cls idx x ∈ lw_all) (hdec : Cond.declares x ∈ lw_tbl) (hn : (parseMethodDescriptor x.desc).map (fun z => z.parameters.length) = some As.length) (hpl : plainName (q.1.cls ++ "$$Lambda") = true)
    (hb2 : h.2 b = some (.inr (100 + i, vs))) (hKb : KK ≤ b) (hstk : stk = As.reverse ++ .ref b :: st) (hlen : Nat.ble (lg_sl (.ref b :: As)).length z2.2.1 = true) (hml : z2.2.1 ≤ 40) (hd1 : d2 + 2 ≤ d) (hk1 : kc' + a2 ≤ kc) (hk2 : ks' + b2 ≤ ks) (hst : (st.map fun v => v.category).sum ≤ 8)
    (kr : ∀ v h', QR2 v h' → SW E y cc nL ret hh QR QX d kc' ks' h' (pc + 5) ls (v.toList ++ st)) (kx : ∀ q h', QX2 q h' → SX E y cc nL ret hh QR QX d kc' ks' h' pc ls q) : SW E y cc nL ret hh QR QX d kc ks h pc ls stk := by
  intro l G mc ms p e s m args below meth c H locs cells slots lsr C hR hL hc hs hl
  obtain ⟨hexec, hb, hr, hlk, hmL, hown, hnm, het, hts, hG, hfl⟩ := id C
  intro T hT X
  subst hstk
  have hlam := hG.lam i _ hq
  obtain ⟨kK, tk, file, methk, ck, toy, t, f1, f2, f3, f4, f5, f6, f7, f8, f9, f10, f11, f12, f13, f14, f15, f16, f17, f18, f19, -⟩ := fwd_facts hq hz hlam hts
  obtain ⟨r0, r, hn0, hrm, hstat, hsig⟩ := Cond.declares_spec (va_Nw.use (A := args) rfl (hG.nw hdec rfl))
  obtain ⟨nm1, nm2⟩ := name_of_methodNamed hn0 hrm
  obtain ⟨hsel, hasg, ⟨ki, hki, hii⟩, hway⟩ := lam_sel hlam hx hn0 hmh
  have hcell : H[G.1 b]? = some { cls := G.2.2.2.2.2 i, slots := (vs.map (mv G.1)).toArray, vm := .none } := by
    rcases hR.2.2.2.2.2 b _ hKb hb2 with ⟨r9, g1, -⟩ | ⟨-, g1⟩
    · have : mcl[100 + i]? = none := List.getElem?_eq_none (by rw [mcl_len]; omega)
      rw [this] at g1
      cases g1
    · rw [g1, Nat.add_sub_cancel_left]
  have hlen1 : (As.map (mv G.1)).length = r.sig.parameters.length := by
    rw [hsig] at hn
    rw [List.length_map]
    exact (Option.some.inj hn).symm
  obtain ⟨vm₁, X₁, hstep₁⟩ := X.invokeinterface hexec hown (hts _ hlnk) hn0 hrm hstat hki hii hmh (a := G.1 b) (cell := { cls := G.2.2.2.2.2 i, slots := (vs.map (mv G.1)).toArray, vm := .none }) (by rw [hT]; exact hcell) (fun z h => by cases h) f1 hasg
    (m' := ⟨G.2.2.2.2.2 i, 1⟩) (by rw [Launch.admits_selectMethod X.admits]; exact hsel) f6 (by rw [nm1, nm2, hx]; exact hway) (by rw [f11]; decide) (by simp [Method.isAbstract, f11, hasFlag, Acc.abstract])
    (g := F0 m pc lsr ((As.reverse ++ .ref b :: st).map (mv G.1))) rfl (argsL := As.map (mv G.1)) (rest := st.map (mv G.1)) hlen1 (by show (As.reverse ++ .ref b :: st).map (mv G.1) = _; simp [List.map_append, List.map_reverse, mv]) (by rw [hb]; exact hd)
  have hW1 : s.WarmedH vm₁ := X₁.warmed
  have hsz : lsr.size = c.maxLocals := hl.1.trans hmL.symm
  have hts1 : ∀ w ∈ lw_all, w.before args (T.setVm vm₁) = true := fun w hw => word_at X₁.warmed (good_of_word (lw_good1 hw)) (hts w hw)
  have hlam1 : lamOK q (G.2.2.2.2.2 i) (T.setVm vm₁) := lamOK_warm X₁.warmed hlam
  obtain ⟨kK1, tk1, file1, methk1, ck1, toy1, t1, j1, j2, j3, j4, j5, j6, j7, j8, j9, j10, j11, j12, j13, -⟩ := fwd_facts hq hz hlam1 hts1
  have hpk : (T.setVm vm₁).plainMethod ⟨G.2.2.2.2.2 i, 1⟩ := State.plainMethod.of_name (fun k' hk' => by cases j1.symm.trans hk'; rw [j2]; exact hpl)
  have hcatS : ((st.map (mv G.1)).map fun v => v.category).sum ≤ 8 := by rw [st_cat]; exact hst
  obtain ⟨Y₀, hin⟩ := X₁.into (g := { F0 m pc lsr ((As.reverse ++ .ref b :: st).map (mv G.1)) with stack := st.map (mv G.1) }) rfl hsz (by rw [hb]; exact hd) ((Value.ref b :: As).map (mv G.1)).toArray
    (R' := { frames := d2 + 1, locals := 59 + LB d2, cells := a2, slots := b2 }) j6 j7 j10 hpk (by show d2 + 1 + 1 ≤ d; omega)
    (by
      show 2 * 0 + ((st.map (mv G.1)).map fun v => v.category).sum + (ck1.maxLocals + 11) + (59 + LB d2) ≤ 64 * d + 4096
      rw [j9]
      unfold LB
      omega) (show cells + a2 ≤ mc by omega) (show slots + b2 ≤ ms by omega)
  rw [j9, lg_entry_eq] at Y₀ hin
  have hle := lv_entry ((Value.ref b :: As).map (mv G.1)) (n := z2.2.1) (by rw [lg_len]; exact Nat.le_of_ble_eq_true hlen)
  rw [lm_args] at hle
  generalize hlsE : ((lg_sl ((Value.ref b :: As).map (mv G.1)) ++ List.replicate (z2.2.1 - (lg_sl ((Value.ref b :: As).map (mv G.1))).length) Slot.unset).toArray) = lsrE at Y₀ hin hle
  generalize hU0 : ((T.setVm vm₁).setTop { F0 m pc lsr ((As.reverse ++ .ref b :: st).map (mv G.1)) with stack := st.map (mv G.1) }).pushFrame (.java (F0 ⟨G.2.2.2.2.2 i, 1⟩ 0 lsrE [])) = U₀ at Y₀ hin
  have hheap : U₀.heap = H := by rw [← hU0, ← hT]; rfl
  obtain ⟨t9, st9, o, hrun, hend, h', L, hRep, hLn, hcase⟩ := hF p l e G { frames := d2 + 1, locals := 59 + LB d2, cells := a2, slots := b2 } _ _ _ _ _ H lsrE hexec hfl j8 (lamOK_warm (U := (T.setVm vm₁).calling { F0 m pc lsr ((As.reverse ++ .ref b :: st).map (mv G.1)) with stack := st.map (mv G.1) } ⟨G.2.2.2.2.2 i, 1⟩ ((Value.ref b :: As).map (mv G.1)).toArray) hW1 hlam)
    (fun w hw => word_at (U := (T.setVm vm₁).calling { F0 m pc lsr ((As.reverse ++ .ref b :: st).map (mv G.1)) with stack := st.map (mv G.1) } ⟨G.2.2.2.2.2 i, 1⟩ ((Value.ref b :: As).map (mv G.1)).toArray) hW1 (good_of_word (lw_good1 hw)) (hts w hw)) hR (hG.warm hW1) (Nat.le_refl _) (Nat.le_refl _) (Nat.le_refl _) (Nat.le_refl _) j9 j10 j12 j13 hcell hle U₀ hheap Y₀
  have hgo : ∀ target, Steps p.tables e below t9 target → Steps p.tables e below (T.setTop (F0 m pc lsr ((As.reverse ++ .ref b :: st).map (mv G.1)))) target := fun target hs => by
    refine hstep₁ _ fun acts => ?_
    have hin' := hin acts
    show Steps p.tables e below (doInvoke e ((T.setVm vm₁).setTop { F0 m pc lsr ((As.reverse ++ .ref b :: st).map (mv G.1)) with stack := st.map (mv G.1) }) acts ⟨G.2.2.2.2.2 i, 1⟩ ((Value.ref b :: As).map (mv G.1)).toArray).1 target
    rw [hin']
    exact (Steps.weaken (mid := [.java { F0 m pc lsr ((As.reverse ++ .ref b :: st).map (mv G.1)) with stack := st.map (mv G.1) }]) st9).trans hs
  rcases hcase with ⟨v0, rfl, hq1, hfe⟩ | ⟨q0, rfl, hq1, hW9, hsm⟩
  · obtain ⟨-, hW9, hsm⟩ := id hfe
    obtain ⟨T', X', -, -, ht⟩ := X₁.outOf (g := { F0 m pc lsr ((As.reverse ++ .ref b :: st).map (mv G.1)) with stack := st.map (mv G.1) }) rfl (by rw [hb]; exact hd) hend hW9 hsm
    have hT' : T'.heap = t9.heap := by rw [ht]; rfl
    obtain ⟨tt, a1, b1⟩ := kr v0 h' hq1 l G mc ms p e s m args below meth c T'.heap (locs ++ L) (cells + a2) (slots + b2) lsr C (by rw [hT']; exact hRep) (locs_app hL hLn) (by omega) (by omega) hl T' rfl X'
    refine ⟨tt, hgo _ ?_, b1⟩
    have e9 : (v0.toList ++ st).map (mv G.1) = (v0.map (mv G.1)).toList ++ st.map (mv G.1) := by cases v0 <;> rfl
    rw [e9] at a1
    rw [ht]
    exact a1
  · obtain ⟨T', X', -, hT', ht⟩ := outOfX X₁ (g := { F0 m pc lsr ((As.reverse ++ .ref b :: st).map (mv G.1)) with stack := st.map (mv G.1) }) rfl hend hW9 hsm
    obtain ⟨tt, a1, b1⟩ := kx q0 h' hq1 l G mc ms p e s m args below meth c T'.heap (locs ++ L) (cells + a2) (slots + b2) lsr (st.map (mv G.1)) C (by rw [hT']; exact hRep) (locs_app hL hLn) (by omega) (by omega) hl T' rfl X'
    refine ⟨tt, hgo _ ?_, b1⟩
    rw [ht]
    exact a1
end RIL
