set_option maxRecDepth 100000
/-! ===== lambdas: made at their sites ===== -/
theorem invD {α : Type} {o : Option CpInfo} {f : Nat → Nat → Option α} {x : α} (h : (match o with | some (.invokeDynamic b nt) => f b nt | _ => none) = some x) : ∃ b nt, o = some (.invokeDynamic b nt) ∧ f b nt = some x := by
  split at h
  · exact ⟨_, _, rfl, h⟩
  · cases h
theorem inv6 {α : Type} {o : Option CpInfo} {f : Nat → Option α} {x : α} (h : (match o with | some (.methodHandle 6 r) => f r | _ => none) = some x) : ∃ r, f r = some x := by
  split at h
  · exact ⟨_, h⟩
  · cases h
theorem invT {α : Type} {o : Option CpInfo} {f : Nat → Option α} {x : α} (h : (match o with | some (.methodType d0) => f d0 | _ => none) = some x) : ∃ r, f r = some x := by
  split at h
  · exact ⟨_, h⟩
  · cases h
theorem invH {α : Type} {o : Option CpInfo} {f : Nat → Nat → Option α} {x : α} (h : (match o with | some (.methodHandle kind r1) => f kind r1 | _ => none) = some x) : ∃ a b, f a b = some x := by
  split at h
  · exact ⟨_, _, h⟩
  · cases h
theorem invO {α : Type} {o : Option FieldType} {f : String → Option α} {x : α} (h : (match o with | some (.object iface) => f iface | _ => none) = some x) : ∃ a, f a = some x := by
  split at h
  · exact ⟨_, h⟩
  · cases h
theorem arr3 {α : Type} {a : Array Nat} {f : Nat → Nat → Nat → Option α} {x : α} (h : (match a with | #[a0, a1, a2] => f a0 a1 a2 | _ => none) = some x) : ∃ a0 a1 a2, f a0 a1 a2 = some x := by
  rcases a with ⟨_ | ⟨a0, _ | ⟨a1, _ | ⟨a2, _ | ⟨a3, l⟩⟩⟩⟩⟩
  · exact nomatch (show (none : Option α) = some x from h)
  · exact nomatch (show (none : Option α) = some x from h)
  · exact nomatch (show (none : Option α) = some x from h)
  · exact ⟨a0, a1, a2, h⟩
  · exact nomatch (show (none : Option α) = some x from h)
theorem shape_in {cf : ClassFile} {index : Nat} {σ : Lambda.Shape} (h : Lambda.shapeOf? cf index = some σ) : ∃ (b nt : Nat) (name desc : String) (site : MethodDescriptor), cf.constantPool[index]? = some (.invokeDynamic b nt) ∧ cf.constantPool.nameAndType? nt = some (name, desc) ∧ parseMethodDescriptor desc = some site ∧ σ.captured = site.parameters := by
  unfold Lambda.shapeOf? at h
  obtain ⟨b, nt, hc, h⟩ := invD h
  obtain ⟨entries, -, h⟩ := Option.bind_eq_some_iff.mp h
  obtain ⟨bm, -, h⟩ := Option.bind_eq_some_iff.mp h
  obtain ⟨r, h⟩ := inv6 h
  obtain ⟨-, -, h⟩ := Option.bind_eq_some_iff.mp h
  obtain ⟨a0, a1, a2, h⟩ := arr3 h
  obtain ⟨d0, h⟩ := invT h
  obtain ⟨kd, r1, h⟩ := invH h
  obtain ⟨d2, h⟩ := invT h
  obtain ⟨nd, hnt, h⟩ := Option.bind_eq_some_iff.mp h
  obtain ⟨site, hsite, h⟩ := Option.bind_eq_some_iff.mp h
  obtain ⟨ifc, h⟩ := invO h
  obtain ⟨mem, -, h⟩ := Option.bind_eq_some_iff.mp h
  obtain ⟨x1, -, h⟩ := Option.bind_eq_some_iff.mp h
  obtain ⟨x2, -, h⟩ := Option.bind_eq_some_iff.mp h
  obtain ⟨x3, -, h⟩ := Option.bind_eq_some_iff.mp h
  obtain ⟨x4, -, h⟩ := Option.bind_eq_some_iff.mp h
  obtain ⟨x5, -, h⟩ := Option.bind_eq_some_iff.mp h
  exact ⟨b, nt, nd.1, nd.2, site, hc, hnt, hsite, by rw [← Option.some.inj h]⟩
theorem lsit_lay : ∀ q ∈ lsit, ((q.2.2.2.file q.1.cls).bind fun cf => (layoutFields cf 0).map fun l => l.2.1) = some q.2.2.2.captured.toArray := by decide +kernel
section RLam
variable {E : EV} {y : MethodName} {cc : ByteArray} {nL : Nat} {ret : Option FieldType} {hh : List (Nat × Nat × Nat × Nat)} {QR : Option Value → MH → Prop} {QX : Nat → MH → Prop} {d kc ks : Nat} {h : MH} {pc : Nat} {ls : List (Nat × Value)} {st : List Value}
theorem obj_0 {s : State} {args : Array Value} (hts : ∀ w ∈ lw_all, w.before args s = true) : ∀ o ok, s.vm.findClass "java/lang/Object" = some o → s.vm.classes[o]? = some ok → ok.instanceTypes.size = 0 := by
  intro o ok ho hok
  obtain ⟨c1, k1, hc1, hk1, -, -, -, hn⟩ := Cond.instantiable_spec (hts (.instantiable "java/lang/Object" 0) q2158)
  cases ho.symm.trans hc1
  cases hok.symm.trans hk1
  exact hn
/-- what a linked site's class is like -/
theorem lam_cls {q : MethodName × Nat × Nat × Lambda.Shape} {i : Nat} {c : ClassId} {s : State} {args : Array Value} (hq : lsit[i]? = some q) (hl : lamOK q c s) (hts : ∀ w ∈ lw_all, w.before args s = true) :
    ∃ k : Class, s.vm.classes[c]? = some k ∧ k.instanceTypes = q.2.2.2.captured.toArray ∧ k.kind = .ordinary := by
  obtain ⟨m, dk, cf, i0, p0, hm, hk, hcf, hsh, hfind, hmade, hcall, -⟩ := hl
  obtain ⟨kS, hkS, hnS⟩ := className_of_methodNamed hm
  cases hk.symm.trans hkS
  obtain ⟨dk', k, ok, tk, file, cf', object, iface, toy, lay, methods, target, found, hd', hk', hfile, hcf', hobj, -, hok, hlay, hms, ht, htk, hg, -, hrec, -, -, -, hitf, hpool, hmeth, hfields, hty, hres, -⟩ := Lambda.isMade_spec hmade
  cases hk.symm.trans hd'
  have h0 := obj_0 hts object ok hobj hok
  have hok0 : ok.instanceTypes = #[] := Array.eq_empty_of_size_eq_zero h0
  have hl9 := lsit_lay q (List.mem_of_getElem? hq)
  rw [← hnS, hcf', Option.bind_some] at hl9
  rw [h0] at hlay
  rw [hlay] at hl9
  refine ⟨k, hk', ?_, hrec.2.1⟩
  rw [hty.1, hok0, Array.empty_append]
  exact Option.some.inj hl9
theorem zip_nar {ρ : Nat → Nat} : ∀ {ts : List FieldType} {vs : List Value}, vs.length = ts.length → (∀ (j : Nat) (t : FieldType) (v : Value), ts[j]? = some t → vs[j]? = some v → narrow t v = v) → ((ts.zip (vs.map (mv ρ))).map fun (t, v) => narrow t v) = vs.map (mv ρ)
  | [], [], _, _ => rfl
  | [], _ :: _, h, _ => by cases h
  | _ :: _, [], h, _ => by cases h
  | t :: ts, v :: vs, h, hn => by
    show narrow t (mv ρ v) :: ((ts.zip (vs.map (mv ρ))).map fun (t, v) => narrow t v) = mv ρ v :: vs.map (mv ρ)
    rw [mv_narrow ρ (hn 0 t v rfl rfl), zip_nar (Nat.succ.inj h) fun j t' v' a b => hn (j + 1) t' v' a b]
theorem r_lambda {i index kc' ks' : Nat} {σ : Lambda.Shape} (vs : List Value) (hd : decode cc pc = .ok (.invokedynamic index, 5)) (hs : lsit[i]? = some (y, pc, index, σ)) (hlen : vs.length = σ.captured.length)
    (hnar : ∀ (j : Nat) (t : FieldType) (v : Value), σ.captured[j]? = some t → vs[j]? = some v → narrow t v = v) (hfit : ∀ (j : Nat) (t : FieldType) (v : Value), σ.captured[j]? = some t → vs[j]? = some v → fits t v = true)
    (h1 : kc' + 1 ≤ kc) (h2 : ks' + vs.length ≤ ks) (hw : ((vs.reverse ++ st).map fun v => v.category).sum ≤ 100)
    (k : SW E y cc nL ret hh QR QX d kc' ks' (nh h (.inr (100 + i, vs))) (pc + 5) ls (.ref h.1 :: st)) : SW E y cc nL ret hh QR QX d kc ks h pc ls (vs.reverse ++ st) := by
  intro l G mc ms p e s m args below meth c H locs cells slots lsr C hR hL hc hs' hl
  obtain ⟨hexec, hb, hr, hlk, hml, hown, hnm, het, hts, hG, hfl⟩ := id C
  intro T hT X
  have hlam := hG.lam i _ hs
  obtain ⟨kK, hkK, htyK, hkindK⟩ := lam_cls hs hlam hts
  obtain ⟨m', dk, cf, i0, p0, hm, hk, hcf, hsh, hfind, hmade, hcall, -⟩ := hlam
  have hmm : m' = m := Option.some.inj (hm.symm.trans hnm.2)
  subst hmm
  obtain ⟨b, nt, name, desc, site, hcp, hnt, hsite, hcap⟩ := shape_in hsh
  have hslots : ((kK.instanceTypes.toList.zip (vs.map (mv G.1))).map fun (t, v) => narrow t v) = vs.map (mv G.1) := by
    rw [htyK]
    exact zip_nar hlen hnar
  have hcatE : (((vs.reverse ++ st).map (mv G.1)).map fun v => v.category).sum ≤ 100 := by
    rw [List.map_map]
    refine Nat.le_trans (Nat.le_of_eq (congrArg List.sum (List.map_congr_left fun v _ => mv_cat G.1 v))) hw
  obtain ⟨X₁, st1⟩ := X.lambdaMakes hexec (g := F0 m' pc lsr ((vs.reverse ++ st).map (mv G.1))) rfl (by rw [hml]; exact hl.1) (by rw [hb]; exact hd) (vals := vs.map (mv G.1)) (rest := st.map (mv G.1))
    hk hfind hcf hcp hnt (parseLong_of_parse hsite) (by rw [List.length_map, hlen, ← hcap]) (by rw [List.map_append, List.map_reverse]) hkK
    (by
      rw [X.admits.platform]
      show 2 * 0 + (((vs.reverse ++ st).map (mv G.1)).map fun v => v.category).sum + 3072 ≤ 64 * d + 4096
      omega) (show cells + 1 ≤ mc by omega) (by rw [hslots, List.length_map]; show slots + vs.length ≤ ms; omega)
    (fun j v hv => by
      rw [hslots, List.getElem?_toArray, List.getElem?_map] at hv
      obtain ⟨v0, hv0, rfl⟩ := Option.map_eq_some_iff.mp hv
      have hj : j < σ.captured.length := by
        rw [← hlen]
        exact (List.getElem?_eq_some_iff.mp hv0).1
      have ht : σ.captured[j]? = some σ.captured[j] := List.getElem?_eq_getElem hj
      have hf := mv_fits G.1 (hfit j _ v0 ht hv0)
      simp [State.fitsSlot, State.slotType?, hkK, hkindK, htyK, ht, hf])
  rw [hslots] at X₁ st1
  have htop := hR.top hG
  have hR1 : Rep E G (nh h (.inr (100 + i, vs))) (T.pushCell { cls := G.2.2.2.2.2 i, slots := (vs.map (mv G.1)).toArray, vm := .none }).heap := by
    have e0 : (T.pushCell { cls := G.2.2.2.2.2 i, slots := (vs.map (mv G.1)).toArray, vm := .none }).heap = H.push { cls := G.2.2.2.2.2 i, slots := (vs.map (mv G.1)).toArray, vm := .none } := by rw [← hT]; rfl
    rw [e0]
    refine hR.push hG (by rw [Array.size_push]) (fun q hq => by rw [Array.getElem?_push, if_neg (Nat.ne_of_lt hq)]) (Or.inr ⟨Nat.le_add_right _ _, ?_⟩)
    show (H.push _)[G.1 h.1]? = some _
    rw [htop, Array.getElem?_push_size, Nat.add_sub_cancel_left]
  obtain ⟨t, hst, hq⟩ := k l G mc ms p e s m' args below meth c _ locs (cells + 1) (slots + vs.length) lsr C hR1 hL (by omega) (by omega) hl _ rfl (by
    have e9 : ((vs.map (mv G.1)).toArray).size = vs.length := by rw [List.size_toArray, List.length_map]
    rw [e9] at X₁
    exact X₁)
  refine ⟨t, st1 _ ?_, hq⟩
  rw [List.map_cons, show mv G.1 (.ref h.1) = .ref T.heap.size by rw [hT, ← htop]; rfl] at hst
  exact hst
end RLam
