set_option maxRecDepth 100000
/-! ===== rows that touch the mini heap ===== -/
theorem q_oi1 : Cond.instanceMethod Lib.objectInit ∈ lw_all := q114
theorem q_oi2 : Cond.code Lib.objectInit ⟨#[0xb1]⟩ 1 none ∈ lw_all := q115
theorem mv_rf (ρ : Nat → Nat) (r : Option Nat) : va_rf (r.map ρ) = mv ρ (va_rf r) := by cases r <;> rfl
theorem mv_vpV (ρ : Nat → Nat) (fs : List Value) (j : Nat) : vp_V (fs.map (mv ρ)) j = mv ρ (vp_V fs j) := by
  unfold vp_V
  cases hj : fs[j]? with
  | none => simp [List.getD_eq_getElem?_getD, hj, mv]
  | some v => simp [List.getD_eq_getElem?_getD, hj]
theorem mv_narrow {ty : FieldType} {v : Value} (ρ : Nat → Nat) (h : narrow ty v = v) : narrow ty (mv ρ v) = mv ρ v := by
  cases v <;> first | exact h | (cases ty <;> rfl)
theorem mv_fits {ty : FieldType} {v : Value} (ρ : Nat → Nat) (h : fits ty v = true) : fits ty (mv ρ v) = true := by
  cases v <;> first | exact h | (cases ty <;> first | rfl | exact h)
theorem mv_default (ρ : Nat → Nat) (ty : FieldType) : mv ρ (defaultValue ty) = defaultValue ty := by cases ty <;> rfl
section HL
variable {E : EV} {G : GL} {h : MH} {H H1 : Heap} {s : State} {args : Array Value} {k : Nat}
/-- an object, a constant or not: what is read of it -/
theorem rd_obj (hR : Rep E G h H) (hG : GOK E G s) (hts : ∀ w ∈ lw_all, w.before args s = true) {ci : Nat} {fs : List Value} {r : vw_C} (hk : h.2 k = some (.inr (ci, fs))) (hr : kcl[ci]? = some r) :
    ∃ cell : Cell, H[G.1 k]? = some cell ∧ cell.vm ≠ .unknown ∧ cell.vm.isStatics = false ∧ s.vm.findClass r.1 = some cell.cls ∧ ∀ j, j < fs.length → j < r.2.2 → fv s cell (r.2.1 j).1 (r.2.1 j).2.1 (r.2.1 j).2.2.1 (mv G.1 (vp_V fs j)) := by
  rcases Nat.lt_or_ge k KK with g | g
  · have h5 := hR.2.2.2.2.1 k g
    obtain ⟨cell, e1, e2, e3, r', e4, e5, e6⟩ := hG.ct (h5.symm.trans hk)
    have hrr : r' = r := Option.some.inj (e4.symm.trans hr)
    subst hrr
    exact ⟨cell, (hR.2.2.1 _ (hG.rhoC g)).trans e1, e2, e3, e5, fun j hj _ => by rw [← mv_vpV]; exact e6 j hj⟩
  · rcases hR.2.2.2.2.2 k _ g hk with ⟨r', e1, cell, q1, q2, q3, q4⟩ | ⟨e1, -⟩
    · have hrr : r' = r := Option.some.inj ((kcl_of e1).symm.trans hr)
      subst hrr
      obtain ⟨hS, hfc, kC, hkC, hkind⟩ := hG.K.1 ci r' e1
      refine ⟨cell, q1, by rw [q3]; exact fun h => (by cases h), by rw [q3]; rfl, by rw [q2]; exact hfc, fun j hj hj2 => ?_⟩
      obtain ⟨cf, kf, fi, f, hi, hsl⟩ := hS j hj2
      refine ⟨cf, kf, fi, f, hi, (u_facts hfc hkC (u_lays hts (mcl_ok r' (List.mem_of_getElem? e1)).1 hj2) hi).1, ?_⟩
      rw [hsl, q4 j hj2, mv_vpV]
    · exfalso
      have h2 : ci < kcl.length := (List.getElem?_eq_some_iff.mp hr).1
      have h3 : kcl.length = 23 := rfl
      have e1 : 100 ≤ ci := e1
      omega
theorem rd_recv (hR : Rep E G h H) (hG : GOK E G s) (hts : ∀ w ∈ lw_all, w.before args s = true) {ci : Nat} {fs : List Value} {r : vw_C} (hk : h.2 k = some (.inr (ci, fs))) (hr : kcl[ci]? = some r) : ∃ cell : Cell, H[G.1 k]? = some cell ∧ cell.vm.isStatics = false ∧ s.vm.findClass r.1 = some cell.cls := by
  obtain ⟨cell, h1, -, h3, h4, -⟩ := rd_obj hR hG hts hk hr
  exact ⟨cell, h1, h3, h4⟩
theorem locs_put {n0 a i : Nat} {locs : List Loc} (h : ∀ z ∈ locs, n0 ≤ z.base) (ha : n0 ≤ a) : ∀ z ∈ locs ++ [(⟨a, i⟩ : Loc)], n0 ≤ z.base := by
  intro z hz
  rcases List.mem_append.mp hz with h1 | h1
  · exact h z h1
  · rw [List.mem_singleton.mp h1]
    exact ha
end HL
/-- a field's link, for reading -/
def FL (own : String) (idx ci j : Nat) : Prop := ∃ (r : vw_C) (ref : String), kcl[ci]? = some r ∧ j < r.2.2 ∧ Cond.fieldLink own idx ref (r.2.1 j).2.1 (r.2.1 j).2.2.1 ∈ lw_all ∧ (ref = (r.2.1 j).1 ∨ Cond.sameField ref (r.2.1 j).1 (r.2.1 j).2.1 (r.2.1 j).2.2.1 ∈ lw_all)
/-- .. for writing -/
def FP (own : String) (idx ci j : Nat) (ty : FieldType) (fin : Bool) : Prop := ∃ (r : vw_C) (ref : String), mcl[ci]? = some r ∧ j < r.2.2 ∧ Cond.fieldLink own idx ref (r.2.1 j).2.1 (r.2.1 j).2.2.1 ∈ lw_all ∧ (ref = (r.2.1 j).1 ∨ Cond.sameField ref (r.2.1 j).1 (r.2.1 j).2.1 (r.2.1 j).2.2.1 ∈ lw_all) ∧ parseFieldDescriptor (r.2.1 j).2.2.1 = some ty ∧ (r.2.1 j).2.2.2 = fin ∧ (fin = true → (r.2.1 j).1 = own)
theorem FP.FL {own : String} {idx ci j : Nat} {ty : FieldType} {fin : Bool} (h : FP own idx ci j ty fin) : FL own idx ci j := by
  obtain ⟨r, ref, h1, h2, h3, h4, -⟩ := h
  exact ⟨r, ref, kcl_of h1, h2, h3, h4⟩
theorem fl_same {s : State} {args : Array Value} {ref o n d : String} (hts : ∀ w ∈ lw_all, w.before args s = true) (h : ref = o ∨ Cond.sameField ref o n d ∈ lw_all) (x : ClassId × Class × Nat × Field) (ho : s.fieldFound? o n d = some x) : s.fieldFound? ref n d = some x := by
  rcases h with rfl | h
  · exact ho
  · exact u_same (hts _ h) x ho
/-- a class that is made by 'new': so many slots; its fields at first -/
def NW (own : String) (idx ci n : Nat) (fs : List Value) : Prop := ∃ r : vw_C, mcl[ci]? = some r ∧ Cond.classLink own idx r.1 ∈ lw_all ∧ Cond.instantiable r.1 n ∈ lw_all ∧ Cond.initialized r.1 ∈ lw_all ∧ ∀ j, j < r.2.2 → ∀ ty, parseFieldDescriptor (r.2.1 j).2.2.1 = some ty → defaultValue ty = vp_V fs j
theorem av_i (ρ : Nat → Nat) (f : Nat → Int32) (k : Nat) (x : Int32) : updV (av ρ (.inl f)) k (.int x) = av ρ (.inl (va_up f k x)) := by
  funext j
  by_cases h : j = k <;> simp [updV, av, va_up, h]
theorem av_l (ρ : Nat → Nat) (f : Nat → Int64) (k : Nat) (x : Int64) : updV (av ρ (.inr (.inl f))) k (.long x) = av ρ (.inr (.inl (va_up f k x))) := by
  funext j
  by_cases h : j = k <;> simp [updV, av, va_up, h]
theorem av_d (ρ : Nat → Nat) (f : Nat → UInt64) (k : Nat) (x : UInt64) : updV (av ρ (.inr (.inr (.inr (.inl f))))) k (.double x) = av ρ (.inr (.inr (.inr (.inl (va_up f k x))))) := by
  funext j
  by_cases h : j = k <;> simp [updV, av, va_up, h]
theorem av_q (ρ : Nat → Nat) (f : Nat → Option Nat) (k : Nat) (x : Option Nat) : updV (av ρ (.inr (.inr (.inr (.inr f))))) k (va_rf (x.map ρ)) = av ρ (.inr (.inr (.inr (.inr (va_up f k x))))) := by
  funext j
  by_cases h : j = k <;> simp [updV, av, va_up, h]
section RH
variable {E : EV} {y : MethodName} {cc : ByteArray} {nL : Nat} {ret : Option FieldType} {hh : List (Nat × Nat × Nat × Nat)} {QR : Option Value → MH → Prop} {QX : Nat → MH → Prop} {d kc ks : Nat} {h : MH} {pc : Nat} {ls : List (Nat × Value)} {st : List Value}
theorem r_getfield {idx ci j a : Nat} {fs : List Value} {v : Value} (hd : decode cc pc = .ok (.getfield idx, 3)) (hf : FL y.cls idx ci j) (ha : h.2 a = some (.inr (ci, fs))) (hv : fs[j]? = some v) (k : SW E y cc nL ret hh QR QX d kc ks h (pc + 3) ls (v :: st)) : SW E y cc nL ret hh QR QX d kc ks h pc ls (.ref a :: st) := by
  intro l G mc ms p e s m args below meth c H locs cells slots lsr C hR hL hc hs hl
  obtain ⟨hx, hb, hr, hlk, hml, hown, hnm, het, hts, hG, hfl⟩ := id C
  obtain ⟨r, ref, f1, f2, f3, f4⟩ := hf
  obtain ⟨cell, e1, e2, -, -, e6⟩ := rd_obj hR hG hts ha f1
  obtain ⟨cf, kf, i, f, g1, g2, g3⟩ := e6 j (List.getElem?_eq_some_iff.mp hv).1 f2
  refine W.getf hx hb hown (hts _ f3) (fl_same hts f4 _ g1) g2 e1 e2 (v := mv G.1 v) ?_ rfl rfl hd (k l G mc ms p e s m args below meth c H locs cells slots lsr C hR hL hc hs hl)
  rw [g3]
  simp [vp_V, hv]
theorem r_putfield {idx ci j a : Nat} {ty : FieldType} {fs : List Value} {v : Value} (hd : decode cc pc = .ok (.putfield idx, 3)) (hf : FP y.cls idx ci j ty false) (ha : h.2 a = some (.inr (ci, fs))) (hK : KK ≤ a) (hj : j < fs.length) (hn : narrow ty v = v) (hfit : fits ty v = true) (k : SW E y cc nL ret hh QR QX d kc ks (ph h a (.inr (ci, fs.set j v))) (pc + 3) ls st) : SW E y cc nL ret hh QR QX d kc ks h pc ls (v :: .ref a :: st) := by
  intro l G mc ms p e s m args below meth c H locs cells slots lsr C hR hL hc hs hl
  obtain ⟨hx, hb, hr, hlk, hml, hown, hnm, het, hts, hG, hfl⟩ := id C
  obtain ⟨r, ref, f1, f2, f3, f4, f5, f6, f7⟩ := hf
  obtain ⟨hin, ⟨ty0, hty0⟩, hnmr⟩ := mcl_ok r (List.mem_of_getElem? f1)
  rcases hR.2.2.2.2.2 a _ hK ha with ⟨r', e1, cell, q1, q2, q3, q4⟩ | ⟨e1, -⟩
  · have hrr : r' = r := Option.some.inj (e1.symm.trans f1)
    subst hrr
    have hap := va_apart (own := y.cls) (D := G.2.2.1) (cl := mcl) (tys := tyl G) hts hin ty0 hty0 hnmr hG.K f1
    obtain ⟨hS, hfc, kC, hkC, hkind⟩ := hG.K.1 ci _ f1
    obtain ⟨cf, kf, fi, f, hi, hsl⟩ := hS j f2
    have hlay := hts _ (hin _ (u_in_lay f2))
    unfold u_lay at hlay
    rw [if_neg (by rw [f6]; decide)] at hlay
    have hst := (u_facts hfc hkC (u_lays hts hin f2) hi).1
    have h6 := u_store hfc hkC hkind hlay hi f5 (mv_narrow G.1 hn) (mv_fits G.1 hfit)
    refine W.putK hx hb (f := f) ⟨hown, hts _ f3, ⟨_, _, _, fl_same hts f4 _ hi⟩, hst⟩ (by rw [q2]; exact h6) q1 q3 (by rw [hsl]; exact k2_hasslot (q4 j f2)) rfl rfl hd fun H' e1 e2 e3 => ?_
    rw [hsl] at e1 ⊢
    refine k l G mc ms p e s m args below meth c H' _ cells slots lsr C (hR.put hG hK ha e2 e3 (Or.inl ⟨_, f1, ?_⟩)) (locs_put hL (hG.old hK)) hc hs hl
    have hm : (fs.set j v).map (mv G.1) = (fs.map (mv G.1)).set j (mv G.1 v) := List.map_set
    show t_OB (G.1 a) _ _ _ H' (vp_V ((fs.set j v).map (mv G.1)))
    rw [hm]
    exact t_OB.to (V := updV (vp_V (fs.map (mv G.1))) j (mv G.1 v)) ⟨_, e1, q2, q3, t_set q4 hap f2 _⟩ (fun i _ => vp_updV_set (by rw [List.length_map]; exact hj) _ i)
  · exfalso
    have h2 : ci < mcl.length := (List.getElem?_eq_some_iff.mp f1).1
    rw [mcl_len] at h2
    have e1 : 100 ≤ ci := e1
    omega
theorem r_putfinal {idx ci j a : Nat} {ty : FieldType} {fs : List Value} {v : Value} (hd : decode cc pc = .ok (.putfield idx, 3)) (hf : FP y.cls idx ci j ty true) (ha : h.2 a = some (.inr (ci, fs))) (hK : KK ≤ a) (hj : j < fs.length) (hn : narrow ty v = v) (hfit : fits ty v = true) (hin2 : y.name = "<init>") (k : SW E y cc nL ret hh QR QX d kc ks (ph h a (.inr (ci, fs.set j v))) (pc + 3) ls st) : SW E y cc nL ret hh QR QX d kc ks h pc ls (v :: .ref a :: st) := by
  intro l G mc ms p e s m args below meth c H locs cells slots lsr C hR hL hc hs hl
  obtain ⟨hx, hb, hr, hlk, hml, hown, hnm, het, hts, hG, hfl⟩ := id C
  obtain ⟨r, ref, f1, f2, f3, f4, f5, f6, f7⟩ := hf
  obtain ⟨hin, ⟨ty0, hty0⟩, hnmr⟩ := mcl_ok r (List.mem_of_getElem? f1)
  rcases hR.2.2.2.2.2 a _ hK ha with ⟨r', e1, cell, q1, q2, q3, q4⟩ | ⟨e1, -⟩
  · have hrr : r' = r := Option.some.inj (e1.symm.trans f1)
    subst hrr
    have hap := va_apart (own := y.cls) (D := G.2.2.1) (cl := mcl) (tys := tyl G) hts hin ty0 hty0 hnmr hG.K f1
    obtain ⟨hS, hfc, kC, hkC, hkind⟩ := hG.K.1 ci _ f1
    obtain ⟨cf, kf, fi, f, hi, hsl⟩ := hS j f2
    have hlay := hts _ (hin _ (u_in_lay f2))
    unfold u_lay at hlay
    rw [if_pos f6] at hlay
    have hst := (u_facts hfc hkC (u_lays hts hin f2) hi).1
    have hcf : m.cls = cf := by
      obtain ⟨_, _, c', _, _, _, -, -, hf', -, -, -, hown2, -⟩ := Cond.laysFinal_spec hlay
      have e1 : c' = cf := by have := hi.symm.trans hf'; simp at this; exact this.1.symm
      rw [f7 rfl] at hown2
      rw [← e1]; exact Option.some.inj (hown.symm.trans hown2)
    have h6 := u_fits hfc hkC hkind (Or.inr hlay) hi f5 (mv_narrow G.1 hn) (mv_fits G.1 hfit)
    refine W.putFinK hx hb hown (hts _ f3) (fl_same hts f4 _ hi) hst hcf (hnm.1.trans hin2) (by rw [q2]; exact h6) q1 q3 (by rw [hsl]; exact k2_hasslot (q4 j f2)) rfl rfl hd fun H' e1 e2 e3 => ?_
    rw [hsl] at e1 ⊢
    refine k l G mc ms p e s m args below meth c H' _ cells slots lsr C (hR.put hG hK ha e2 e3 (Or.inl ⟨_, f1, ?_⟩)) (locs_put hL (hG.old hK)) hc hs hl
    have hm : (fs.set j v).map (mv G.1) = (fs.map (mv G.1)).set j (mv G.1 v) := List.map_set
    show t_OB (G.1 a) _ _ _ H' (vp_V ((fs.set j v).map (mv G.1)))
    rw [hm]
    exact t_OB.to (V := updV (vp_V (fs.map (mv G.1))) j (mv G.1 v)) ⟨_, e1, q2, q3, t_set q4 hap f2 _⟩ (fun i _ => vp_updV_set (by rw [List.length_map]; exact hj) _ i)
  · exfalso
    have h2 : ci < mcl.length := (List.getElem?_eq_some_iff.mp f1).1
    rw [mcl_len] at h2
    have e1 : 100 ≤ ci := e1
    omega
theorem r_iaload {n a : Nat} {f : Nat → Int32} {i : Int32} (hd : decode cc pc = .ok (.iaload, 1)) (ha : h.2 a = some (.inl (0, n, .inl f))) (hi : vp_in i n) (k : SW E y cc nL ret hh QR QX d kc ks h (pc + 1) ls (.int (f i.toNatClampNeg) :: st)) : SW E y cc nL ret hh QR QX d kc ks h pc ls (.int i :: .ref a :: st) := by
  intro l G mc ms p e s m args below meth c H locs cells slots lsr C hR hL hc hs hl
  obtain ⟨hx, hb, hr, hlk, hml, hown, hnm, het, hts, hG, hfl⟩ := id C
  obtain ⟨cell, e1, e2, e3, e4, e5⟩ := rd_arr hR hG ha
  exact W.iald hx hb e1 e2 e3 (by rw [e4]; exact hi) (e5 _ (Nat.not_le.mp fun q => hi (Or.inr q))) rfl rfl hd (k l G mc ms p e s m args below meth c H locs cells slots lsr C hR hL hc hs hl)
theorem r_baload {n a : Nat} {f : Nat → Int32} {i : Int32} (hd : decode cc pc = .ok (.baload, 1)) (ha : h.2 a = some (.inl (1, n, .inl f))) (hi : vp_in i n) (k : SW E y cc nL ret hh QR QX d kc ks h (pc + 1) ls (.int (f i.toNatClampNeg) :: st)) : SW E y cc nL ret hh QR QX d kc ks h pc ls (.int i :: .ref a :: st) := by
  intro l G mc ms p e s m args below meth c H locs cells slots lsr C hR hL hc hs hl
  obtain ⟨hx, hb, hr, hlk, hml, hown, hnm, het, hts, hG, hfl⟩ := id C
  obtain ⟨cell, e1, e2, e3, e4, e5⟩ := rd_arr hR hG ha
  exact W.bald hx hb e1 e2 e3 (by rw [e4]; exact hi) (e5 _ (Nat.not_le.mp fun q => hi (Or.inr q))) rfl rfl hd (k l G mc ms p e s m args below meth c H locs cells slots lsr C hR hL hc hs hl)
theorem r_caload {n a : Nat} {f : Nat → Int32} {i : Int32} (hd : decode cc pc = .ok (.caload, 1)) (ha : h.2 a = some (.inl (2, n, .inl f))) (hi : vp_in i n) (k : SW E y cc nL ret hh QR QX d kc ks h (pc + 1) ls (.int (f i.toNatClampNeg) :: st)) : SW E y cc nL ret hh QR QX d kc ks h pc ls (.int i :: .ref a :: st) := by
  intro l G mc ms p e s m args below meth c H locs cells slots lsr C hR hL hc hs hl
  obtain ⟨hx, hb, hr, hlk, hml, hown, hnm, het, hts, hG, hfl⟩ := id C
  obtain ⟨cell, e1, e2, e3, e4, e5⟩ := rd_arr hR hG ha
  exact W.cald hx hb e1 e2 e3 (by rw [e4]; exact hi) (e5 _ (Nat.not_le.mp fun q => hi (Or.inr q))) rfl rfl hd (k l G mc ms p e s m args below meth c H locs cells slots lsr C hR hL hc hs hl)
theorem r_laload {n a : Nat} {f : Nat → Int64} {i : Int32} (hd : decode cc pc = .ok (.laload, 1)) (ha : h.2 a = some (.inl (3, n, .inr (.inl f)))) (hi : vp_in i n) (k : SW E y cc nL ret hh QR QX d kc ks h (pc + 1) ls (.long (f i.toNatClampNeg) :: st)) : SW E y cc nL ret hh QR QX d kc ks h pc ls (.int i :: .ref a :: st) := by
  intro l G mc ms p e s m args below meth c H locs cells slots lsr C hR hL hc hs hl
  obtain ⟨hx, hb, hr, hlk, hml, hown, hnm, het, hts, hG, hfl⟩ := id C
  obtain ⟨cell, e1, e2, e3, e4, e5⟩ := rd_arr hR hG ha
  exact W.lald hx hb e1 e2 e3 (by rw [e4]; exact hi) (e5 _ (Nat.not_le.mp fun q => hi (Or.inr q))) rfl rfl hd (k l G mc ms p e s m args below meth c H locs cells slots lsr C hR hL hc hs hl)
theorem r_daload {n a : Nat} {f : Nat → UInt64} {i : Int32} (hd : decode cc pc = .ok (.daload, 1)) (ha : h.2 a = some (.inl (4, n, .inr (.inr (.inr (.inl f)))))) (hi : vp_in i n) (k : SW E y cc nL ret hh QR QX d kc ks h (pc + 1) ls (.double (f i.toNatClampNeg) :: st)) : SW E y cc nL ret hh QR QX d kc ks h pc ls (.int i :: .ref a :: st) := by
  intro l G mc ms p e s m args below meth c H locs cells slots lsr C hR hL hc hs hl
  obtain ⟨hx, hb, hr, hlk, hml, hown, hnm, het, hts, hG, hfl⟩ := id C
  obtain ⟨cell, e1, e2, e3, e4, e5⟩ := rd_arr hR hG ha
  exact W.dald hx hb e1 e2 e3 (by rw [e4]; exact hi) (e5 _ (Nat.not_le.mp fun q => hi (Or.inr q))) rfl rfl hd (k l G mc ms p e s m args below meth c H locs cells slots lsr C hR hL hc hs hl)
theorem r_aaload {t n a : Nat} {f : Nat → Option Nat} {i : Int32} (hd : decode cc pc = .ok (.aaload, 1)) (ha : h.2 a = some (.inl (t, n, .inr (.inr (.inr (.inr f)))))) (ht : (aty t).isReference = true) (hi : vp_in i n) (k : SW E y cc nL ret hh QR QX d kc ks h (pc + 1) ls (va_rf (f i.toNatClampNeg) :: st)) : SW E y cc nL ret hh QR QX d kc ks h pc ls (.int i :: .ref a :: st) := by
  intro l G mc ms p e s m args below meth c H locs cells slots lsr C hR hL hc hs hl
  obtain ⟨hx, hb, hr, hlk, hml, hown, hnm, het, hts, hG, hfl⟩ := id C
  obtain ⟨cell, e1, e2, e3, e4, e5⟩ := rd_arr hR hG ha
  have e6 := e5 _ (Nat.not_le.mp fun q => hi (Or.inr q))
  rw [show av G.1 (.inr (.inr (.inr (.inr f)))) i.toNatClampNeg = mv G.1 (va_rf (f i.toNatClampNeg)) from mv_rf _ _] at e6
  exact W.aald hx hb e1 e2 ht e3 (by rw [e4]; exact hi) e6 rfl rfl hd (k l G mc ms p e s m args below meth c H locs cells slots lsr C hR hL hc hs hl)
theorem r_alen {t n a : Nat} {x : (Nat → Int32) ⊕ (Nat → Int64) ⊕ (Nat → UInt32) ⊕ (Nat → UInt64) ⊕ (Nat → Option Nat)} (hd : decode cc pc = .ok (.arraylength, 1)) (ha : h.2 a = some (.inl (t, n, x))) (k : SW E y cc nL ret hh QR QX d kc ks h (pc + 1) ls (.int (nI n) :: st)) : SW E y cc nL ret hh QR QX d kc ks h pc ls (.ref a :: st) := by
  intro l G mc ms p e s m args below meth c H locs cells slots lsr C hR hL hc hs hl
  obtain ⟨hx, hb, hr, hlk, hml, hown, hnm, het, hts, hG, hfl⟩ := id C
  obtain ⟨cell, e1, e2, e3, e4, e5⟩ := rd_arr hR hG ha
  exact W.alen (n := nI n) hx hb e1 e2 (by rw [e4]; rfl) rfl rfl hd (k l G mc ms p e s m args below meth c H locs cells slots lsr C hR hL hc hs hl)
theorem r_iastore {n a : Nat} {f : Nat → Int32} {i : Int32} {x : Int32} (hd : decode cc pc = .ok (.iastore, 1)) (ha : h.2 a = some (.inl (0, n, .inl f))) (hK : KK ≤ a) (hi : vp_in i n) (k : SW E y cc nL ret hh QR QX d kc ks (ph h a (.inl (0, n, .inl (va_up f i.toNatClampNeg x)))) (pc + 1) ls st) : SW E y cc nL ret hh QR QX d kc ks h pc ls (.int x :: .int i :: .ref a :: st) := by
  intro l G mc ms p e s m args below meth c H locs cells slots lsr C hR hL hc hs hl
  obtain ⟨hx, hb, hr, hlk, hml, hown, hnm, het, hts, hG, hfl⟩ := id C
  obtain ⟨e0, e1⟩ := hR.2.2.2.2.2 a _ hK ha
  refine W.iast hx hb e1 ((hG.K.2 0 _ rfl).1 n _) (fun q => by cases q) (by rw [arrV_size]; exact hi) rfl rfl hd fun H1 g1 z oq => ?_
  refine k l G mc ms p e s m args below meth c H1 _ cells slots lsr C (hR.put hG hK ha z oq ⟨e0, ?_⟩) (locs_put hL (hG.old hK)) hc hs hl
  rw [g1, arrV_store]
  exact congrArg (fun w => some (arrV _ n w)) (av_i _ _ _ _)
theorem r_bastore {n a : Nat} {f : Nat → Int32} {i : Int32} {x : Int32} (hd : decode cc pc = .ok (.bastore, 1)) (ha : h.2 a = some (.inl (1, n, .inl f))) (hK : KK ≤ a) (hi : vp_in i n) (k : SW E y cc nL ret hh QR QX d kc ks (ph h a (.inl (1, n, .inl (va_up f i.toNatClampNeg x.toInt8.toInt32)))) (pc + 1) ls st) : SW E y cc nL ret hh QR QX d kc ks h pc ls (.int x :: .int i :: .ref a :: st) := by
  intro l G mc ms p e s m args below meth c H locs cells slots lsr C hR hL hc hs hl
  obtain ⟨hx, hb, hr, hlk, hml, hown, hnm, het, hts, hG, hfl⟩ := id C
  obtain ⟨e0, e1⟩ := hR.2.2.2.2.2 a _ hK ha
  refine W.bast hx hb e1 ((hG.K.2 1 _ rfl).1 n _) (fun q => by cases q) (by rw [arrV_size]; exact hi) rfl rfl hd fun H1 g1 z oq => ?_
  refine k l G mc ms p e s m args below meth c H1 _ cells slots lsr C (hR.put hG hK ha z oq ⟨e0, ?_⟩) (locs_put hL (hG.old hK)) hc hs hl
  rw [g1, arrV_store]
  exact congrArg (fun w => some (arrV _ n w)) (av_i _ _ _ _)
theorem r_castore {n a : Nat} {f : Nat → Int32} {i : Int32} {x : Int32} (hd : decode cc pc = .ok (.castore, 1)) (ha : h.2 a = some (.inl (2, n, .inl f))) (hK : KK ≤ a) (hi : vp_in i n) (k : SW E y cc nL ret hh QR QX d kc ks (ph h a (.inl (2, n, .inl (va_up f i.toNatClampNeg (vp_nar .char x))))) (pc + 1) ls st) : SW E y cc nL ret hh QR QX d kc ks h pc ls (.int x :: .int i :: .ref a :: st) := by
  intro l G mc ms p e s m args below meth c H locs cells slots lsr C hR hL hc hs hl
  obtain ⟨hx, hb, hr, hlk, hml, hown, hnm, het, hts, hG, hfl⟩ := id C
  obtain ⟨e0, e1⟩ := hR.2.2.2.2.2 a _ hK ha
  refine W.cast hx hb e1 ((hG.K.2 2 _ rfl).1 n _) (fun q => by cases q) (by rw [arrV_size]; exact hi) rfl rfl hd fun H1 g1 z oq => ?_
  refine k l G mc ms p e s m args below meth c H1 _ cells slots lsr C (hR.put hG hK ha z oq ⟨e0, ?_⟩) (locs_put hL (hG.old hK)) hc hs hl
  rw [g1, arrV_store]
  exact congrArg (fun w => some (arrV _ n w)) (av_i _ _ _ _)
theorem r_lastore {n a : Nat} {f : Nat → Int64} {i : Int32} {x : Int64} (hd : decode cc pc = .ok (.lastore, 1)) (ha : h.2 a = some (.inl (3, n, .inr (.inl f)))) (hK : KK ≤ a) (hi : vp_in i n) (k : SW E y cc nL ret hh QR QX d kc ks (ph h a (.inl (3, n, .inr (.inl (va_up f i.toNatClampNeg x))))) (pc + 1) ls st) : SW E y cc nL ret hh QR QX d kc ks h pc ls (.long x :: .int i :: .ref a :: st) := by
  intro l G mc ms p e s m args below meth c H locs cells slots lsr C hR hL hc hs hl
  obtain ⟨hx, hb, hr, hlk, hml, hown, hnm, het, hts, hG, hfl⟩ := id C
  obtain ⟨e0, e1⟩ := hR.2.2.2.2.2 a _ hK ha
  refine W.last hx hb e1 ((hG.K.2 3 _ rfl).1 n _) (fun q => by cases q) (by rw [arrV_size]; exact hi) rfl rfl hd fun H1 g1 z oq => ?_
  refine k l G mc ms p e s m args below meth c H1 _ cells slots lsr C (hR.put hG hK ha z oq ⟨e0, ?_⟩) (locs_put hL (hG.old hK)) hc hs hl
  rw [g1, arrV_store]
  exact congrArg (fun w => some (arrV _ n w)) (av_l _ _ _ _)
theorem r_dastore {n a : Nat} {f : Nat → UInt64} {i : Int32} {x : UInt64} (hd : decode cc pc = .ok (.dastore, 1)) (ha : h.2 a = some (.inl (4, n, .inr (.inr (.inr (.inl f)))))) (hK : KK ≤ a) (hi : vp_in i n) (k : SW E y cc nL ret hh QR QX d kc ks (ph h a (.inl (4, n, .inr (.inr (.inr (.inl (va_up f i.toNatClampNeg x))))))) (pc + 1) ls st) : SW E y cc nL ret hh QR QX d kc ks h pc ls (.double x :: .int i :: .ref a :: st) := by
  intro l G mc ms p e s m args below meth c H locs cells slots lsr C hR hL hc hs hl
  obtain ⟨hx, hb, hr, hlk, hml, hown, hnm, het, hts, hG, hfl⟩ := id C
  obtain ⟨e0, e1⟩ := hR.2.2.2.2.2 a _ hK ha
  refine W.dast hx hb e1 ((hG.K.2 4 _ rfl).1 n _) (fun q => by cases q) (by rw [arrV_size]; exact hi) rfl rfl hd fun H1 g1 z oq => ?_
  refine k l G mc ms p e s m args below meth c H1 _ cells slots lsr C (hR.put hG hK ha z oq ⟨e0, ?_⟩) (locs_put hL (hG.old hK)) hc hs hl
  rw [g1, arrV_store]
  exact congrArg (fun w => some (arrV _ n w)) (av_d _ _ _ _)
theorem r_aastore {n a b ci : Nat} {fs : List Value} {r : vw_C} {f : Nat → Option Nat} {i : Int32} (hd : decode cc pc = .ok (.aastore, 1)) (ha : h.2 a = some (.inl (5, n, .inr (.inr (.inr (.inr f)))))) (hK : KK ≤ a) (hi : vp_in i n) (hb2 : h.2 b = some (.inr (ci, fs))) (hr2 : kcl[ci]? = some r) (hcast : Cond.castable r.1 "java/lang/Object" ∈ lw_tbl) (k : SW E y cc nL ret hh QR QX d kc ks (ph h a (.inl (5, n, .inr (.inr (.inr (.inr (va_up f i.toNatClampNeg (some b)))))))) (pc + 1) ls st) : SW E y cc nL ret hh QR QX d kc ks h pc ls (.ref b :: .int i :: .ref a :: st) := by
  intro l G mc ms p e s m args below meth c H locs cells slots lsr C hR hL hc hs hl
  obtain ⟨hx, hb, hr, hlk, hml, hown, hnm, het, hts, hG, hfl⟩ := id C
  obtain ⟨e0, e1⟩ := hR.2.2.2.2.2 a _ hK ha
  obtain ⟨kA, comp, k1, k2, k3, -⟩ := (hG.K.2 5 _ rfl).2
  obtain ⟨cellV, g1, g2, g3⟩ := rd_recv hR hG hts hb2 hr2
  obtain ⟨c0, t0, w1, w2, w3⟩ := Cond.castable_spec (va_Nw.use (A := args) rfl (hG.nw hcast rfl))
  cases g3.symm.trans w1
  cases k3.symm.trans w2
  obtain ⟨kC, hkC, -⟩ := Vm.findClass_spec k3
  obtain ⟨kV, hkV, -⟩ := Vm.findClass_spec g3
  have hlt : i.toNatClampNeg < n := Nat.not_le.mp fun q => hi (Or.inr q)
  have h0 : ¬ i < 0 := fun q => hi (Or.inl q)
  refine W.aast hx hb e1 (fun q h => by cases h) (fun h => by cases h) k1 k2 rfl hkC ⟨h0, by rw [arrV_size]; exact hlt⟩ g1 (fun q h => by rw [h] at g2; cases g2) hkV w3 rfl rfl hd fun H1 g1 z oq => ?_
  refine k l G mc ms p e s m args below meth c H1 _ cells slots lsr C (hR.put hG hK ha z oq ⟨e0, ?_⟩) (locs_put hL (hG.old hK)) hc hs hl
  rw [g1, arrV_store]
  exact congrArg (fun w => some (arrV _ n w)) (av_q _ _ _ (some b))
theorem r_aastoreN {n a : Nat} {f : Nat → Option Nat} {i : Int32} (hd : decode cc pc = .ok (.aastore, 1)) (ha : h.2 a = some (.inl (5, n, .inr (.inr (.inr (.inr f)))))) (hK : KK ≤ a) (hi : vp_in i n) (k : SW E y cc nL ret hh QR QX d kc ks (ph h a (.inl (5, n, .inr (.inr (.inr (.inr (va_up f i.toNatClampNeg none))))))) (pc + 1) ls st) : SW E y cc nL ret hh QR QX d kc ks h pc ls (.null :: .int i :: .ref a :: st) := by
  intro l G mc ms p e s m args below meth c H locs cells slots lsr C hR hL hc hs hl
  obtain ⟨hx, hb, hr, hlk, hml, hown, hnm, het, hts, hG, hfl⟩ := id C
  obtain ⟨e0, e1⟩ := hR.2.2.2.2.2 a _ hK ha
  refine va_WaastN hx hb e1 ((hG.K.2 5 _ rfl).1 n _) (fun q => by cases q) (by rw [arrV_size]; exact hi) rfl rfl hd fun H1 g1 z oq => ?_
  refine k l G mc ms p e s m args below meth c H1 _ cells slots lsr C (hR.put hG hK ha z oq ⟨e0, ?_⟩) (locs_put hL (hG.old hK)) hc hs hl
  rw [g1, arrV_store]
  exact congrArg (fun w => some (arrV _ n w)) (av_q _ _ _ none)
theorem r_new {idx ci n kc' ks' : Nat} {fs : List Value} (hd : decode cc pc = .ok (.new idx, 3)) (hw : NW y.cls idx ci n fs) (h1 : kc' + 1 ≤ kc) (h2 : ks' + n ≤ ks) (k : SW E y cc nL ret hh QR QX d kc' ks' (nh h (.inr (ci, fs))) (pc + 3) ls (.ref h.1 :: st)) : SW E y cc nL ret hh QR QX d kc ks h pc ls st := by
  intro l G mc ms p e s m args below meth c H locs cells slots lsr C hR hL hc hs hl
  obtain ⟨hx, hb, hr, hlk, hml, hown, hnm, het, hts, hG, hfl⟩ := id C
  obtain ⟨r, f1, f2, f3, f4, f5⟩ := hw
  obtain ⟨hin, ⟨ty0, hty0⟩, -⟩ := mcl_ok r (List.mem_of_getElem? f1)
  have hKn := hG.K.1 ci _ f1
  refine W.newcK hx hb hown (hts _ f2) (hts _ f3) (hts _ f4) rfl hd (show cells + 1 ≤ mc by omega) (show slots + n ≤ ms by omega) hKn.2.1 rfl fun H1 kC hkC e1 z1 o1 => ?_
  rw [← hR.top hG] at e1 ⊢
  refine k l G mc ms p e s m args below meth c H1 locs (cells + 1) (slots + n) lsr C (hR.push hG z1 o1 (Or.inl ⟨r, f1, (u_born ty0 hts hin hKn hkC e1 hty0).to fun j hj => ?_⟩)) hL (by omega) (by omega) hl
  rw [mv_vpV, ← f5 j hj _ (hty0 j hj), mv_default]
theorem r_newarray {t N kc' ks' : Nat} {atype : ArrayType} {n : Int32} {z0 : (Nat → Int32) ⊕ (Nat → Int64) ⊕ (Nat → UInt32) ⊕ (Nat → UInt64) ⊕ (Nat → Option Nat)} (hd : decode cc pc = .ok (.newarray atype, 2)) (harr : Cond.arrayClass (newarray.typeOf atype) ∈ lw_all) (ht : Nat.blt t 5 = true) (hty : aty t = newarray.typeOf atype) (hz : ∀ ρ j, av ρ z0 j = defaultValue (aty t)) (hn : ¬ n < 0) (hN : n.toNatClampNeg = N) (hbig : N ≤ 1000000) (h1 : kc' + 1 ≤ kc) (h2 : ks' + N ≤ ks) (k : SW E y cc nL ret hh QR QX d kc' ks' (nh h (.inl (t, N, z0))) (pc + 2) ls (.ref h.1 :: st)) : SW E y cc nL ret hh QR QX d kc ks h pc ls (.int n :: st) := by
  intro l G mc ms p e s m args below meth c H locs cells slots lsr C hR hL hc hs hl
  obtain ⟨hx, hb, hr, hlk, hml, hown, hnm, het, hts, hG, hfl⟩ := id C
  have ht5 : t < 5 := Nat.le_of_ble_eq_true ht
  have hcb : componentBytes (newarray.typeOf atype) ≤ 8 := by cases atype <;> decide
  refine va_newaK hx hb (hts _ harr) rfl hd rfl hn hN (Nat.le_trans (Nat.mul_le_mul hbig hcb) (by decide)) (show cells + 1 ≤ mc by omega) (show slots + N ≤ ms by omega) rfl fun H1 cA e1 z1 o1 _ hNm => ?_
  have hty2 : (tyl G)[t]? = some (G.2.2.2.1 t, aty t) := by rcases (show t = 0 ∨ t = 1 ∨ t = 2 ∨ t = 3 ∨ t = 4 by omega) with rfl | rfl | rfl | rfl | rfl <;> rfl
  have hRA : s.vm.findClass ("[" ++ (aty t).toString) = some (G.2.2.2.1 t) := by
    have h9 := (hG.K.2 t _ hty2).2
    rcases (show t = 0 ∨ t = 1 ∨ t = 2 ∨ t = 3 ∨ t = 4 by omega) with rfl | rfl | rfl | rfl | rfl <;> exact h9
  have hcA : cA = G.2.2.2.1 t := by rw [← hty] at hNm; exact Option.some.inj (hNm.symm.trans hRA)
  rw [← hR.top hG] at e1 ⊢
  refine k l G mc ms p e s m args below meth c H1 locs (cells + 1) (slots + N) lsr C (hR.push hG z1 o1 ⟨Nat.lt_succ_of_lt ht5, ?_⟩) hL (by omega) (by omega) hl
  rw [e1, hcA, ← hty]
  exact congrArg (fun w => some (arrV _ N w)) (funext fun j => (hz G.1 j).symm)
theorem r_anewarray {idx N kc' ks' : Nat} {n : Int32} (hd : decode cc pc = .ok (.anewarray idx, 3)) (hcl : Cond.classLink y.cls idx "java/lang/Object" ∈ lw_all) (hn : ¬ n < 0) (hN : n.toNatClampNeg = N) (hbig : N ≤ 1000000) (h1 : kc' + 1 ≤ kc) (h2 : ks' + N ≤ ks) (k : SW E y cc nL ret hh QR QX d kc' ks' (nh h (.inl (5, N, .inr (.inr (.inr (.inr fun _ => none)))))) (pc + 3) ls (.ref h.1 :: st)) : SW E y cc nL ret hh QR QX d kc ks h pc ls (.int n :: st) := by
  intro l G mc ms p e s m args below meth c H locs cells slots lsr C hR hL hc hs hl
  obtain ⟨hx, hb, hr, hlk, hml, hown, hnm, het, hts, hG, hfl⟩ := id C
  subst hN
  refine W.anew hx hb hown (hts _ hcl) (va_AO.use hG.ao) rfl hd rfl hn (by omega) (show cells + 1 ≤ mc by omega) (show slots + n.toNatClampNeg ≤ ms by omega) fun cA kA comp f1 f2 f3 f4 => ?_
  generalize hH1 : H.push ({ cls := cA, slots := Array.replicate n.toNatClampNeg .null, vm := .none } : Cell) = H1
  have z1 : H1.size = H.size + 1 := by rw [← hH1, Array.size_push]
  have e1 : H1[H.size]? = some (arrV cA n.toNatClampNeg (fun _ => .null)) := by rw [← hH1, Array.getElem?_push_size, ← arrV_new]
  have o1 : ∀ q : Nat, q < H.size → H1[q]? = H[q]? := fun q hq => by rw [← hH1, Array.getElem?_push, if_neg (Nat.ne_of_lt hq)]
  obtain ⟨kA', comp', k1, k2, k3, k4⟩ := (hG.K.2 5 _ rfl).2
  have hcA : cA = G.2.2.2.1 5 := Option.some.inj (f1.symm.trans k4)
  rw [← hR.top hG] at e1 ⊢
  refine k l G mc ms p e s m args below meth c H1 locs (cells + 1) (slots + n.toNatClampNeg) lsr C (hR.push hG z1 o1 ⟨(show (5 : Nat) < 6 from Nat.le_refl 6), ?_⟩) hL (by omega) (by omega) hl
  rw [e1, hcA]
  rfl
theorem r_getstatic {idx : Nat} {C0 n0 d0 ref : String} {v : Value} (hd : decode cc pc = .ok (.getstatic idx, 3)) (hq : (C0, n0, d0, v) ∈ stl E) (hlnk : Cond.fieldLink y.cls idx ref n0 d0 ∈ lw_all) (href : ref = C0 ∨ Cond.sameField ref C0 n0 d0 ∈ lw_all) (k : SW E y cc nL ret hh QR QX d kc ks h (pc + 3) ls (v :: st)) : SW E y cc nL ret hh QR QX d kc ks h pc ls st := by
  intro l G mc ms p e s m args below meth c H locs cells slots lsr C hR hL hc hs hl
  obtain ⟨hx, hb, hr, hlk, hml, hown, hnm, het, hts, hG, hfl⟩ := id C
  obtain ⟨cf, kf, fi, f, a, cell, h1, h2, h3, h4, h5, h6, h7, h8⟩ := hG.st hq
  have ha : a < G.2.1 := Nat.lt_of_not_le h8
  exact W.gets hx hb hown (hts _ hlnk) (fl_same hts href _ h1) h2 h3 h4 (by rw [hR.2.2.1 a ha]; exact h5) (fun e => by rw [e] at h6; cases h6) h7 rfl hd (k l G mc ms p e s m args below meth c H locs cells slots lsr C hR hL hc hs hl)
theorem r_ldcS {idx i : Nat} {tx : String} (hd : decode cc pc = .ok (.ldc idx, 2)) (hq : ktx[i]? = some (y.cls, idx, tx)) (k : SW E y cc nL ret hh QR QX d kc ks h (pc + 2) ls (.ref (10 + i) :: st)) : SW E y cc nL ret hh QR QX d kc ks h pc ls st := by
  intro l G mc ms p e s m args below meth c H locs cells slots lsr C hR hL hc hs hl
  obtain ⟨hx, hb, hr, hlk, hml, hown, hnm, het, hts, hG, hfl⟩ := id C
  exact va_ldcS hx hb hown (hG.sr hq) hd (k l G mc ms p e s m args below meth c H locs cells slots lsr C hR hL hc hs hl)
theorem r_ldc {idx : Nat} {v : Int32} (hd : decode cc pc = .ok (.ldc idx, 2)) (hq : Cond.constant y.cls idx v ∈ lw_all) (k : SW E y cc nL ret hh QR QX d kc ks h (pc + 2) ls (.int v :: st)) : SW E y cc nL ret hh QR QX d kc ks h pc ls st := by
  intro l G mc ms p e s m args below meth c H locs cells slots lsr C hR hL hc hs hl
  obtain ⟨hx, hb, hr, hlk, hml, hown, hnm, het, hts, hG, hfl⟩ := id C
  exact lv_ldc hx hb hown (hts _ hq) hd (k l G mc ms p e s m args below meth c H locs cells slots lsr C hR hL hc hs hl)
theorem r_ldcw {idx : Nat} {v : Int32} (hd : decode cc pc = .ok (.ldc_w idx, 3)) (hq : Cond.constant y.cls idx v ∈ lw_all) (k : SW E y cc nL ret hh QR QX d kc ks h (pc + 3) ls (.int v :: st)) : SW E y cc nL ret hh QR QX d kc ks h pc ls st := by
  intro l G mc ms p e s m args below meth c H locs cells slots lsr C hR hL hc hs hl
  obtain ⟨hx, hb, hr, hlk, hml, hown, hnm, het, hts, hG, hfl⟩ := id C
  exact lv_ldcw hx hb hown (hts _ hq) hd (k l G mc ms p e s m args below meth c H locs cells slots lsr C hR hL hc hs hl)
theorem r_checkcast {idx a ci : Nat} {fs : List Value} {r : vw_C} {nm : String} (hd : decode cc pc = .ok (.checkcast idx, 3)) (hlnk : Cond.classLink y.cls idx nm ∈ lw_all) (ha : h.2 a = some (.inr (ci, fs))) (hr2 : kcl[ci]? = some r) (hcast : r.1 = nm ∨ Cond.castable r.1 nm ∈ lw_tbl) (k : SW E y cc nL ret hh QR QX d kc ks h (pc + 3) ls (.ref a :: st)) : SW E y cc nL ret hh QR QX d kc ks h pc ls (.ref a :: st) := by
  intro l G mc ms p e s m args below meth c H locs cells slots lsr C hR hL hc hs hl
  obtain ⟨hx, hb, hr, hlk, hml, hown, hnm, het, hts, hG, hfl⟩ := id C
  have hrv := rd_recv hR hG hts ha hr2
  rcases hcast with rfl | hcast
  · exact va_castE hx hb hown (hts _ hlnk) hrv hd (k l G mc ms p e s m args below meth c H locs cells slots lsr C hR hL hc hs hl)
  · exact va_castY hx hb hown (hts _ hlnk) (hG.nw hcast rfl) hrv hd (k l G mc ms p e s m args below meth c H locs cells slots lsr C hR hL hc hs hl)
theorem r_checkcastN {idx : Nat} (hd : decode cc pc = .ok (.checkcast idx, 3)) (k : SW E y cc nL ret hh QR QX d kc ks h (pc + 3) ls (.null :: st)) : SW E y cc nL ret hh QR QX d kc ks h pc ls (.null :: st) := by
  intro l G mc ms p e s m args below meth c H locs cells slots lsr C hR hL hc hs hl
  obtain ⟨hx, hb, hr, hlk, hml, hown, hnm, het, hts, hG, hfl⟩ := id C
  exact lv_castN hx hb hd (k l G mc ms p e s m args below meth c H locs cells slots lsr C hR hL hc hs hl)
theorem r_instY {idx a ci : Nat} {fs : List Value} {r : vw_C} {nm : String} (hd : decode cc pc = .ok (.instanceof idx, 3)) (hlnk : Cond.classLink y.cls idx nm ∈ lw_all) (ha : h.2 a = some (.inr (ci, fs))) (hr2 : kcl[ci]? = some r) (hcast : r.1 = nm ∨ Cond.castable r.1 nm ∈ lw_tbl) (k : SW E y cc nL ret hh QR QX d kc ks h (pc + 3) ls (.int 1 :: st)) : SW E y cc nL ret hh QR QX d kc ks h pc ls (.ref a :: st) := by
  intro l G mc ms p e s m args below meth c H locs cells slots lsr C hR hL hc hs hl
  obtain ⟨hx, hb, hr, hlk, hml, hown, hnm, het, hts, hG, hfl⟩ := id C
  have hrv := rd_recv hR hG hts ha hr2
  rcases hcast with rfl | hcast
  · exact va_instE hx hb hown (hts _ hlnk) hrv hd (k l G mc ms p e s m args below meth c H locs cells slots lsr C hR hL hc hs hl)
  · exact va_instY hx hb hown (hts _ hlnk) (hG.nw hcast rfl) hrv hd (k l G mc ms p e s m args below meth c H locs cells slots lsr C hR hL hc hs hl)
theorem r_instNo {idx a ci : Nat} {fs : List Value} {r : vw_C} {nm : String} (hd : decode cc pc = .ok (.instanceof idx, 3)) (hlnk : Cond.classLink y.cls idx nm ∈ lw_all) (ha : h.2 a = some (.inr (ci, fs))) (hr2 : kcl[ci]? = some r) (hcast : (r.1, nm) ∈ ncl) (k : SW E y cc nL ret hh QR QX d kc ks h (pc + 3) ls (.int 0 :: st)) : SW E y cc nL ret hh QR QX d kc ks h pc ls (.ref a :: st) := by
  intro l G mc ms p e s m args below meth c H locs cells slots lsr C hR hL hc hs hl
  obtain ⟨hx, hb, hr, hlk, hml, hown, hnm, het, hts, hG, hfl⟩ := id C
  exact va_instNo hx hb hown (hts _ hlnk) (hG.nc hcast) (rd_recv hR hG hts ha hr2) hd (k l G mc ms p e s m args below meth c H locs cells slots lsr C hR hL hc hs hl)
theorem r_instN {idx : Nat} (hd : decode cc pc = .ok (.instanceof idx, 3)) (k : SW E y cc nL ret hh QR QX d kc ks h (pc + 3) ls (.int 0 :: st)) : SW E y cc nL ret hh QR QX d kc ks h pc ls (.null :: st) := by
  intro l G mc ms p e s m args below meth c H locs cells slots lsr C hR hL hc hs hl
  obtain ⟨hx, hb, hr, hlk, hml, hown, hnm, het, hts, hG, hfl⟩ := id C
  exact lv_instN hx hb hd (k l G mc ms p e s m args below meth c H locs cells slots lsr C hR hL hc hs hl)
theorem r_acmp_eq {a b : Nat} {off : Int} {tgt : Nat} (hd : decode cc pc = .ok (.if_acmp .eq off, 3)) (ht : (pc : Int) + off = (tgt : Int)) (hab : a = b ∨ (KK ≤ a ∧ b < KK) ∨ (KK ≤ b ∧ a < KK) ∨ (KK ≤ a ∧ KK ≤ b)) (kt : a = b → SW E y cc nL ret hh QR QX d kc ks h tgt ls st) (kf : ¬ a = b → SW E y cc nL ret hh QR QX d kc ks h (pc + 3) ls st) : SW E y cc nL ret hh QR QX d kc ks h pc ls (.ref b :: .ref a :: st) := by
  intro l G mc ms p e s m args below meth c H locs cells slots lsr C hR hL hc hs hl
  obtain ⟨hx, hb, hr, hlk, hml, hown, hnm, het, hts, hG, hfl⟩ := id C
  have hinj : (some (G.1 a) = some (G.1 b)) ↔ a = b := by
    refine ⟨fun e => ?_, fun e => by rw [e]⟩
    have e := Option.some.inj e
    rcases hab with g | ⟨g1, g2⟩ | ⟨g1, g2⟩ | ⟨g1, g2⟩
    · exact g
    · have := hG.old g1; have := hG.rhoC g2; omega
    · have := hG.old g1; have := hG.rhoC g2; omega
    · exact hG.inj g1 g2 e
  exact lv_acmp_eq (rx := some (G.1 a)) (ry := some (G.1 b)) hx hb hd ht (fun q => kt (hinj.mp q) l G mc ms p e s m args below meth c H locs cells slots lsr C hR hL hc hs hl) (fun q => kf (fun z => q (hinj.mpr z)) l G mc ms p e s m args below meth c H locs cells slots lsr C hR hL hc hs hl)
theorem r_acmp_ne {a b : Nat} {off : Int} {tgt : Nat} (hd : decode cc pc = .ok (.if_acmp .ne off, 3)) (ht : (pc : Int) + off = (tgt : Int)) (hab : a = b ∨ (KK ≤ a ∧ b < KK) ∨ (KK ≤ b ∧ a < KK) ∨ (KK ≤ a ∧ KK ≤ b)) (kt : ¬ a = b → SW E y cc nL ret hh QR QX d kc ks h tgt ls st) (kf : a = b → SW E y cc nL ret hh QR QX d kc ks h (pc + 3) ls st) : SW E y cc nL ret hh QR QX d kc ks h pc ls (.ref b :: .ref a :: st) := by
  intro l G mc ms p e s m args below meth c H locs cells slots lsr C hR hL hc hs hl
  obtain ⟨hx, hb, hr, hlk, hml, hown, hnm, het, hts, hG, hfl⟩ := id C
  have hinj : (some (G.1 a) = some (G.1 b)) ↔ a = b := by
    refine ⟨fun e => ?_, fun e => by rw [e]⟩
    have e := Option.some.inj e
    rcases hab with g | ⟨g1, g2⟩ | ⟨g1, g2⟩ | ⟨g1, g2⟩
    · exact g
    · have := hG.old g1; have := hG.rhoC g2; omega
    · have := hG.old g1; have := hG.rhoC g2; omega
    · exact hG.inj g1 g2 e
  exact lv_acmp_ne (rx := some (G.1 a)) (ry := some (G.1 b)) hx hb hd ht (fun q => kt (fun z => q (hinj.mpr z)) l G mc ms p e s m args below meth c H locs cells slots lsr C hR hL hc hs hl) (fun q => kf (hinj.mp q) l G mc ms p e s m args below meth c H locs cells slots lsr C hR hL hc hs hl)
theorem r_objinit {idx a : Nat} (hd : decode cc pc = .ok (.invokespecial idx, 3)) (hlnk : Cond.methodLink y.cls idx Lib.objectInit ∈ lw_all) (hd1 : 1 ≤ d) (hls : nL = nL) (hst : (st.map fun v => v.category).sum ≤ 8) (k : SW E y cc nL ret hh QR QX d kc ks h (pc + 3) ls st) : SW E y cc nL ret hh QR QX d kc ks h pc ls (.ref a :: st) := by
  intro l G mc ms p e s m args below meth c H locs cells slots lsr C hR hL hc hs hl
  obtain ⟨hx, hb, hr, hlk, hml, hown, hnm, het, hts, hG, hfl⟩ := id C
  refine W.objInit hx hb hown (hts _ hlnk) (hts _ q_oi1) (hts _ q_oi2) rfl (by rw [hml]; exact hl.1) rfl hd hd1 ?_ (k l G mc ms p e s m args below meth c H locs cells slots lsr C hR hL hc hs hl)
  have hm : ((st.map (mv G.1)).map fun v => v.category).sum = (st.map fun v => v.category).sum := by rw [List.map_map]; exact congrArg List.sum (List.map_congr_left fun v _ => mv_cat _ v)
  rw [hm]
  show 2 * 0 + _ + 12 ≤ LB d
  unfold LB
  omega
theorem r_lt {a : Nat} {x : MC} (ha : h.2 a = some x) (k : a < h.1 → SW E y cc nL ret hh QR QX d kc ks h pc ls st) : SW E y cc nL ret hh QR QX d kc ks h pc ls st :=
  fun l G mc ms p e s m args below meth c H locs cells slots lsr C hR hL hc hs hl => k (hR.lt ha) l G mc ms p e s m args below meth c H locs cells slots lsr C hR hL hc hs hl
theorem r_ge (k : KK ≤ h.1 → SW E y cc nL ret hh QR QX d kc ks h pc ls st) : SW E y cc nL ret hh QR QX d kc ks h pc ls st :=
  fun l G mc ms p e s m args below meth c H locs cells slots lsr C hR hL hc hs hl => k hR.1 l G mc ms p e s m args below meth c H locs cells slots lsr C hR hL hc hs hl
theorem r_fresh (k : (∀ j, h.1 ≤ j → h.2 j = none) → SW E y cc nL ret hh QR QX d kc ks h pc ls st) : SW E y cc nL ret hh QR QX d kc ks h pc ls st :=
  fun l G mc ms p e s m args below meth c H locs cells slots lsr C hR hL hc hs hl => k hR.2.2.2.1 l G mc ms p e s m args below meth c H locs cells slots lsr C hR hL hc hs hl
theorem r_ck (k : (∀ j, j < KK → h.2 j = cst E j) → SW E y cc nL ret hh QR QX d kc ks h pc ls st) : SW E y cc nL ret hh QR QX d kc ks h pc ls st :=
  fun l G mc ms p e s m args below meth c H locs cells slots lsr C hR hL hc hs hl => k hR.2.2.2.2.1 l G mc ms p e s m args below meth c H locs cells slots lsr C hR hL hc hs hl
theorem sm_ret {p : Program} {l : Launch} {e : Env} {R : Room} {s : State} {m : MethodId} {args : Array Value} {below : List Frame} {meth : Method} {c : Code} {H : Heap} {locs : List Loc} {cells slots mc ms : Nat} {G : GL} {g : JFrame}
    (k : W p l e R s m args below meth c H locs cells slots (MQ below (fun _ _ o t => ∃ (v : Option Value) (h' : MH), o = .returned (v.map (mv G.1)) ∧ QR v h' ∧ Rep E G h' t.heap) args s cells slots (fun q => G.2.1 ≤ q)) g) (hc : cells ≤ mc) (hs : slots ≤ ms) :
    W p l e R s m args below meth c H locs cells slots (sMQ below E G QR QX args s mc ms) g := by
  intro T hT X
  obtain ⟨t, a1, oc, b1, b2, ⟨v, h', c1, c2, c3⟩, L, ⟨d1, d2, d3⟩, d4⟩ := k T hT X
  exact ⟨t, a1, oc, b1, b2, h', L, c3, d4, Or.inl ⟨v, c1, c2, d1, d2, d3.mono hc hs⟩⟩
theorem r_ireturn {x : Int32} {ty : FieldType} (hd : decode cc pc = .ok (.ireturn, 1)) (hret : ret = some ty) (hn : narrow ty (.int x) = .int x) (q : QR (some (.int x)) h) : SW E y cc nL ret hh QR QX d kc ks h pc ls [.int x] := by
  intro l G mc ms p e s m args below meth c H locs cells slots lsr C hR hL hc hs hl
  obtain ⟨hx, hb, hr, hlk, hml, hown, hnm, het, hts, hG, hfl⟩ := id C
  exact sm_ret (W.zret (ty := ty) hx hb (hr.trans hret) hn (fun t ht hW => ⟨some (.int x), h, rfl, q, by rw [ht]; exact hR⟩) hL hd hlk) (by omega) (by omega)
theorem r_dreturn {x : UInt64} (hd : decode cc pc = .ok (.dreturn, 1)) (hret : ret = some .double) (q : QR (some (.double x)) h) : SW E y cc nL ret hh QR QX d kc ks h pc ls [.double x] := by
  intro l G mc ms p e s m args below meth c H locs cells slots lsr C hR hL hc hs hl
  obtain ⟨hx, hb, hr, hlk, hml, hown, hnm, het, hts, hG, hfl⟩ := id C
  exact sm_ret (W.dret hx hb (hr.trans hret) (fun t ht hW => ⟨some (.double x), h, rfl, q, by rw [ht]; exact hR⟩) hL hd hlk) (by omega) (by omega)
theorem r_return (hd : decode cc pc = .ok (.return_, 1)) (hret : ret = none) (q : QR none h) : SW E y cc nL ret hh QR QX d kc ks h pc ls [] := by
  intro l G mc ms p e s m args below meth c H locs cells slots lsr C hR hL hc hs hl
  obtain ⟨hx, hb, hr, hlk, hml, hown, hnm, het, hts, hG, hfl⟩ := id C
  exact sm_ret (W.vret hx hb (hr.trans hret) (fun t ht hW => ⟨none, h, rfl, q, by rw [ht]; exact hR⟩) hL hd hlk) (by omega) (by omega)
theorem r_areturn {v : Value} {ty : FieldType} (hd : decode cc pc = .ok (.areturn, 1)) (hret : ret = some ty) (hty : ty.isReference = true) (q : QR (some v) h) (hv : v.isRef = true := by rfl) : SW E y cc nL ret hh QR QX d kc ks h pc ls [v] := by
  intro l G mc ms p e s m args below meth c H locs cells slots lsr C hR hL hc hs hl
  obtain ⟨hx, hb, hr, hlk, hml, hown, hnm, het, hts, hG, hfl⟩ := id C
  have hty2 : (∃ n, ty = .object n) ∨ ∃ t, ty = .array t := by
    cases ty with
    | object n => exact Or.inl ⟨n, rfl⟩
    | array t => exact Or.inr ⟨t, rfl⟩
    | _ => cases hty
  have hv2 : mv G.1 v = .null ∨ ∃ a, mv G.1 v = .ref a := by
    cases v with
    | null => exact Or.inl rfl
    | ref a => exact Or.inr ⟨_, rfl⟩
    | _ => cases hv
  exact sm_ret (W.aret hx hb (hr.trans hret) hty2 hv2 (fun t ht hW => ⟨some v, h, rfl, q, by rw [ht]; exact hR⟩) hL hd hlk) (by omega) (by omega)
end RH
