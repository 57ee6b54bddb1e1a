set_option maxRecDepth 100000
/-! ===== Math.max, min, abs ===== -/
section RMA
variable {E : EV} {y : MethodName} {cc : ByteArray} {nL : Nat} {ret : Option FieldType} {hh : List (Nat × Nat × Nat × Nat)} {QR : Option Value → MH → Prop} {QX : Nat → MH → Prop} {d kc ks : Nat} {h : MH} {pc : Nat} {ls : List (Nat × Value)} {st : List Value}
theorem r_mmax {idx : Nat} {x y1 : Int32} (hd : decode cc pc = .ok (.invokestatic idx, 3)) (hlnk : Cond.methodLink y.cls idx Lib.Math.max.name ∈ lw_all) (hd1 : 1 ≤ d) (hst : (st.map fun v => v.category).sum ≤ 100)
    (k : SW E y cc nL ret hh QR QX d kc ks h (pc + 3) ls (.int (if x < y1 then y1 else x) :: st)) : SW E y cc nL ret hh QR QX d kc ks h pc ls (.int y1 :: .int x :: st) := by
  intro l G mc ms p e s m args below meth c H locs cells slots lsr C hR hL hc hs hl
  obtain ⟨hx, hb, hr, hlk, hml, hown, hnm, het, hts, hG, hfl⟩ := id C
  refine va_mmax hx hb (hml.trans hl.1.symm) hown (hts _ hlnk) (hts _ q456) (hts _ q87) (hts _ q457) (show 1 ≤ d from hd1) (by rw [st_cat]; show _ ≤ 64 * d + 4096; omega) (show cells ≤ mc by omega) (show slots ≤ ms by omega) hd ?_
  exact k l G mc ms p e s m args below meth c H locs cells slots lsr C hR hL hc hs hl
theorem r_mmin {idx : Nat} {x y1 : Int32} (hd : decode cc pc = .ok (.invokestatic idx, 3)) (hlnk : Cond.methodLink y.cls idx Lib.Math.min.name ∈ lw_all) (hd1 : 1 ≤ d) (hst : (st.map fun v => v.category).sum ≤ 100)
    (k : SW E y cc nL ret hh QR QX d kc ks h (pc + 3) ls (.int (if y1 < x then y1 else x) :: st)) : SW E y cc nL ret hh QR QX d kc ks h pc ls (.int y1 :: .int x :: st) := by
  intro l G mc ms p e s m args below meth c H locs cells slots lsr C hR hL hc hs hl
  obtain ⟨hx, hb, hr, hlk, hml, hown, hnm, het, hts, hG, hfl⟩ := id C
  refine va_mmin hx hb (hml.trans hl.1.symm) hown (hts _ hlnk) (hts _ q500) (hts _ q87) (hts _ q501) (show 1 ≤ d from hd1) (by rw [st_cat]; show _ ≤ 64 * d + 4096; omega) (show cells ≤ mc by omega) (show slots ≤ ms by omega) hd ?_
  exact k l G mc ms p e s m args below meth c H locs cells slots lsr C hR hL hc hs hl
theorem r_mabs {idx : Nat} {x : Int32} (hd : decode cc pc = .ok (.invokestatic idx, 3)) (hlnk : Cond.methodLink y.cls idx Lib.Math.abs.name ∈ lw_all) (hd1 : 1 ≤ d) (hst : (st.map fun v => v.category).sum ≤ 100)
    (k : SW E y cc nL ret hh QR QX d kc ks h (pc + 3) ls (.int (if 0 ≤ x then x else 0 - x) :: st)) : SW E y cc nL ret hh QR QX d kc ks h pc ls (.int x :: st) := by
  intro l G mc ms p e s m args below meth c H locs cells slots lsr C hR hL hc hs hl
  obtain ⟨hx, hb, hr, hlk, hml, hown, hnm, het, hts, hG, hfl⟩ := id C
  refine va_mabs hx hb (hml.trans hl.1.symm) hown (hts _ hlnk) (hts _ q1032) (hts _ q87) (hts _ q1033) (show 1 ≤ d from hd1) (by rw [st_cat]; show _ ≤ 64 * d + 4096; omega) (show cells ≤ mc by omega) (show slots ≤ ms by omega) hd ?_
  exact k l G mc ms p e s m args below meth c H locs cells slots lsr C hR hL hc hs hl
theorem rn_mmax {idx a b : Nat} (hd : decode cc pc = .ok (.invokestatic idx, 3)) (hlnk : Cond.methodLink y.cls idx Lib.Math.max.name ∈ lw_all) (hd1 : 1 ≤ d) (hst : (st.map fun v => v.category).sum ≤ 100) (ha : a < 2 ^ 31) (hb : b < 2 ^ 31)
    (k : SW E y cc nL ret hh QR QX d kc ks h (pc + 3) ls (.int (nI (max a b)) :: st)) : SW E y cc nL ret hh QR QX d kc ks h pc ls (.int (nI b) :: .int (nI a) :: st) := by
  refine r_mmax hd hlnk hd1 hst ?_
  by_cases e : a < b
  · rw [if_pos ((nI_ltI ha hb).mpr e)]
    rw [show max a b = b by omega] at k
    exact k
  · rw [if_neg (fun z => e ((nI_ltI ha hb).mp z))]
    rw [show max a b = a by omega] at k
    exact k
theorem rn_mmin {idx a b : Nat} (hd : decode cc pc = .ok (.invokestatic idx, 3)) (hlnk : Cond.methodLink y.cls idx Lib.Math.min.name ∈ lw_all) (hd1 : 1 ≤ d) (hst : (st.map fun v => v.category).sum ≤ 100) (ha : a < 2 ^ 31) (hb : b < 2 ^ 31)
    (k : SW E y cc nL ret hh QR QX d kc ks h (pc + 3) ls (.int (nI (min a b)) :: st)) : SW E y cc nL ret hh QR QX d kc ks h pc ls (.int (nI b) :: .int (nI a) :: st) := by
  refine r_mmin hd hlnk hd1 hst ?_
  by_cases e : b < a
  · rw [if_pos ((nI_ltI hb ha).mpr e)]
    rw [show min a b = b by omega] at k
    exact k
  · rw [if_neg (fun z => e ((nI_ltI hb ha).mp z))]
    rw [show min a b = a by omega] at k
    exact k
end RMA
