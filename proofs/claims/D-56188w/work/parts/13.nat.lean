set_option maxRecDepth 100000
/-! ===== rows on natural numbers; the model's state ===== -/
section RN
variable {E : EV} {y : MethodName} {cc : ByteArray} {nL : Nat} {ret : Option FieldType} {hh : List (Nat × Nat × Nat × Nat)} {QR : Option Value → MH → Prop} {QX : Nat → MH → Prop} {d kc ks : Nat} {h : MH} {pc : Nat} {ls : List (Nat × Value)} {st : List Value}
theorem rn_iadd {a b : Nat} (hd : decode cc pc = .ok (.iadd, 1))  (k : SW E y cc nL ret hh QR QX d kc ks h (pc + 1) ls (.int (nI (a + b)) :: st)) : SW E y cc nL ret hh QR QX d kc ks h pc ls (.int (nI b) :: .int (nI a) :: st) :=
  r_iadd hd (by rw [nI_add]; exact k)
theorem rn_isub {a b : Nat} (hd : decode cc pc = .ok (.isub, 1)) (hab : b ≤ a) (k : SW E y cc nL ret hh QR QX d kc ks h (pc + 1) ls (.int (nI (a - b)) :: st)) : SW E y cc nL ret hh QR QX d kc ks h pc ls (.int (nI b) :: .int (nI a) :: st) :=
  r_isub hd (by rw [pk_sub hab]; exact k)
theorem rn_imul {a b : Nat} (hd : decode cc pc = .ok (.imul, 1))  (k : SW E y cc nL ret hh QR QX d kc ks h (pc + 1) ls (.int (nI (a * b)) :: st)) : SW E y cc nL ret hh QR QX d kc ks h pc ls (.int (nI b) :: .int (nI a) :: st) :=
  r_imul hd (by rw [pk_mul]; exact k)
theorem rn_idiv {a b : Nat} (hd : decode cc pc = .ok (.idiv, 1)) (ha : a < 2 ^ 31) (h0 : 0 < b) (hb : b < 2 ^ 31) (k : SW E y cc nL ret hh QR QX d kc ks h (pc + 1) ls (.int (nI (a / b)) :: st)) : SW E y cc nL ret hh QR QX d kc ks h pc ls (.int (nI b) :: .int (nI a) :: st) :=
  r_idiv hd (nI_ne0 h0 hb) (by rw [pk_div ha h0 hb]; exact k)
theorem rn_irem {a b : Nat} (hd : decode cc pc = .ok (.irem, 1)) (ha : a < 2 ^ 31) (h0 : 0 < b) (hb : b < 2 ^ 31) (k : SW E y cc nL ret hh QR QX d kc ks h (pc + 1) ls (.int (nI (a % b)) :: st)) : SW E y cc nL ret hh QR QX d kc ks h pc ls (.int (nI b) :: .int (nI a) :: st) :=
  r_irem hd (nI_ne0 h0 hb) (by rw [pk_rem ha h0 hb]; exact k)
theorem rn_iinc {i n a : Nat} {ls' : List (Nat × Value)} (hd : decode cc pc = .ok (.iinc i n, 3)) (hx : lget ls i = some (.int (nI a))) (hn : Nat.blt i nL = true) (hls : lset ls i (.int (nI (a + n))) = ls') (k : SW E y cc nL ret hh QR QX d kc ks h (pc + 3) ls' st) : SW E y cc nL ret hh QR QX d kc ks h pc ls st :=
  r_iinc (v := nI (a + n)) hd hx (by rw [show Int32.ofInt (n : Int) = nI n from Int32.ofInt_eq_ofNat, nI_add]) hn hls k
theorem rn_if_eq {a : Nat} {off : Int} {tgt : Nat} (hd : decode cc pc = .ok (.ifCond .eq off, 3)) (ht : (pc : Int) + off = (tgt : Int)) (ha : a < 2 ^ 31) (kt : a = 0 → SW E y cc nL ret hh QR QX d kc ks h tgt ls st) (kf : ¬ a = 0 → SW E y cc nL ret hh QR QX d kc ks h (pc + 3) ls st) : SW E y cc nL ret hh QR QX d kc ks h pc ls (.int (nI a) :: st) :=
  r_if_eq hd ht (fun q => kt (Classical.byContradiction fun z => nI_ne0 (Nat.pos_of_ne_zero z) ha q)) (fun q => kf (fun z => q (by rw [z]; exact nI_0)))
theorem rn_if_ne {a : Nat} {off : Int} {tgt : Nat} (hd : decode cc pc = .ok (.ifCond .ne off, 3)) (ht : (pc : Int) + off = (tgt : Int)) (ha : a < 2 ^ 31) (kt : ¬ a = 0 → SW E y cc nL ret hh QR QX d kc ks h tgt ls st) (kf : a = 0 → SW E y cc nL ret hh QR QX d kc ks h (pc + 3) ls st) : SW E y cc nL ret hh QR QX d kc ks h pc ls (.int (nI a) :: st) :=
  r_if_ne hd ht (fun q => kt (fun z => q (by rw [z]; exact nI_0))) (fun q => kf (Classical.byContradiction fun z => nI_ne0 (Nat.pos_of_ne_zero z) ha q))
theorem rn_if_gt {a : Nat} {off : Int} {tgt : Nat} (hd : decode cc pc = .ok (.ifCond .gt off, 3)) (ht : (pc : Int) + off = (tgt : Int)) (ha : a < 2 ^ 31) (kt : 0 < a → SW E y cc nL ret hh QR QX d kc ks h tgt ls st) (kf : a = 0 → SW E y cc nL ret hh QR QX d kc ks h (pc + 3) ls st) : SW E y cc nL ret hh QR QX d kc ks h pc ls (.int (nI a) :: st) :=
  r_if_gt hd ht (fun q => kt (Nat.pos_of_ne_zero fun z => by rw [z, nI_0] at q; exact absurd q (by decide))) (fun q => kf (Classical.byContradiction fun z => q (by rw [← nI_0]; exact nI_lt (Nat.pos_of_ne_zero z) ha)))
theorem rn_if_le {a : Nat} {off : Int} {tgt : Nat} (hd : decode cc pc = .ok (.ifCond .le off, 3)) (ht : (pc : Int) + off = (tgt : Int)) (ha : a < 2 ^ 31) (kt : a = 0 → SW E y cc nL ret hh QR QX d kc ks h tgt ls st) (kf : 0 < a → SW E y cc nL ret hh QR QX d kc ks h (pc + 3) ls st) : SW E y cc nL ret hh QR QX d kc ks h pc ls (.int (nI a) :: st) :=
  r_if_le hd ht (fun q => kt (Classical.byContradiction fun z => nI_nle (Nat.pos_of_ne_zero z) ha q)) (fun q => kf (Nat.pos_of_ne_zero fun z => q (by rw [z, nI_0]; decide)))
theorem rn_if_ge {a : Nat} {off : Int} {tgt : Nat} (hd : decode cc pc = .ok (.ifCond .ge off, 3)) (ht : (pc : Int) + off = (tgt : Int)) (ha : a < 2 ^ 31) (kt : SW E y cc nL ret hh QR QX d kc ks h tgt ls st) : SW E y cc nL ret hh QR QX d kc ks h pc ls (.int (nI a) :: st) :=
  r_if_ge hd ht (fun _ => kt) (fun q => absurd (nI_pos' ha) q)
theorem rn_if_lt {a : Nat} {off : Int} {tgt : Nat} (hd : decode cc pc = .ok (.ifCond .lt off, 3)) (ht : (pc : Int) + off = (tgt : Int)) (ha : a < 2 ^ 31) (kf : SW E y cc nL ret hh QR QX d kc ks h (pc + 3) ls st) : SW E y cc nL ret hh QR QX d kc ks h pc ls (.int (nI a) :: st) :=
  r_if_lt hd ht (fun q => absurd q (nI_pos ha)) (fun _ => kf)
theorem rn_icmp_eq {a b : Nat} {off : Int} {tgt : Nat} (hd : decode cc pc = .ok (.if_icmp .eq off, 3)) (ht : (pc : Int) + off = (tgt : Int)) (ha : a < 2 ^ 31) (hb : b < 2 ^ 31) (kt : a = b → SW E y cc nL ret hh QR QX d kc ks h tgt ls st) (kf : ¬ a = b → SW E y cc nL ret hh QR QX d kc ks h (pc + 3) ls st) : SW E y cc nL ret hh QR QX d kc ks h pc ls (.int (nI b) :: .int (nI a) :: st) :=
  r_icmp_eq hd ht (fun q => kt ((nI_eq ha hb).mp q)) (fun q => kf (fun z => q (by rw [z])))
theorem rn_icmp_ne {a b : Nat} {off : Int} {tgt : Nat} (hd : decode cc pc = .ok (.if_icmp .ne off, 3)) (ht : (pc : Int) + off = (tgt : Int)) (ha : a < 2 ^ 31) (hb : b < 2 ^ 31) (kt : ¬ a = b → SW E y cc nL ret hh QR QX d kc ks h tgt ls st) (kf : a = b → SW E y cc nL ret hh QR QX d kc ks h (pc + 3) ls st) : SW E y cc nL ret hh QR QX d kc ks h pc ls (.int (nI b) :: .int (nI a) :: st) :=
  r_icmp_ne hd ht (fun q => kt (fun z => q (by rw [z]))) (fun q => kf ((nI_eq ha hb).mp q))
theorem rn_icmp_lt {a b : Nat} {off : Int} {tgt : Nat} (hd : decode cc pc = .ok (.if_icmp .lt off, 3)) (ht : (pc : Int) + off = (tgt : Int)) (ha : a < 2 ^ 31) (hb : b < 2 ^ 31) (kt : a < b → SW E y cc nL ret hh QR QX d kc ks h tgt ls st) (kf : b ≤ a → SW E y cc nL ret hh QR QX d kc ks h (pc + 3) ls st) : SW E y cc nL ret hh QR QX d kc ks h pc ls (.int (nI b) :: .int (nI a) :: st) :=
  r_icmp_lt hd ht (fun q => kt ((nI_ltI ha hb).mp q)) (fun q => kf (Nat.le_of_not_lt fun z => q (nI_lt z hb)))
theorem rn_icmp_ge {a b : Nat} {off : Int} {tgt : Nat} (hd : decode cc pc = .ok (.if_icmp .ge off, 3)) (ht : (pc : Int) + off = (tgt : Int)) (ha : a < 2 ^ 31) (hb : b < 2 ^ 31) (kt : b ≤ a → SW E y cc nL ret hh QR QX d kc ks h tgt ls st) (kf : a < b → SW E y cc nL ret hh QR QX d kc ks h (pc + 3) ls st) : SW E y cc nL ret hh QR QX d kc ks h pc ls (.int (nI b) :: .int (nI a) :: st) :=
  r_icmp_ge hd ht (fun q => kt ((nI_leI hb ha).mp q)) (fun q => kf (Nat.lt_of_not_le fun z => q (nI_le z ha)))
theorem rn_icmp_gt {a b : Nat} {off : Int} {tgt : Nat} (hd : decode cc pc = .ok (.if_icmp .gt off, 3)) (ht : (pc : Int) + off = (tgt : Int)) (ha : a < 2 ^ 31) (hb : b < 2 ^ 31) (kt : b < a → SW E y cc nL ret hh QR QX d kc ks h tgt ls st) (kf : a ≤ b → SW E y cc nL ret hh QR QX d kc ks h (pc + 3) ls st) : SW E y cc nL ret hh QR QX d kc ks h pc ls (.int (nI b) :: .int (nI a) :: st) :=
  r_icmp_gt hd ht (fun q => kt ((nI_ltI hb ha).mp q)) (fun q => kf (Nat.le_of_not_lt fun z => q (nI_lt z ha)))
theorem rn_icmp_le {a b : Nat} {off : Int} {tgt : Nat} (hd : decode cc pc = .ok (.if_icmp .le off, 3)) (ht : (pc : Int) + off = (tgt : Int)) (ha : a < 2 ^ 31) (hb : b < 2 ^ 31) (kt : a ≤ b → SW E y cc nL ret hh QR QX d kc ks h tgt ls st) (kf : b < a → SW E y cc nL ret hh QR QX d kc ks h (pc + 3) ls st) : SW E y cc nL ret hh QR QX d kc ks h pc ls (.int (nI b) :: .int (nI a) :: st) :=
  r_icmp_le hd ht (fun q => kt ((nI_leI ha hb).mp q)) (fun q => kf (Nat.lt_of_not_le fun z => q (nI_le z hb)))
theorem rn_iaload {n a i : Nat} {g : Nat → Nat} (hd : decode cc pc = .ok (.iaload, 1)) (ha : h.2 a = some (.inl (0, n, .inl fun j => nI (g j)))) (hi : i < n) (hn : n < 2 ^ 31) (k : SW E y cc nL ret hh QR QX d kc ks h (pc + 1) ls (.int (nI (g i)) :: st)) : SW E y cc nL ret hh QR QX d kc ks h pc ls (.int (nI i) :: .ref a :: st) :=
  r_iaload hd ha (vp_in_nI hi hn) (by rw [nI_clamp (Nat.lt_trans hi hn)]; exact k)
theorem rn_baload {n a i : Nat} {g : Nat → Nat} (hd : decode cc pc = .ok (.baload, 1)) (ha : h.2 a = some (.inl (1, n, .inl fun j => nI (g j)))) (hi : i < n) (hn : n < 2 ^ 31) (k : SW E y cc nL ret hh QR QX d kc ks h (pc + 1) ls (.int (nI (g i)) :: st)) : SW E y cc nL ret hh QR QX d kc ks h pc ls (.int (nI i) :: .ref a :: st) :=
  r_baload hd ha (vp_in_nI hi hn) (by rw [nI_clamp (Nat.lt_trans hi hn)]; exact k)
theorem rn_caload {n a i : Nat} {g : Nat → Nat} (hd : decode cc pc = .ok (.caload, 1)) (ha : h.2 a = some (.inl (2, n, .inl fun j => nI (g j)))) (hi : i < n) (hn : n < 2 ^ 31) (k : SW E y cc nL ret hh QR QX d kc ks h (pc + 1) ls (.int (nI (g i)) :: st)) : SW E y cc nL ret hh QR QX d kc ks h pc ls (.int (nI i) :: .ref a :: st) :=
  r_caload hd ha (vp_in_nI hi hn) (by rw [nI_clamp (Nat.lt_trans hi hn)]; exact k)
theorem rn_aaload {t n a i : Nat} {f : Nat → Option Nat} (hd : decode cc pc = .ok (.aaload, 1)) (ha : h.2 a = some (.inl (t, n, .inr (.inr (.inr (.inr f)))))) (ht : (aty t).isReference = true) (hi : i < n) (hn : n < 2 ^ 31) (k : SW E y cc nL ret hh QR QX d kc ks h (pc + 1) ls (va_rf (f i) :: st)) : SW E y cc nL ret hh QR QX d kc ks h pc ls (.int (nI i) :: .ref a :: st) :=
  r_aaload hd ha ht (vp_in_nI hi hn) (by rw [nI_clamp (Nat.lt_trans hi hn)]; exact k)
end RN
theorem nI_up (g : Nat → Nat) (k v : Nat) : va_up (fun j => nI (g j)) k (nI v) = fun j => nI (va_up g k v j) := by
  funext j
  by_cases e : j = k <;> simp [va_up, e]
theorem up_same {α : Type} (f : Nat → α) (k : Nat) (v : α) : va_up f k v k = v := by simp [va_up]
theorem up_ne {α : Type} (f : Nat → α) {k j : Nat} (v : α) (h : j ≠ k) : va_up f k v j = f j := by simp [va_up, h]
/-- the model's state: its whole numbers by the place of their fields; its arrays (0 g, 1 before, 2 history, 3 savedState, 4 buffer, 5 letters, 6 least, 7 parsed) -/
abbrev MS : Type := (Nat → Int32) × (Nat → Nat → Nat)
def ss (S : MS) (k : Nat) (x : Int32) : MS := (va_up S.1 k x, S.2)
def sa (S : MS) (i : Nat) (A : Nat → Nat) : MS := (S.1, va_up S.2 i A)
def mfs (S : MS) : List Value := [.ref 411, .ref 412, .ref 413, .int (S.1 3), .ref 414, .int (S.1 5), .ref 415, .int (S.1 7), .int (S.1 8), .int (S.1 9), .ref 416, .int (S.1 11), .int (S.1 12), .ref 417, .int (S.1 14), .int (S.1 15), .ref 418]
/-- the heap r with the model's cells as S says -/
def J (S : MS) (r : MH) : MH := (r.1, fun k => if k = 410 then some (.inr (9, mfs S)) else
  if k = 411 then some (.inl (0, 48, .inl fun j => nI (S.2 0 j))) else
  if k = 412 then some (.inl (0, 48, .inl fun j => nI (S.2 1 j))) else
  if k = 413 then some (.inl (0, 384, .inl fun j => nI (S.2 2 j))) else
  if k = 414 then some (.inl (0, 48, .inl fun j => nI (S.2 3 j))) else
  if k = 415 then some (.inl (2, 60, .inl fun j => nI (S.2 4 j))) else
  if k = 416 then some (.inl (2, 60, .inl fun j => nI (S.2 5 j))) else
  if k = 417 then some (.inl (0, 256, .inl fun j => nI (S.2 6 j))) else
  if k = 418 then some (.inl (0, 180, .inl fun j => nI (S.2 7 j))) else r.2 k)
theorem J_s3 (S : MS) (r : MH) (x : Int32) : ph (J S r) 410 (.inr (9, (mfs S).set 3 (.int x))) = J (ss S 3 x) r := by
  refine Prod.ext rfl (funext fun k => ?_)
  show (if k = 410 then _ else (J S r).2 k) = (J (ss S 3 x) r).2 k
  by_cases e : k = 410
  · rw [if_pos e, e]
    rfl
  · rw [if_neg e]
    show (if k = 410 then _ else _) = (if k = 410 then _ else _)
    rw [if_neg e, if_neg e]
    rfl
theorem J_s5 (S : MS) (r : MH) (x : Int32) : ph (J S r) 410 (.inr (9, (mfs S).set 5 (.int x))) = J (ss S 5 x) r := by
  refine Prod.ext rfl (funext fun k => ?_)
  show (if k = 410 then _ else (J S r).2 k) = (J (ss S 5 x) r).2 k
  by_cases e : k = 410
  · rw [if_pos e, e]
    rfl
  · rw [if_neg e]
    show (if k = 410 then _ else _) = (if k = 410 then _ else _)
    rw [if_neg e, if_neg e]
    rfl
theorem J_s7 (S : MS) (r : MH) (x : Int32) : ph (J S r) 410 (.inr (9, (mfs S).set 7 (.int x))) = J (ss S 7 x) r := by
  refine Prod.ext rfl (funext fun k => ?_)
  show (if k = 410 then _ else (J S r).2 k) = (J (ss S 7 x) r).2 k
  by_cases e : k = 410
  · rw [if_pos e, e]
    rfl
  · rw [if_neg e]
    show (if k = 410 then _ else _) = (if k = 410 then _ else _)
    rw [if_neg e, if_neg e]
    rfl
theorem J_s8 (S : MS) (r : MH) (x : Int32) : ph (J S r) 410 (.inr (9, (mfs S).set 8 (.int x))) = J (ss S 8 x) r := by
  refine Prod.ext rfl (funext fun k => ?_)
  show (if k = 410 then _ else (J S r).2 k) = (J (ss S 8 x) r).2 k
  by_cases e : k = 410
  · rw [if_pos e, e]
    rfl
  · rw [if_neg e]
    show (if k = 410 then _ else _) = (if k = 410 then _ else _)
    rw [if_neg e, if_neg e]
    rfl
theorem J_s9 (S : MS) (r : MH) (x : Int32) : ph (J S r) 410 (.inr (9, (mfs S).set 9 (.int x))) = J (ss S 9 x) r := by
  refine Prod.ext rfl (funext fun k => ?_)
  show (if k = 410 then _ else (J S r).2 k) = (J (ss S 9 x) r).2 k
  by_cases e : k = 410
  · rw [if_pos e, e]
    rfl
  · rw [if_neg e]
    show (if k = 410 then _ else _) = (if k = 410 then _ else _)
    rw [if_neg e, if_neg e]
    rfl
theorem J_s11 (S : MS) (r : MH) (x : Int32) : ph (J S r) 410 (.inr (9, (mfs S).set 11 (.int x))) = J (ss S 11 x) r := by
  refine Prod.ext rfl (funext fun k => ?_)
  show (if k = 410 then _ else (J S r).2 k) = (J (ss S 11 x) r).2 k
  by_cases e : k = 410
  · rw [if_pos e, e]
    rfl
  · rw [if_neg e]
    show (if k = 410 then _ else _) = (if k = 410 then _ else _)
    rw [if_neg e, if_neg e]
    rfl
theorem J_s12 (S : MS) (r : MH) (x : Int32) : ph (J S r) 410 (.inr (9, (mfs S).set 12 (.int x))) = J (ss S 12 x) r := by
  refine Prod.ext rfl (funext fun k => ?_)
  show (if k = 410 then _ else (J S r).2 k) = (J (ss S 12 x) r).2 k
  by_cases e : k = 410
  · rw [if_pos e, e]
    rfl
  · rw [if_neg e]
    show (if k = 410 then _ else _) = (if k = 410 then _ else _)
    rw [if_neg e, if_neg e]
    rfl
theorem J_s14 (S : MS) (r : MH) (x : Int32) : ph (J S r) 410 (.inr (9, (mfs S).set 14 (.int x))) = J (ss S 14 x) r := by
  refine Prod.ext rfl (funext fun k => ?_)
  show (if k = 410 then _ else (J S r).2 k) = (J (ss S 14 x) r).2 k
  by_cases e : k = 410
  · rw [if_pos e, e]
    rfl
  · rw [if_neg e]
    show (if k = 410 then _ else _) = (if k = 410 then _ else _)
    rw [if_neg e, if_neg e]
    rfl
theorem J_s15 (S : MS) (r : MH) (x : Int32) : ph (J S r) 410 (.inr (9, (mfs S).set 15 (.int x))) = J (ss S 15 x) r := by
  refine Prod.ext rfl (funext fun k => ?_)
  show (if k = 410 then _ else (J S r).2 k) = (J (ss S 15 x) r).2 k
  by_cases e : k = 410
  · rw [if_pos e, e]
    rfl
  · rw [if_neg e]
    show (if k = 410 then _ else _) = (if k = 410 then _ else _)
    rw [if_neg e, if_neg e]
    rfl
theorem J_ar (S : MS) (r : MH) (i : Nat) (A : Nat → Nat) (a t n : Nat) (hi : (i = 0 ∧ a = 411 ∧ t = 0 ∧ n = 48) ∨ (i = 1 ∧ a = 412 ∧ t = 0 ∧ n = 48) ∨ (i = 2 ∧ a = 413 ∧ t = 0 ∧ n = 384) ∨ (i = 3 ∧ a = 414 ∧ t = 0 ∧ n = 48) ∨ (i = 4 ∧ a = 415 ∧ t = 2 ∧ n = 60) ∨ (i = 5 ∧ a = 416 ∧ t = 2 ∧ n = 60) ∨ (i = 6 ∧ a = 417 ∧ t = 0 ∧ n = 256) ∨ (i = 7 ∧ a = 418 ∧ t = 0 ∧ n = 180)) :
    ph (J S r) a (.inl (t, n, .inl fun j => nI (A j))) = J (sa S i A) r := by
  refine Prod.ext rfl (funext fun k => ?_)
  show (if k = a then _ else (J S r).2 k) = (J (sa S i A) r).2 k
  rcases hi with ⟨rfl, rfl, rfl, rfl⟩ | ⟨rfl, rfl, rfl, rfl⟩ | ⟨rfl, rfl, rfl, rfl⟩ | ⟨rfl, rfl, rfl, rfl⟩ | ⟨rfl, rfl, rfl, rfl⟩ | ⟨rfl, rfl, rfl, rfl⟩ | ⟨rfl, rfl, rfl, rfl⟩ | ⟨rfl, rfl, rfl, rfl⟩ <;>
    (simp only [J, sa, mfs, va_up]
     split
     · rename_i e; subst e; simp
     · rename_i e; simp [e])
/-- the model's cells don't move where another is written or made -/
theorem J_ph (S : MS) (r : MH) {a : Nat} (c : MC) (h : a < 410 ∨ 418 < a) : ph (J S r) a c = J S (ph r a c) := by
  refine Prod.ext rfl (funext fun k => ?_)
  show (if k = a then _ else (J S r).2 k) = (J S (ph r a c)).2 k
  by_cases e : k = a
  · rw [if_pos e, e]
    simp only [J, ph]
    simp [show ¬ a = 410 by omega, show ¬ a = 411 by omega, show ¬ a = 412 by omega, show ¬ a = 413 by omega, show ¬ a = 414 by omega, show ¬ a = 415 by omega, show ¬ a = 416 by omega, show ¬ a = 417 by omega, show ¬ a = 418 by omega]
  · rw [if_neg e]
    simp only [J, ph]
    simp [e]
theorem J_nh (S : MS) (r : MH) (c : MC) (h : 418 < r.1) : nh (J S r) c = J S (nh r c) := by
  refine Prod.ext rfl (funext fun k => ?_)
  show (if k = r.1 then _ else (J S r).2 k) = (J S (nh r c)).2 k
  by_cases e : k = r.1
  · rw [if_pos e, e]
    simp only [J, nh]
    simp [show ¬ r.1 = 410 by omega, show ¬ r.1 = 411 by omega, show ¬ r.1 = 412 by omega, show ¬ r.1 = 413 by omega, show ¬ r.1 = 414 by omega, show ¬ r.1 = 415 by omega, show ¬ r.1 = 416 by omega, show ¬ r.1 = 417 by omega, show ¬ r.1 = 418 by omega]
  · rw [if_neg e]
    simp only [J, nh]
    simp [e]
theorem J_out (S : MS) (r : MH) {k : Nat} (h : k < 410 ∨ 418 < k) : (J S r).2 k = r.2 k := by
  show (if k = 410 then _ else _) = _
  rw [if_neg (by omega), if_neg (by omega), if_neg (by omega), if_neg (by omega), if_neg (by omega), if_neg (by omega), if_neg (by omega), if_neg (by omega), if_neg (by omega)]
theorem J_in (S : MS) (r r' : MH) {k : Nat} (h : 410 ≤ k ∧ k ≤ 418) : (J S r).2 k = (J S r').2 k := by
  rcases (show k = 410 ∨ k = 411 ∨ k = 412 ∨ k = 413 ∨ k = 414 ∨ k = 415 ∨ k = 416 ∨ k = 417 ∨ k = 418 by omega) with rfl | rfl | rfl | rfl | rfl | rfl | rfl | rfl | rfl <;> rfl
theorem J_J (S S' : MS) (r : MH) : J S (J S' r) = J S r := by
  refine Prod.ext rfl (funext fun k => ?_)
  by_cases h : 410 ≤ k ∧ k ≤ 418
  · exact J_in S _ _ h
  · rw [J_out S _ (by omega), J_out S' _ (by omega), J_out S _ (by omega)]
section RM
variable {E : EV} {y : MethodName} {cc : ByteArray} {nL : Nat} {ret : Option FieldType} {hh : List (Nat × Nat × Nat × Nat)} {QR : Option Value → MH → Prop} {QX : Nat → MH → Prop} {d kc ks : Nat} {pc : Nat} {ls : List (Nat × Value)} {st : List Value} {S : MS} {r : MH}
theorem rm_put3 {idx : Nat} {x : Int32} {ty : FieldType} (hd : decode cc pc = .ok (.putfield idx, 3)) (hf : FP y.cls idx 9 3 ty false) (hn : narrow ty (.int x) = .int x) (hfit : fits ty (.int x) = true) (k : SW E y cc nL ret hh QR QX d kc ks (J (ss S 3 x) r) (pc + 3) ls st) : SW E y cc nL ret hh QR QX d kc ks (J S r) pc ls (.int x :: .ref 410 :: st) :=
  r_putfield hd hf (show (J S r).2 410 = some (.inr (9, mfs S)) from rfl) (by decide) (show 3 < 17 by decide) hn hfit (by rw [J_s3]; exact k)
theorem rm_put5 {idx : Nat} {x : Int32} {ty : FieldType} (hd : decode cc pc = .ok (.putfield idx, 3)) (hf : FP y.cls idx 9 5 ty false) (hn : narrow ty (.int x) = .int x) (hfit : fits ty (.int x) = true) (k : SW E y cc nL ret hh QR QX d kc ks (J (ss S 5 x) r) (pc + 3) ls st) : SW E y cc nL ret hh QR QX d kc ks (J S r) pc ls (.int x :: .ref 410 :: st) :=
  r_putfield hd hf (show (J S r).2 410 = some (.inr (9, mfs S)) from rfl) (by decide) (show 5 < 17 by decide) hn hfit (by rw [J_s5]; exact k)
theorem rm_put7 {idx : Nat} {x : Int32} {ty : FieldType} (hd : decode cc pc = .ok (.putfield idx, 3)) (hf : FP y.cls idx 9 7 ty false) (hn : narrow ty (.int x) = .int x) (hfit : fits ty (.int x) = true) (k : SW E y cc nL ret hh QR QX d kc ks (J (ss S 7 x) r) (pc + 3) ls st) : SW E y cc nL ret hh QR QX d kc ks (J S r) pc ls (.int x :: .ref 410 :: st) :=
  r_putfield hd hf (show (J S r).2 410 = some (.inr (9, mfs S)) from rfl) (by decide) (show 7 < 17 by decide) hn hfit (by rw [J_s7]; exact k)
theorem rm_put8 {idx : Nat} {x : Int32} {ty : FieldType} (hd : decode cc pc = .ok (.putfield idx, 3)) (hf : FP y.cls idx 9 8 ty false) (hn : narrow ty (.int x) = .int x) (hfit : fits ty (.int x) = true) (k : SW E y cc nL ret hh QR QX d kc ks (J (ss S 8 x) r) (pc + 3) ls st) : SW E y cc nL ret hh QR QX d kc ks (J S r) pc ls (.int x :: .ref 410 :: st) :=
  r_putfield hd hf (show (J S r).2 410 = some (.inr (9, mfs S)) from rfl) (by decide) (show 8 < 17 by decide) hn hfit (by rw [J_s8]; exact k)
theorem rm_put9 {idx : Nat} {x : Int32} {ty : FieldType} (hd : decode cc pc = .ok (.putfield idx, 3)) (hf : FP y.cls idx 9 9 ty false) (hn : narrow ty (.int x) = .int x) (hfit : fits ty (.int x) = true) (k : SW E y cc nL ret hh QR QX d kc ks (J (ss S 9 x) r) (pc + 3) ls st) : SW E y cc nL ret hh QR QX d kc ks (J S r) pc ls (.int x :: .ref 410 :: st) :=
  r_putfield hd hf (show (J S r).2 410 = some (.inr (9, mfs S)) from rfl) (by decide) (show 9 < 17 by decide) hn hfit (by rw [J_s9]; exact k)
theorem rm_put11 {idx : Nat} {x : Int32} {ty : FieldType} (hd : decode cc pc = .ok (.putfield idx, 3)) (hf : FP y.cls idx 9 11 ty false) (hn : narrow ty (.int x) = .int x) (hfit : fits ty (.int x) = true) (k : SW E y cc nL ret hh QR QX d kc ks (J (ss S 11 x) r) (pc + 3) ls st) : SW E y cc nL ret hh QR QX d kc ks (J S r) pc ls (.int x :: .ref 410 :: st) :=
  r_putfield hd hf (show (J S r).2 410 = some (.inr (9, mfs S)) from rfl) (by decide) (show 11 < 17 by decide) hn hfit (by rw [J_s11]; exact k)
theorem rm_put12 {idx : Nat} {x : Int32} {ty : FieldType} (hd : decode cc pc = .ok (.putfield idx, 3)) (hf : FP y.cls idx 9 12 ty false) (hn : narrow ty (.int x) = .int x) (hfit : fits ty (.int x) = true) (k : SW E y cc nL ret hh QR QX d kc ks (J (ss S 12 x) r) (pc + 3) ls st) : SW E y cc nL ret hh QR QX d kc ks (J S r) pc ls (.int x :: .ref 410 :: st) :=
  r_putfield hd hf (show (J S r).2 410 = some (.inr (9, mfs S)) from rfl) (by decide) (show 12 < 17 by decide) hn hfit (by rw [J_s12]; exact k)
theorem rm_put14 {idx : Nat} {x : Int32} {ty : FieldType} (hd : decode cc pc = .ok (.putfield idx, 3)) (hf : FP y.cls idx 9 14 ty false) (hn : narrow ty (.int x) = .int x) (hfit : fits ty (.int x) = true) (k : SW E y cc nL ret hh QR QX d kc ks (J (ss S 14 x) r) (pc + 3) ls st) : SW E y cc nL ret hh QR QX d kc ks (J S r) pc ls (.int x :: .ref 410 :: st) :=
  r_putfield hd hf (show (J S r).2 410 = some (.inr (9, mfs S)) from rfl) (by decide) (show 14 < 17 by decide) hn hfit (by rw [J_s14]; exact k)
theorem rm_put15 {idx : Nat} {x : Int32} {ty : FieldType} (hd : decode cc pc = .ok (.putfield idx, 3)) (hf : FP y.cls idx 9 15 ty false) (hn : narrow ty (.int x) = .int x) (hfit : fits ty (.int x) = true) (k : SW E y cc nL ret hh QR QX d kc ks (J (ss S 15 x) r) (pc + 3) ls st) : SW E y cc nL ret hh QR QX d kc ks (J S r) pc ls (.int x :: .ref 410 :: st) :=
  r_putfield hd hf (show (J S r).2 410 = some (.inr (9, mfs S)) from rfl) (by decide) (show 15 < 17 by decide) hn hfit (by rw [J_s15]; exact k)
theorem rm_ias0 {k v : Nat} (hd : decode cc pc = .ok (.iastore, 1)) (hk : k < 48) (kk : SW E y cc nL ret hh QR QX d kc ks (J (sa S 0 (va_up (S.2 0) k v)) r) (pc + 1) ls st) : SW E y cc nL ret hh QR QX d kc ks (J S r) pc ls (.int (nI v) :: .int (nI k) :: .ref 411 :: st) :=
  r_iastore hd (show (J S r).2 411 = some (.inl (0, 48, .inl fun j => nI (S.2 0 j))) from rfl) (by decide) (vp_in_nI hk (by decide)) (by rw [nI_clamp (Nat.lt_trans hk (by decide)), nI_up, J_ar S r 0 _ 411 0 48 (by decide)]; exact kk)
theorem rm_ias1 {k v : Nat} (hd : decode cc pc = .ok (.iastore, 1)) (hk : k < 48) (kk : SW E y cc nL ret hh QR QX d kc ks (J (sa S 1 (va_up (S.2 1) k v)) r) (pc + 1) ls st) : SW E y cc nL ret hh QR QX d kc ks (J S r) pc ls (.int (nI v) :: .int (nI k) :: .ref 412 :: st) :=
  r_iastore hd (show (J S r).2 412 = some (.inl (0, 48, .inl fun j => nI (S.2 1 j))) from rfl) (by decide) (vp_in_nI hk (by decide)) (by rw [nI_clamp (Nat.lt_trans hk (by decide)), nI_up, J_ar S r 1 _ 412 0 48 (by decide)]; exact kk)
theorem rm_ias2 {k v : Nat} (hd : decode cc pc = .ok (.iastore, 1)) (hk : k < 384) (kk : SW E y cc nL ret hh QR QX d kc ks (J (sa S 2 (va_up (S.2 2) k v)) r) (pc + 1) ls st) : SW E y cc nL ret hh QR QX d kc ks (J S r) pc ls (.int (nI v) :: .int (nI k) :: .ref 413 :: st) :=
  r_iastore hd (show (J S r).2 413 = some (.inl (0, 384, .inl fun j => nI (S.2 2 j))) from rfl) (by decide) (vp_in_nI hk (by decide)) (by rw [nI_clamp (Nat.lt_trans hk (by decide)), nI_up, J_ar S r 2 _ 413 0 384 (by decide)]; exact kk)
theorem rm_ias3 {k v : Nat} (hd : decode cc pc = .ok (.iastore, 1)) (hk : k < 48) (kk : SW E y cc nL ret hh QR QX d kc ks (J (sa S 3 (va_up (S.2 3) k v)) r) (pc + 1) ls st) : SW E y cc nL ret hh QR QX d kc ks (J S r) pc ls (.int (nI v) :: .int (nI k) :: .ref 414 :: st) :=
  r_iastore hd (show (J S r).2 414 = some (.inl (0, 48, .inl fun j => nI (S.2 3 j))) from rfl) (by decide) (vp_in_nI hk (by decide)) (by rw [nI_clamp (Nat.lt_trans hk (by decide)), nI_up, J_ar S r 3 _ 414 0 48 (by decide)]; exact kk)
theorem rm_cas4 {k v : Nat} (hd : decode cc pc = .ok (.castore, 1)) (hk : k < 60) (hv : v < 65536) (kk : SW E y cc nL ret hh QR QX d kc ks (J (sa S 4 (va_up (S.2 4) k v)) r) (pc + 1) ls st) : SW E y cc nL ret hh QR QX d kc ks (J S r) pc ls (.int (nI v) :: .int (nI k) :: .ref 415 :: st) :=
  r_castore hd (show (J S r).2 415 = some (.inl (2, 60, .inl fun j => nI (S.2 4 j))) from rfl) (by decide) (vp_in_nI hk (by decide)) (by rw [nI_clamp (Nat.lt_trans hk (by decide)), show vp_nar .char (nI v) = nI v by unfold vp_nar; rw [(pk_charN hv).1], nI_up, J_ar S r 4 _ 415 2 60 (by decide)]; exact kk)
theorem rm_cas5 {k v : Nat} (hd : decode cc pc = .ok (.castore, 1)) (hk : k < 60) (hv : v < 65536) (kk : SW E y cc nL ret hh QR QX d kc ks (J (sa S 5 (va_up (S.2 5) k v)) r) (pc + 1) ls st) : SW E y cc nL ret hh QR QX d kc ks (J S r) pc ls (.int (nI v) :: .int (nI k) :: .ref 416 :: st) :=
  r_castore hd (show (J S r).2 416 = some (.inl (2, 60, .inl fun j => nI (S.2 5 j))) from rfl) (by decide) (vp_in_nI hk (by decide)) (by rw [nI_clamp (Nat.lt_trans hk (by decide)), show vp_nar .char (nI v) = nI v by unfold vp_nar; rw [(pk_charN hv).1], nI_up, J_ar S r 5 _ 416 2 60 (by decide)]; exact kk)
theorem rm_ias6 {k v : Nat} (hd : decode cc pc = .ok (.iastore, 1)) (hk : k < 256) (kk : SW E y cc nL ret hh QR QX d kc ks (J (sa S 6 (va_up (S.2 6) k v)) r) (pc + 1) ls st) : SW E y cc nL ret hh QR QX d kc ks (J S r) pc ls (.int (nI v) :: .int (nI k) :: .ref 417 :: st) :=
  r_iastore hd (show (J S r).2 417 = some (.inl (0, 256, .inl fun j => nI (S.2 6 j))) from rfl) (by decide) (vp_in_nI hk (by decide)) (by rw [nI_clamp (Nat.lt_trans hk (by decide)), nI_up, J_ar S r 6 _ 417 0 256 (by decide)]; exact kk)
theorem rm_ias7 {k v : Nat} (hd : decode cc pc = .ok (.iastore, 1)) (hk : k < 180) (kk : SW E y cc nL ret hh QR QX d kc ks (J (sa S 7 (va_up (S.2 7) k v)) r) (pc + 1) ls st) : SW E y cc nL ret hh QR QX d kc ks (J S r) pc ls (.int (nI v) :: .int (nI k) :: .ref 418 :: st) :=
  r_iastore hd (show (J S r).2 418 = some (.inl (0, 180, .inl fun j => nI (S.2 7 j))) from rfl) (by decide) (vp_in_nI hk (by decide)) (by rw [nI_clamp (Nat.lt_trans hk (by decide)), nI_up, J_ar S r 7 _ 418 0 180 (by decide)]; exact kk)
end RM
/-- .. the model's first array apart -/
def JG (S : MS) (G : Nat → Nat) (r : MH) : MH := J (sa S 0 G) r
theorem JG_410 (S : MS) (G : Nat → Nat) (r : MH) : (JG S G r).2 410 = some (.inr (9, mfs S)) := rfl
theorem JG_411 (S : MS) (G : Nat → Nat) (r : MH) : (JG S G r).2 411 = some (.inl (0, 48, .inl fun j => nI (G j))) := rfl
theorem sa_comm (S : MS) {i j : Nat} (A B : Nat → Nat) (h : i ≠ j) : sa (sa S i A) j B = sa (sa S j B) i A := by
  refine Prod.ext rfl (funext fun k => ?_)
  by_cases e : k = i
  · subst e; simp [sa, va_up, h]
  · by_cases e2 : k = j <;> simp [sa, va_up, e, e2, Ne.symm h]
theorem JG_eq (S : MS) (r : MH) : JG S (S.2 0) r = J S r := by
  unfold JG
  congr 1
  refine Prod.ext rfl (funext fun k => ?_)
  by_cases e : k = 0 <;> simp [sa, va_up, e]
theorem JG_412 (S : MS) (G : Nat → Nat) (r : MH) : (JG S G r).2 412 = some (.inl (0, 48, .inl fun j => nI (S.2 1 j))) := rfl
theorem JG_413 (S : MS) (G : Nat → Nat) (r : MH) : (JG S G r).2 413 = some (.inl (0, 384, .inl fun j => nI (S.2 2 j))) := rfl
theorem JG_414 (S : MS) (G : Nat → Nat) (r : MH) : (JG S G r).2 414 = some (.inl (0, 48, .inl fun j => nI (S.2 3 j))) := rfl
theorem JG_415 (S : MS) (G : Nat → Nat) (r : MH) : (JG S G r).2 415 = some (.inl (2, 60, .inl fun j => nI (S.2 4 j))) := rfl
theorem JG_416 (S : MS) (G : Nat → Nat) (r : MH) : (JG S G r).2 416 = some (.inl (2, 60, .inl fun j => nI (S.2 5 j))) := rfl
theorem JG_417 (S : MS) (G : Nat → Nat) (r : MH) : (JG S G r).2 417 = some (.inl (0, 256, .inl fun j => nI (S.2 6 j))) := rfl
theorem JG_418 (S : MS) (G : Nat → Nat) (r : MH) : (JG S G r).2 418 = some (.inl (0, 180, .inl fun j => nI (S.2 7 j))) := rfl
section RG
variable {E : EV} {y : MethodName} {cc : ByteArray} {nL : Nat} {ret : Option FieldType} {hh : List (Nat × Nat × Nat × Nat)} {QR : Option Value → MH → Prop} {QX : Nat → MH → Prop} {d kc ks : Nat} {pc : Nat} {ls : List (Nat × Value)} {st : List Value} {S : MS} {G : Nat → Nat} {r : MH}
theorem rg_put3 {idx : Nat} {x : Int32} {ty : FieldType} (hd : decode cc pc = .ok (.putfield idx, 3)) (hf : FP y.cls idx 9 3 ty false) (hn : narrow ty (.int x) = .int x) (hfit : fits ty (.int x) = true) (k : SW E y cc nL ret hh QR QX d kc ks (JG (ss S 3 x) G r) (pc + 3) ls st) : SW E y cc nL ret hh QR QX d kc ks (JG S G r) pc ls (.int x :: .ref 410 :: st) :=
  rm_put3 hd hf hn hfit k
theorem rg_put5 {idx : Nat} {x : Int32} {ty : FieldType} (hd : decode cc pc = .ok (.putfield idx, 3)) (hf : FP y.cls idx 9 5 ty false) (hn : narrow ty (.int x) = .int x) (hfit : fits ty (.int x) = true) (k : SW E y cc nL ret hh QR QX d kc ks (JG (ss S 5 x) G r) (pc + 3) ls st) : SW E y cc nL ret hh QR QX d kc ks (JG S G r) pc ls (.int x :: .ref 410 :: st) :=
  rm_put5 hd hf hn hfit k
theorem rg_put7 {idx : Nat} {x : Int32} {ty : FieldType} (hd : decode cc pc = .ok (.putfield idx, 3)) (hf : FP y.cls idx 9 7 ty false) (hn : narrow ty (.int x) = .int x) (hfit : fits ty (.int x) = true) (k : SW E y cc nL ret hh QR QX d kc ks (JG (ss S 7 x) G r) (pc + 3) ls st) : SW E y cc nL ret hh QR QX d kc ks (JG S G r) pc ls (.int x :: .ref 410 :: st) :=
  rm_put7 hd hf hn hfit k
theorem rg_put8 {idx : Nat} {x : Int32} {ty : FieldType} (hd : decode cc pc = .ok (.putfield idx, 3)) (hf : FP y.cls idx 9 8 ty false) (hn : narrow ty (.int x) = .int x) (hfit : fits ty (.int x) = true) (k : SW E y cc nL ret hh QR QX d kc ks (JG (ss S 8 x) G r) (pc + 3) ls st) : SW E y cc nL ret hh QR QX d kc ks (JG S G r) pc ls (.int x :: .ref 410 :: st) :=
  rm_put8 hd hf hn hfit k
theorem rg_put9 {idx : Nat} {x : Int32} {ty : FieldType} (hd : decode cc pc = .ok (.putfield idx, 3)) (hf : FP y.cls idx 9 9 ty false) (hn : narrow ty (.int x) = .int x) (hfit : fits ty (.int x) = true) (k : SW E y cc nL ret hh QR QX d kc ks (JG (ss S 9 x) G r) (pc + 3) ls st) : SW E y cc nL ret hh QR QX d kc ks (JG S G r) pc ls (.int x :: .ref 410 :: st) :=
  rm_put9 hd hf hn hfit k
theorem rg_put11 {idx : Nat} {x : Int32} {ty : FieldType} (hd : decode cc pc = .ok (.putfield idx, 3)) (hf : FP y.cls idx 9 11 ty false) (hn : narrow ty (.int x) = .int x) (hfit : fits ty (.int x) = true) (k : SW E y cc nL ret hh QR QX d kc ks (JG (ss S 11 x) G r) (pc + 3) ls st) : SW E y cc nL ret hh QR QX d kc ks (JG S G r) pc ls (.int x :: .ref 410 :: st) :=
  rm_put11 hd hf hn hfit k
theorem rg_put12 {idx : Nat} {x : Int32} {ty : FieldType} (hd : decode cc pc = .ok (.putfield idx, 3)) (hf : FP y.cls idx 9 12 ty false) (hn : narrow ty (.int x) = .int x) (hfit : fits ty (.int x) = true) (k : SW E y cc nL ret hh QR QX d kc ks (JG (ss S 12 x) G r) (pc + 3) ls st) : SW E y cc nL ret hh QR QX d kc ks (JG S G r) pc ls (.int x :: .ref 410 :: st) :=
  rm_put12 hd hf hn hfit k
theorem rg_put14 {idx : Nat} {x : Int32} {ty : FieldType} (hd : decode cc pc = .ok (.putfield idx, 3)) (hf : FP y.cls idx 9 14 ty false) (hn : narrow ty (.int x) = .int x) (hfit : fits ty (.int x) = true) (k : SW E y cc nL ret hh QR QX d kc ks (JG (ss S 14 x) G r) (pc + 3) ls st) : SW E y cc nL ret hh QR QX d kc ks (JG S G r) pc ls (.int x :: .ref 410 :: st) :=
  rm_put14 hd hf hn hfit k
theorem rg_put15 {idx : Nat} {x : Int32} {ty : FieldType} (hd : decode cc pc = .ok (.putfield idx, 3)) (hf : FP y.cls idx 9 15 ty false) (hn : narrow ty (.int x) = .int x) (hfit : fits ty (.int x) = true) (k : SW E y cc nL ret hh QR QX d kc ks (JG (ss S 15 x) G r) (pc + 3) ls st) : SW E y cc nL ret hh QR QX d kc ks (JG S G r) pc ls (.int x :: .ref 410 :: st) :=
  rm_put15 hd hf hn hfit k
theorem rg_ias0 {k v : Nat} (hd : decode cc pc = .ok (.iastore, 1)) (hk : k < 48) (kk : SW E y cc nL ret hh QR QX d kc ks (JG S (va_up G k v) r) (pc + 1) ls st) : SW E y cc nL ret hh QR QX d kc ks (JG S G r) pc ls (.int (nI v) :: .int (nI k) :: .ref 411 :: st) := by
  refine rm_ias0 hd hk ?_
  rw [show sa (sa S 0 G) 0 (va_up ((sa S 0 G).2 0) k v) = sa S 0 (va_up G k v) from Prod.ext rfl (funext fun j => by by_cases e : j = 0 <;> simp [sa, va_up, e])]
  exact kk
theorem rg_ias1 {k v : Nat} (hd : decode cc pc = .ok (.iastore, 1)) (hk : k < 48) (kk : SW E y cc nL ret hh QR QX d kc ks (JG (sa S 1 (va_up (S.2 1) k v)) G r) (pc + 1) ls st) : SW E y cc nL ret hh QR QX d kc ks (JG S G r) pc ls (.int (nI v) :: .int (nI k) :: .ref 412 :: st) := by
  refine rm_ias1 hd hk ?_
  rw [show sa (sa S 0 G) 1 (va_up ((sa S 0 G).2 1) k v) = sa (sa S 1 (va_up (S.2 1) k v)) 0 G from sa_comm S G _ (by decide)]
  exact kk
theorem rg_ias2 {k v : Nat} (hd : decode cc pc = .ok (.iastore, 1)) (hk : k < 384) (kk : SW E y cc nL ret hh QR QX d kc ks (JG (sa S 2 (va_up (S.2 2) k v)) G r) (pc + 1) ls st) : SW E y cc nL ret hh QR QX d kc ks (JG S G r) pc ls (.int (nI v) :: .int (nI k) :: .ref 413 :: st) := by
  refine rm_ias2 hd hk ?_
  rw [show sa (sa S 0 G) 2 (va_up ((sa S 0 G).2 2) k v) = sa (sa S 2 (va_up (S.2 2) k v)) 0 G from sa_comm S G _ (by decide)]
  exact kk
theorem rg_ias3 {k v : Nat} (hd : decode cc pc = .ok (.iastore, 1)) (hk : k < 48) (kk : SW E y cc nL ret hh QR QX d kc ks (JG (sa S 3 (va_up (S.2 3) k v)) G r) (pc + 1) ls st) : SW E y cc nL ret hh QR QX d kc ks (JG S G r) pc ls (.int (nI v) :: .int (nI k) :: .ref 414 :: st) := by
  refine rm_ias3 hd hk ?_
  rw [show sa (sa S 0 G) 3 (va_up ((sa S 0 G).2 3) k v) = sa (sa S 3 (va_up (S.2 3) k v)) 0 G from sa_comm S G _ (by decide)]
  exact kk
theorem rg_cas4 {k v : Nat} (hd : decode cc pc = .ok (.castore, 1)) (hk : k < 60) (hv : v < 65536) (kk : SW E y cc nL ret hh QR QX d kc ks (JG (sa S 4 (va_up (S.2 4) k v)) G r) (pc + 1) ls st) : SW E y cc nL ret hh QR QX d kc ks (JG S G r) pc ls (.int (nI v) :: .int (nI k) :: .ref 415 :: st) := by
  refine rm_cas4 hd hk hv ?_
  rw [show sa (sa S 0 G) 4 (va_up ((sa S 0 G).2 4) k v) = sa (sa S 4 (va_up (S.2 4) k v)) 0 G from sa_comm S G _ (by decide)]
  exact kk
theorem rg_cas5 {k v : Nat} (hd : decode cc pc = .ok (.castore, 1)) (hk : k < 60) (hv : v < 65536) (kk : SW E y cc nL ret hh QR QX d kc ks (JG (sa S 5 (va_up (S.2 5) k v)) G r) (pc + 1) ls st) : SW E y cc nL ret hh QR QX d kc ks (JG S G r) pc ls (.int (nI v) :: .int (nI k) :: .ref 416 :: st) := by
  refine rm_cas5 hd hk hv ?_
  rw [show sa (sa S 0 G) 5 (va_up ((sa S 0 G).2 5) k v) = sa (sa S 5 (va_up (S.2 5) k v)) 0 G from sa_comm S G _ (by decide)]
  exact kk
theorem rg_ias6 {k v : Nat} (hd : decode cc pc = .ok (.iastore, 1)) (hk : k < 256) (kk : SW E y cc nL ret hh QR QX d kc ks (JG (sa S 6 (va_up (S.2 6) k v)) G r) (pc + 1) ls st) : SW E y cc nL ret hh QR QX d kc ks (JG S G r) pc ls (.int (nI v) :: .int (nI k) :: .ref 417 :: st) := by
  refine rm_ias6 hd hk ?_
  rw [show sa (sa S 0 G) 6 (va_up ((sa S 0 G).2 6) k v) = sa (sa S 6 (va_up (S.2 6) k v)) 0 G from sa_comm S G _ (by decide)]
  exact kk
theorem rg_ias7 {k v : Nat} (hd : decode cc pc = .ok (.iastore, 1)) (hk : k < 180) (kk : SW E y cc nL ret hh QR QX d kc ks (JG (sa S 7 (va_up (S.2 7) k v)) G r) (pc + 1) ls st) : SW E y cc nL ret hh QR QX d kc ks (JG S G r) pc ls (.int (nI v) :: .int (nI k) :: .ref 418 :: st) := by
  refine rm_ias7 hd hk ?_
  rw [show sa (sa S 0 G) 7 (va_up ((sa S 0 G).2 7) k v) = sa (sa S 7 (va_up (S.2 7) k v)) 0 G from sa_comm S G _ (by decide)]
  exact kk
end RG
theorem ki_m1 : Int32.ofInt (-1) = (-1) := by decide
theorem ki_0 : Int32.ofInt (0) = nI 0 := by decide
theorem ki_1 : Int32.ofInt (1) = nI 1 := by decide
theorem ki_2 : Int32.ofInt (2) = nI 2 := by decide
theorem ki_3 : Int32.ofInt (3) = nI 3 := by decide
theorem ki_4 : Int32.ofInt (4) = nI 4 := by decide
theorem ki_5 : Int32.ofInt (5) = nI 5 := by decide
theorem kb_m128 : (Int8.ofInt (-128)).toInt32 = (-128) := by decide
theorem kb_m100 : (Int8.ofInt (-100)).toInt32 = (-100) := by decide
theorem kb_m10 : (Int8.ofInt (-10)).toInt32 = (-10) := by decide
theorem kb_m9 : (Int8.ofInt (-9)).toInt32 = (-9) := by decide
theorem kb_6 : (Int8.ofInt (6)).toInt32 = nI 6 := by decide
theorem kb_8 : (Int8.ofInt (8)).toInt32 = nI 8 := by decide
theorem kb_9 : (Int8.ofInt (9)).toInt32 = nI 9 := by decide
theorem kb_10 : (Int8.ofInt (10)).toInt32 = nI 10 := by decide
theorem kb_12 : (Int8.ofInt (12)).toInt32 = nI 12 := by decide
theorem kb_16 : (Int8.ofInt (16)).toInt32 = nI 16 := by decide
theorem kb_17 : (Int8.ofInt (17)).toInt32 = nI 17 := by decide
theorem kb_20 : (Int8.ofInt (20)).toInt32 = nI 20 := by decide
theorem kb_28 : (Int8.ofInt (28)).toInt32 = nI 28 := by decide
theorem kb_30 : (Int8.ofInt (30)).toInt32 = nI 30 := by decide
theorem kb_31 : (Int8.ofInt (31)).toInt32 = nI 31 := by decide
theorem kb_32 : (Int8.ofInt (32)).toInt32 = nI 32 := by decide
theorem kb_36 : (Int8.ofInt (36)).toInt32 = nI 36 := by decide
theorem kb_39 : (Int8.ofInt (39)).toInt32 = nI 39 := by decide
theorem kb_42 : (Int8.ofInt (42)).toInt32 = nI 42 := by decide
theorem kb_45 : (Int8.ofInt (45)).toInt32 = nI 45 := by decide
theorem kb_48 : (Int8.ofInt (48)).toInt32 = nI 48 := by decide
theorem kb_57 : (Int8.ofInt (57)).toInt32 = nI 57 := by decide
theorem kb_58 : (Int8.ofInt (58)).toInt32 = nI 58 := by decide
theorem kb_59 : (Int8.ofInt (59)).toInt32 = nI 59 := by decide
theorem kb_60 : (Int8.ofInt (60)).toInt32 = nI 60 := by decide
theorem kb_63 : (Int8.ofInt (63)).toInt32 = nI 63 := by decide
theorem kb_64 : (Int8.ofInt (64)).toInt32 = nI 64 := by decide
theorem kb_97 : (Int8.ofInt (97)).toInt32 = nI 97 := by decide
theorem kb_99 : (Int8.ofInt (99)).toInt32 = nI 99 := by decide
theorem kb_100 : (Int8.ofInt (100)).toInt32 = nI 100 := by decide
theorem kb_101 : (Int8.ofInt (101)).toInt32 = nI 101 := by decide
theorem kb_103 : (Int8.ofInt (103)).toInt32 = nI 103 := by decide
theorem kb_104 : (Int8.ofInt (104)).toInt32 = nI 104 := by decide
theorem kb_105 : (Int8.ofInt (105)).toInt32 = nI 105 := by decide
theorem kb_107 : (Int8.ofInt (107)).toInt32 = nI 107 := by decide
theorem kb_108 : (Int8.ofInt (108)).toInt32 = nI 108 := by decide
theorem kb_109 : (Int8.ofInt (109)).toInt32 = nI 109 := by decide
theorem kb_110 : (Int8.ofInt (110)).toInt32 = nI 110 := by decide
theorem kb_111 : (Int8.ofInt (111)).toInt32 = nI 111 := by decide
theorem kb_114 : (Int8.ofInt (114)).toInt32 = nI 114 := by decide
theorem kb_115 : (Int8.ofInt (115)).toInt32 = nI 115 := by decide
theorem kb_116 : (Int8.ofInt (116)).toInt32 = nI 116 := by decide
theorem kb_117 : (Int8.ofInt (117)).toInt32 = nI 117 := by decide
theorem kb_126 : (Int8.ofInt (126)).toInt32 = nI 126 := by decide
theorem ks_128 : (Int16.ofInt (128)).toInt32 = nI 128 := by decide +kernel
theorem ks_168 : (Int16.ofInt (168)).toInt32 = nI 168 := by decide +kernel
theorem ks_180 : (Int16.ofInt (180)).toInt32 = nI 180 := by decide +kernel
theorem ks_255 : (Int16.ofInt (255)).toInt32 = nI 255 := by decide +kernel
theorem ks_256 : (Int16.ofInt (256)).toInt32 = nI 256 := by decide +kernel
theorem ks_336 : (Int16.ofInt (336)).toInt32 = nI 336 := by decide +kernel
theorem ks_384 : (Int16.ofInt (384)).toInt32 = nI 384 := by decide +kernel
theorem ks_500 : (Int16.ofInt (500)).toInt32 = nI 500 := by decide +kernel
theorem ks_999 : (Int16.ofInt (999)).toInt32 = nI 999 := by decide +kernel
