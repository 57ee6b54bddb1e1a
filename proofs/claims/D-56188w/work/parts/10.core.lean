/-! ===== THE MINI HEAP: mini addresses are numbers; a map rho sends them to the machine's; cells made by the law from KK on ===== -/
set_option maxRecDepth 100000
/-- an array (number of its element type, length and contents) or an object (number of its class, its fields) -/
abbrev MC : Type := (Nat × vp_A) ⊕ (Nat × List Value)
/-- the next mini address; the cells -/
abbrev MH : Type := Nat × (Nat → Option MC)
/-- what the start leaves open: the script's length, its ints; two statics of Throwable -/
abbrev EV : Type := Nat × (Nat → Int32) × Value × Value
/-- the map of addresses; the heap's size at the law's entry; the classes; the array classes; the heap at the law's entry; the classes of the lambda sites -/
abbrev GL : Type := (Nat → Nat) × Nat × va_G × (Nat → ClassId) × Heap × (Nat → ClassId)
def ph (h : MH) (a : Nat) (c : MC) : MH := (h.1, fun k => if k = a then some c else h.2 k)
def nh (h : MH) (c : MC) : MH := (h.1 + 1, fun k => if k = h.1 then some c else h.2 k)
def mv (ρ : Nat → Nat) (v : Value) : Value := match v with
  | .ref a => .ref (ρ a)
  | w => w
def mA (ρ : Nat → Nat) (a : vp_A) : vp_A := (a.1, match a.2 with
  | .inr (.inr (.inr (.inr f))) => .inr (.inr (.inr (.inr fun i => (f i).map ρ)))
  | x => x)
theorem mv_cat (ρ : Nat → Nat) (v : Value) : (mv ρ v).category = v.category := by cases v <;> rfl
theorem mv_isRef (ρ : Nat → Nat) (v : Value) : (mv ρ v).isRef = v.isRef := by cases v <;> rfl
def aty (t : Nat) : FieldType := match t with
  | 0 => .int
  | 1 => .byte
  | 2 => .char
  | 3 => .long
  | 4 => .double
  | 5 => .object "java/lang/Object"
  | _ => .object "java/lang/Integer"
def tyl (G : GL) : List (ClassId × FieldType) := [(G.2.2.2.1 0, .int), (G.2.2.2.1 1, .byte), (G.2.2.2.1 2, .char), (G.2.2.2.1 3, .long), (G.2.2.2.1 4, .double), (G.2.2.2.1 5, .object "java/lang/Object")]
/-- locals by a list -/
def lget (ls : List (Nat × Value)) (i : Nat) : Option Value := match ls with
  | [] => none
  | q :: t => bif Nat.beq q.1 i then some q.2 else lget t i
def ldel (ls : List (Nat × Value)) (i : Nat) : List (Nat × Value) := match ls with
  | [] => []
  | q :: t => bif Nat.beq q.1 i then ldel t i else bif (Nat.beq (q.1 + 1) i && Nat.beq q.2.category 2) then ldel t i else q :: ldel t i
def lset (ls : List (Nat × Value)) (i : Nat) (v : Value) : List (Nat × Value) := match ls with
  | [] => [(i, v)]
  | q :: t => bif Nat.beq q.1 i then (i, v) :: ldel t i else bif (Nat.beq (q.1 + 1) i && Nat.beq q.2.category 2) then lset t i v else q :: lset t i v
def lset2 (ls : List (Nat × Value)) (i : Nat) (v : Value) : List (Nat × Value) := (i, v) :: ls.filter (fun q => !(q.1 == i) && (!(q.1 == i + 1) && !(q.1 + 1 == i && q.2.category == 2)))
def lm (ρ : Nat → Nat) (ls : List (Nat × Value)) : List (Nat × Value) := ls.map fun q => (q.1, mv ρ q.2)
theorem lget_mem {ls : List (Nat × Value)} {i : Nat} {v : Value} (h : lget ls i = some v) : (i, v) ∈ ls := by
  induction ls with
  | nil => cases h
  | cons q t ih =>
    rw [lget] at h
    cases hb : Nat.beq q.1 i with
    | true =>
      rw [hb] at h
      have h1 : q.1 = i := Nat.eq_of_beq_eq_true hb
      have h2 : q.2 = v := Option.some.inj h
      rw [← h1, ← h2]
      exact List.mem_cons_self
    | false =>
      rw [hb] at h
      exact List.mem_cons_of_mem _ (ih h)
theorem lv_of {ρ : Nat → Nat} {lsr : Array Slot} {nL : Nat} {ls : List (Nat × Value)} {i : Nat} {v : Value} (hl : lv_has lsr nL (lm ρ ls)) (h : lget ls i = some v) : lsr[i]? = some (.val (mv ρ v)) :=
  hl.2.2 (i, mv ρ v) (List.mem_map.mpr ⟨(i, v), lget_mem h, rfl⟩)
theorem lget_at {ρ : Nat → Nat} {ls : List (Nat × Value)} {i : Nat} {v : Value} (h : lget ls i = some v) : ∃ j : Nat, (lm ρ ls)[j]? = some (i, mv ρ v) :=
  List.getElem?_of_mem (List.mem_map.mpr ⟨(i, v), lget_mem h, rfl⟩)
theorem lsub_has {ρ : Nat → Nat} {lsr : Array Slot} {nL : Nat} {ls ls' : List (Nat × Value)} (hs : ∀ q ∈ ls', q ∈ ls) (h : lv_has lsr nL (lm ρ ls)) : lv_has lsr nL (lm ρ ls') := by
  refine ⟨h.1, h.2.1, fun q hq => ?_⟩
  obtain ⟨z, hz, rfl⟩ := List.mem_map.mp hq
  exact h.2.2 _ (List.mem_map.mpr ⟨z, hs z hz, rfl⟩)
theorem ldel_mem {ls : List (Nat × Value)} {i : Nat} {q : Nat × Value} (h : q ∈ ldel ls i) : q ∈ ls ∧ q.1 ≠ i ∧ ¬ (q.1 + 1 = i ∧ q.2.category = 2) := by
  induction ls with
  | nil => cases h
  | cons z t ih =>
    rw [ldel] at h
    cases hb : Nat.beq z.1 i with
    | true =>
      rw [hb] at h
      obtain ⟨a, b⟩ := ih h
      exact ⟨List.mem_cons_of_mem _ a, b⟩
    | false =>
      rw [hb] at h
      cases hb2 : (Nat.beq (z.1 + 1) i && Nat.beq z.2.category 2) with
      | true =>
        rw [hb2] at h
        obtain ⟨a, b⟩ := ih h
        exact ⟨List.mem_cons_of_mem _ a, b⟩
      | false =>
        rw [hb2] at h
        rcases List.mem_cons.mp h with rfl | h
        · refine ⟨List.mem_cons_self, fun e => ?_, fun ⟨e1, e2⟩ => ?_⟩
          · rw [e, Nat.beq_refl] at hb
            cases hb
          · rw [e1, e2, Nat.beq_refl, Nat.beq_refl] at hb2
            cases hb2
        · obtain ⟨a, b⟩ := ih h
          exact ⟨List.mem_cons_of_mem _ a, b⟩
theorem lset_mem {ls : List (Nat × Value)} {i : Nat} {v : Value} {q : Nat × Value} (h : q ∈ lset ls i v) : q = (i, v) ∨ (q ∈ ls ∧ q.1 ≠ i ∧ ¬ (q.1 + 1 = i ∧ q.2.category = 2)) := by
  induction ls with
  | nil => exact Or.inl (List.mem_singleton.mp h)
  | cons z t ih =>
    rw [lset] at h
    cases hb : Nat.beq z.1 i with
    | true =>
      rw [hb] at h
      rcases List.mem_cons.mp h with rfl | h
      · exact Or.inl rfl
      · obtain ⟨a, b⟩ := ldel_mem h
        exact Or.inr ⟨List.mem_cons_of_mem _ a, b⟩
    | false =>
      rw [hb] at h
      cases hb2 : (Nat.beq (z.1 + 1) i && Nat.beq z.2.category 2) with
      | true =>
        rw [hb2] at h
        rcases ih h with e | ⟨a, b⟩
        · exact Or.inl e
        · exact Or.inr ⟨List.mem_cons_of_mem _ a, b⟩
      | false =>
        rw [hb2] at h
        rcases List.mem_cons.mp h with rfl | h
        · refine Or.inr ⟨List.mem_cons_self, fun e => ?_, fun ⟨e1, e2⟩ => ?_⟩
          · rw [e, Nat.beq_refl] at hb
            cases hb
          · rw [e1, e2, Nat.beq_refl, Nat.beq_refl] at hb2
            cases hb2
        · rcases ih h with e | ⟨a, b⟩
          · exact Or.inl e
          · exact Or.inr ⟨List.mem_cons_of_mem _ a, b⟩
theorem lset_has {ρ : Nat → Nat} {lsr : Array Slot} {nL : Nat} {ls ls' : List (Nat × Value)} {i : Nat} {v : Value} (hls : lset ls i v = ls')
    (h : lv_has lsr nL ((i, mv ρ v) :: (lm ρ ls).filter (fun q => !(q.1 == i) && !(q.1 + 1 == i && q.2.category == 2)))) : lv_has lsr nL (lm ρ ls') := by
  refine ⟨h.1, h.2.1, fun q hq => h.2.2 q ?_⟩
  subst hls
  obtain ⟨z, hz, rfl⟩ := List.mem_map.mp hq
  rcases lset_mem hz with rfl | ⟨h1, h2, h3⟩
  · exact List.mem_cons_self
  · refine List.mem_cons_of_mem _ (List.mem_filter.mpr ⟨List.mem_map.mpr ⟨z, h1, rfl⟩, ?_⟩)
    simp only [mv_cat, Bool.and_eq_true, Bool.not_eq_true', beq_eq_false_iff_ne, ne_eq, Bool.and_eq_false_iff]
    refine ⟨h2, ?_⟩
    rcases Nat.decEq (z.1 + 1) i with n | e
    · exact Or.inl n
    · exact Or.inr fun e2 => h3 ⟨e, e2⟩
theorem lset2_has {ρ : Nat → Nat} {lsr : Array Slot} {nL : Nat} {ls ls' : List (Nat × Value)} {i : Nat} {v : Value} (hls : lset2 ls i v = ls')
    (h : lv_has lsr nL ((i, mv ρ v) :: (lm ρ ls).filter (fun q => !(q.1 == i) && (!(q.1 == i + 1) && !(q.1 + 1 == i && q.2.category == 2))))) : lv_has lsr nL (lm ρ ls') := by
  refine ⟨h.1, h.2.1, fun q hq => h.2.2 q ?_⟩
  subst hls
  obtain ⟨z, hz, rfl⟩ := List.mem_map.mp hq
  rcases List.mem_cons.mp hz with rfl | hz
  · exact List.mem_cons_self
  · obtain ⟨h1, h2⟩ := List.mem_filter.mp hz
    refine List.mem_cons_of_mem _ (List.mem_filter.mpr ⟨List.mem_map.mpr ⟨z, h1, rfl⟩, ?_⟩)
    simpa only [mv_cat] using h2
/-- the classes by number: name, fields, how many of them are followed -/
def TXE : u_T := fun k => match k with
  | _ => ("PendulumGym$SyntaxError", "position", "I", true)
def TXK : u_T := fun k => match k with
  | _ => ("java/lang/Enum", "ordinal", "I", true)
def T0_ : u_T := fun k => match k with
  | _ => ("", "", "I", false)
/-- those that the law makes (numbers 0 .. 18) -/
def mcl : List vw_C := [(RX1, TX1, 7), (RX2, TX2, 6), (RX4, TX4, 4), (RX5, T0_, 0), (RX7, TX7, 2), (RX8, TX8, 3), (RX9, TX9, 4), (RX10, TX10, 2), (RX11, TXE, 1), (RX3, TX3, 17), (RJ2, TJ2, 3), (RJ3, TJ3, 3), (RJ5, TJ5, 4), (RJ6, TJ6, 4),
  (RJ11, T0_, 0), (RJ12, T0_, 0), (RJ19, T0_, 0), (RJ18, T0_, 0), (RJ24, T0_, 0), (RJ23, TJ23, 1)]
/-- those of constants alone (numbers 20 ..) -/
def kcl : List vw_C := mcl ++ [(RX12, TXK, 1), (RX13, TXK, 1), (RX14, TXK, 1)]
/-- mini addresses below this are constants -/
def KK : Nat := 400
/-- the texts of the String constants -/
def ktx : List (String × Nat × String) := [("PendulumGym", 70, ""), ("PendulumGym", 315, "cm "), ("PendulumGym", 326, "rest"), ("PendulumGym$Parser", 46, "hang "), ("PendulumGym$Parser", 56, "push "), ("PendulumGym$Parser", 58, " "), ("PendulumGym$Parser", 63, "c"), ("PendulumGym$Parser", 65, "ut "), ("PendulumGym$Parser", 67, "atch "), ("PendulumGym$Parser", 71, "friction "), ("PendulumGym$Parser", 74, "leg "), ("PendulumGym$Parser", 77, "tick "), ("PendulumGym$Parser", 109, ";")]
/-- the bytes of the i-th text -/
def kby (i j : Nat) : Int32 := nI (((((ktx.getD i ("", 0, "")).2.2.toList).getD j ' ').toNat))
def kln (i : Nat) : Nat := ((ktx.getD i ("", 0, "")).2.2.toList).length
/-- what the constants are: 0 the script; 1 2 3 the kinds; 4 ArrayList's empty array; 5 the array of small Integers; 6 7 the tens and ones of numbers; from 10 on the texts, from 30 on their bytes; from 100 on the small Integers -/
def cst (E : EV) (k : Nat) : Option MC :=
  if k = 0 then some (.inl (0, E.1, .inl E.2.1)) else
  if k = 1 then some (.inr (20, [.int 0])) else
  if k = 2 then some (.inr (21, [.int 1])) else
  if k = 3 then some (.inr (22, [.int 2])) else
  if k = 4 then some (.inl (5, 0, .inr (.inr (.inr (.inr fun _ => none))))) else
  if k = 5 then some (.inl (6, 256, .inr (.inr (.inr (.inr fun i => some (100 + i)))))) else
  if k = 6 then some (.inl (1, 100, .inl fun i => nI (48 + i / 10))) else
  if k = 7 then some (.inl (1, 100, .inl fun i => nI (48 + i % 10))) else
  if 10 ≤ k ∧ k < 23 then some (.inr (13, [.ref (k + 20), .int 0])) else
  if 30 ≤ k ∧ k < 43 then some (.inl (1, kln (k - 30), .inl (kby (k - 30)))) else
  if 100 ≤ k ∧ k < 356 then some (.inr (19, [.int (vb_c (k - 100))])) else none
/-- statics that nobody writes -/
def stl (E : EV) : List (String × String × String × Value) := [("PendulumGym$Kind", "SHORT", "LPendulumGym$Kind;", .ref 1), ("PendulumGym$Kind", "MIDDLE", "LPendulumGym$Kind;", .ref 2), ("PendulumGym$Kind", "LONG", "LPendulumGym$Kind;", .ref 3),
  ("java/util/ArrayList", "DEFAULTCAPACITY_EMPTY_ELEMENTDATA", "[Ljava/lang/Object;", .ref 4), ("java/lang/Integer$IntegerCache", "cache", "[Ljava/lang/Integer;", .ref 5), ("java/lang/Integer$IntegerCache", "high", "I", .int 127),
  ("java/lang/Integer", "DigitTens", "[B", .ref 6), ("java/lang/Integer", "DigitOnes", "[B", .ref 7), ("java/lang/String", "COMPACT_STRINGS", "Z", .int 1)]
/-- element j of an array's contents -/
def av (ρ : Nat → Nat) (a : (Nat → Int32) ⊕ (Nat → Int64) ⊕ (Nat → UInt32) ⊕ (Nat → UInt64) ⊕ (Nat → Option Nat)) (j : Nat) : Value := match a with
  | .inl f => .int (f j)
  | .inr (.inl f) => .long (f j)
  | .inr (.inr (.inl f)) => .float (f j)
  | .inr (.inr (.inr (.inl f))) => .double (f j)
  | .inr (.inr (.inr (.inr f))) => va_rf ((f j).map ρ)
theorem av_cell (ρ : Nat → Nat) (cA : ClassId) (a : vp_A) : vp_cell cA (mA ρ a) = arrV cA a.1 (av ρ a.2) := by
  obtain ⟨n, f⟩ := a
  rcases f with f | f | f | f | f <;> rfl
/-- a cell that the law made -/
def mAt (G : GL) (k : Nat) (c : MC) (H : Heap) : Prop := match c with
  | .inl a => a.1 < 6 ∧ H[G.1 k]? = some (arrV (G.2.2.2.1 a.1) a.2.1 (av G.1 a.2.2))
  | .inr o => (∃ r : vw_C, mcl[o.1]? = some r ∧ t_OB (G.1 k) (G.2.2.1.1 o.1) r.2.2 (G.2.2.1.2 o.1) H (vp_V (o.2.map (mv G.1)))) ∨
      (100 ≤ o.1 ∧ H[G.1 k]? = some { cls := G.2.2.2.2.2 (o.1 - 100), slots := (o.2.map (mv G.1)).toArray, vm := .none })
/-- the value of a field in a cell -/
def fv (U : State) (cell : Cell) (o n d : String) (v : Value) : Prop := ∃ (cf : ClassId) (kf : Class) (i : Nat) (f : Field), U.fieldFound? o n d = some (cf, kf, i, f) ∧ f.isStatic = false ∧ cell.slots[f.slot]? = some v
/-- a constant: what may be read of it -/
def cAt (G : GL) (U : State) (k : Nat) (c : MC) : Prop := ∃ cell : Cell, G.2.2.2.2.1[G.1 k]? = some cell ∧ cell.vm ≠ .unknown ∧ cell.vm.isStatics = false ∧ match c with
  | .inl a => U.isArrayOf cell (aty a.1) ∧ cell.slots.size = a.2.1 ∧ ∀ j, j < a.2.1 → cell.slots[j]? = some (av G.1 a.2.2 j)
  | .inr o => ∃ r : vw_C, kcl[o.1]? = some r ∧ U.vm.findClass r.1 = some cell.cls ∧ ∀ j, j < o.2.length → fv U cell (r.2.1 j).1 (r.2.1 j).2.1 (r.2.1 j).2.2.1 (vp_V (o.2.map (mv G.1)) j)
/-- the mini heap h is what the machine's heap H holds -/
def Rep (E : EV) (G : GL) (h : MH) (H : Heap) : Prop :=
  KK ≤ h.1 ∧ H.size + KK = G.2.1 + h.1 ∧ (∀ a : Nat, a < G.2.1 → H[a]? = G.2.2.2.2.1[a]?) ∧ (∀ k, h.1 ≤ k → h.2 k = none) ∧ (∀ k, k < KK → h.2 k = cst E k) ∧ ∀ (k : Nat) (c : MC), KK ≤ k → h.2 k = some c → mAt G k c H
/-- words of the tables that last, beside the good ones -/
def nwGood : Cond → Bool
  | .castable _ _ => true
  | .methodLinkNest _ _ _ _ => true
  | .declares _ => true
  | _ => false
/-- pairs of classes where no object of the first can be cast to the second -/
def ncl : List (String × String) := [("PendulumGym$Rest", "PendulumGym$Swinging"), ("java/lang/IllegalArgumentException", "java/lang/IndexOutOfBoundsException"), ("java/lang/IllegalStateException", "java/lang/IndexOutOfBoundsException"), ("java/lang/IllegalStateException", "java/lang/IllegalArgumentException"), ("java/util/NoSuchElementException", "java/lang/IndexOutOfBoundsException"), ("java/util/NoSuchElementException", "java/lang/IllegalArgumentException"), ("java/util/NoSuchElementException", "java/lang/IllegalStateException")]
/-- the lambda sites: method, place, entry of the pool, shape -/
def lsit : List (MethodName × Nat × Nat × Lambda.Shape) := [(({ cls := "PendulumGym", name := "addPendulum", desc := "(I)I" } : Jvm.MethodName), 2, 90, ({ iface := "PendulumGym$Modification", name := "apply", sam := ({ parameters := [(Jvm.ClassFile.FieldType.object "PendulumGym$Gym")], returnType := (Option.some Jvm.ClassFile.FieldType.int) } : Jvm.ClassFile.MethodDescriptor), captured := [Jvm.ClassFile.FieldType.int], kind := 6, implClass := "PendulumGym", implName := "lambda$addPendulum$0", implDesc := ({ parameters := [Jvm.ClassFile.FieldType.int, (Jvm.ClassFile.FieldType.object "PendulumGym$Gym")], returnType := (Option.some Jvm.ClassFile.FieldType.int) } : Jvm.ClassFile.MethodDescriptor), implItf := false, inst := ({ parameters := [(Jvm.ClassFile.FieldType.object "PendulumGym$Gym")], returnType := (Option.some Jvm.ClassFile.FieldType.int) } : Jvm.ClassFile.MethodDescriptor) } : Jvm.Lambda.Shape)), (({ cls := "PendulumGym", name := "push", desc := "(II)I" } : Jvm.MethodName), 3, 97, ({ iface := "PendulumGym$Modification", name := "apply", sam := ({ parameters := [(Jvm.ClassFile.FieldType.object "PendulumGym$Gym")], returnType := (Option.some Jvm.ClassFile.FieldType.int) } : Jvm.ClassFile.MethodDescriptor), captured := [Jvm.ClassFile.FieldType.int, Jvm.ClassFile.FieldType.int], kind := 6, implClass := "PendulumGym", implName := "lambda$push$1", implDesc := ({ parameters := [Jvm.ClassFile.FieldType.int, Jvm.ClassFile.FieldType.int, (Jvm.ClassFile.FieldType.object "PendulumGym$Gym")], returnType := (Option.some Jvm.ClassFile.FieldType.int) } : Jvm.ClassFile.MethodDescriptor), implItf := false, inst := ({ parameters := [(Jvm.ClassFile.FieldType.object "PendulumGym$Gym")], returnType := (Option.some Jvm.ClassFile.FieldType.int) } : Jvm.ClassFile.MethodDescriptor) } : Jvm.Lambda.Shape)), (({ cls := "PendulumGym", name := "catchPendulum", desc := "(I)I" } : Jvm.MethodName), 2, 100, ({ iface := "PendulumGym$Modification", name := "apply", sam := ({ parameters := [(Jvm.ClassFile.FieldType.object "PendulumGym$Gym")], returnType := (Option.some Jvm.ClassFile.FieldType.int) } : Jvm.ClassFile.MethodDescriptor), captured := [Jvm.ClassFile.FieldType.int], kind := 6, implClass := "PendulumGym", implName := "lambda$catchPendulum$2", implDesc := ({ parameters := [Jvm.ClassFile.FieldType.int, (Jvm.ClassFile.FieldType.object "PendulumGym$Gym")], returnType := (Option.some Jvm.ClassFile.FieldType.int) } : Jvm.ClassFile.MethodDescriptor), implItf := false, inst := ({ parameters := [(Jvm.ClassFile.FieldType.object "PendulumGym$Gym")], returnType := (Option.some Jvm.ClassFile.FieldType.int) } : Jvm.ClassFile.MethodDescriptor) } : Jvm.Lambda.Shape)), (({ cls := "PendulumGym", name := "setFriction", desc := "(I)I" } : Jvm.MethodName), 2, 101, ({ iface := "PendulumGym$Modification", name := "apply", sam := ({ parameters := [(Jvm.ClassFile.FieldType.object "PendulumGym$Gym")], returnType := (Option.some Jvm.ClassFile.FieldType.int) } : Jvm.ClassFile.MethodDescriptor), captured := [Jvm.ClassFile.FieldType.int], kind := 6, implClass := "PendulumGym", implName := "lambda$setFriction$3", implDesc := ({ parameters := [Jvm.ClassFile.FieldType.int, (Jvm.ClassFile.FieldType.object "PendulumGym$Gym")], returnType := (Option.some Jvm.ClassFile.FieldType.int) } : Jvm.ClassFile.MethodDescriptor), implItf := false, inst := ({ parameters := [(Jvm.ClassFile.FieldType.object "PendulumGym$Gym")], returnType := (Option.some Jvm.ClassFile.FieldType.int) } : Jvm.ClassFile.MethodDescriptor) } : Jvm.Lambda.Shape)), (({ cls := "PendulumGym", name := "pass", desc := "(I)I" } : Jvm.MethodName), 2, 102, ({ iface := "PendulumGym$Modification", name := "apply", sam := ({ parameters := [(Jvm.ClassFile.FieldType.object "PendulumGym$Gym")], returnType := (Option.some Jvm.ClassFile.FieldType.int) } : Jvm.ClassFile.MethodDescriptor), captured := [Jvm.ClassFile.FieldType.int], kind := 6, implClass := "PendulumGym", implName := "lambda$pass$4", implDesc := ({ parameters := [Jvm.ClassFile.FieldType.int, (Jvm.ClassFile.FieldType.object "PendulumGym$Gym")], returnType := (Option.some Jvm.ClassFile.FieldType.int) } : Jvm.ClassFile.MethodDescriptor), implItf := false, inst := ({ parameters := [(Jvm.ClassFile.FieldType.object "PendulumGym$Gym")], returnType := (Option.some Jvm.ClassFile.FieldType.int) } : Jvm.ClassFile.MethodDescriptor) } : Jvm.Lambda.Shape)), (({ cls := "PendulumGym", name := "addLeg", desc := "(I)I" } : Jvm.MethodName), 2, 222, ({ iface := "PendulumGym$Modification", name := "apply", sam := ({ parameters := [(Jvm.ClassFile.FieldType.object "PendulumGym$Gym")], returnType := (Option.some Jvm.ClassFile.FieldType.int) } : Jvm.ClassFile.MethodDescriptor), captured := [Jvm.ClassFile.FieldType.int], kind := 6, implClass := "PendulumGym", implName := "lambda$addLeg$5", implDesc := ({ parameters := [Jvm.ClassFile.FieldType.int, (Jvm.ClassFile.FieldType.object "PendulumGym$Gym")], returnType := (Option.some Jvm.ClassFile.FieldType.int) } : Jvm.ClassFile.MethodDescriptor), implItf := false, inst := ({ parameters := [(Jvm.ClassFile.FieldType.object "PendulumGym$Gym")], returnType := (Option.some Jvm.ClassFile.FieldType.int) } : Jvm.ClassFile.MethodDescriptor) } : Jvm.Lambda.Shape)), (({ cls := "PendulumGym", name := "removeLeg", desc := "(I)I" } : Jvm.MethodName), 2, 223, ({ iface := "PendulumGym$Modification", name := "apply", sam := ({ parameters := [(Jvm.ClassFile.FieldType.object "PendulumGym$Gym")], returnType := (Option.some Jvm.ClassFile.FieldType.int) } : Jvm.ClassFile.MethodDescriptor), captured := [Jvm.ClassFile.FieldType.int], kind := 6, implClass := "PendulumGym", implName := "lambda$removeLeg$6", implDesc := ({ parameters := [Jvm.ClassFile.FieldType.int, (Jvm.ClassFile.FieldType.object "PendulumGym$Gym")], returnType := (Option.some Jvm.ClassFile.FieldType.int) } : Jvm.ClassFile.MethodDescriptor), implItf := false, inst := ({ parameters := [(Jvm.ClassFile.FieldType.object "PendulumGym$Gym")], returnType := (Option.some Jvm.ClassFile.FieldType.int) } : Jvm.ClassFile.MethodDescriptor) } : Jvm.Lambda.Shape)), (({ cls := "PendulumGym", name := "legCost", desc := "()LPendulumGym$LegCost;" } : Jvm.MethodName), 84, 235, ({ iface := "PendulumGym$LegCost", name := "of", sam := ({ parameters := [Jvm.ClassFile.FieldType.int, Jvm.ClassFile.FieldType.int], returnType := (Option.some Jvm.ClassFile.FieldType.int) } : Jvm.ClassFile.MethodDescriptor), captured := [(Jvm.ClassFile.FieldType.array Jvm.ClassFile.FieldType.int), (Jvm.ClassFile.FieldType.array Jvm.ClassFile.FieldType.int)], kind := 6, implClass := "PendulumGym", implName := "lambda$legCost$7", implDesc := ({ parameters := [(Jvm.ClassFile.FieldType.array Jvm.ClassFile.FieldType.int), (Jvm.ClassFile.FieldType.array Jvm.ClassFile.FieldType.int), Jvm.ClassFile.FieldType.int, Jvm.ClassFile.FieldType.int], returnType := (Option.some Jvm.ClassFile.FieldType.int) } : Jvm.ClassFile.MethodDescriptor), implItf := false, inst := ({ parameters := [Jvm.ClassFile.FieldType.int, Jvm.ClassFile.FieldType.int], returnType := (Option.some Jvm.ClassFile.FieldType.int) } : Jvm.ClassFile.MethodDescriptor) } : Jvm.Lambda.Shape)), (({ cls := "PendulumGym", name := "fewestForBySets", desc := "(I)I" } : Jvm.MethodName), 6, 285, ({ iface := "PendulumGym$SetTest", name := "holds", sam := ({ parameters := [Jvm.ClassFile.FieldType.int], returnType := (Option.some Jvm.ClassFile.FieldType.boolean) } : Jvm.ClassFile.MethodDescriptor), captured := [Jvm.ClassFile.FieldType.int], kind := 6, implClass := "PendulumGym", implName := "lambda$fewestForBySets$8", implDesc := ({ parameters := [Jvm.ClassFile.FieldType.int, Jvm.ClassFile.FieldType.int], returnType := (Option.some Jvm.ClassFile.FieldType.boolean) } : Jvm.ClassFile.MethodDescriptor), implItf := false, inst := ({ parameters := [Jvm.ClassFile.FieldType.int], returnType := (Option.some Jvm.ClassFile.FieldType.boolean) } : Jvm.ClassFile.MethodDescriptor) } : Jvm.Lambda.Shape)), (({ cls := "PendulumGym", name := "exactSets", desc := "(I)I" } : Jvm.MethodName), 6, 304, ({ iface := "PendulumGym$SetTest", name := "holds", sam := ({ parameters := [Jvm.ClassFile.FieldType.int], returnType := (Option.some Jvm.ClassFile.FieldType.boolean) } : Jvm.ClassFile.MethodDescriptor), captured := [Jvm.ClassFile.FieldType.int], kind := 6, implClass := "PendulumGym", implName := "lambda$exactSets$9", implDesc := ({ parameters := [Jvm.ClassFile.FieldType.int, Jvm.ClassFile.FieldType.int], returnType := (Option.some Jvm.ClassFile.FieldType.boolean) } : Jvm.ClassFile.MethodDescriptor), implItf := false, inst := ({ parameters := [Jvm.ClassFile.FieldType.int], returnType := (Option.some Jvm.ClassFile.FieldType.boolean) } : Jvm.ClassFile.MethodDescriptor) } : Jvm.Lambda.Shape)), (({ cls := "PendulumGym$Parser", name := "hanging", desc := "()LPendulumGym$Modification;" } : Jvm.MethodName), 9, 52, ({ iface := "PendulumGym$Modification", name := "apply", sam := ({ parameters := [(Jvm.ClassFile.FieldType.object "PendulumGym$Gym")], returnType := (Option.some Jvm.ClassFile.FieldType.int) } : Jvm.ClassFile.MethodDescriptor), captured := [Jvm.ClassFile.FieldType.int], kind := 6, implClass := "PendulumGym$Parser", implName := "lambda$hanging$0", implDesc := ({ parameters := [Jvm.ClassFile.FieldType.int, (Jvm.ClassFile.FieldType.object "PendulumGym$Gym")], returnType := (Option.some Jvm.ClassFile.FieldType.int) } : Jvm.ClassFile.MethodDescriptor), implItf := false, inst := ({ parameters := [(Jvm.ClassFile.FieldType.object "PendulumGym$Gym")], returnType := (Option.some Jvm.ClassFile.FieldType.int) } : Jvm.ClassFile.MethodDescriptor) } : Jvm.Lambda.Shape)), (({ cls := "PendulumGym$Parser", name := "pushing", desc := "()LPendulumGym$Modification;" } : Jvm.MethodName), 18, 60, ({ iface := "PendulumGym$Modification", name := "apply", sam := ({ parameters := [(Jvm.ClassFile.FieldType.object "PendulumGym$Gym")], returnType := (Option.some Jvm.ClassFile.FieldType.int) } : Jvm.ClassFile.MethodDescriptor), captured := [Jvm.ClassFile.FieldType.int, Jvm.ClassFile.FieldType.int], kind := 6, implClass := "PendulumGym$Parser", implName := "lambda$pushing$1", implDesc := ({ parameters := [Jvm.ClassFile.FieldType.int, Jvm.ClassFile.FieldType.int, (Jvm.ClassFile.FieldType.object "PendulumGym$Gym")], returnType := (Option.some Jvm.ClassFile.FieldType.int) } : Jvm.ClassFile.MethodDescriptor), implItf := false, inst := ({ parameters := [(Jvm.ClassFile.FieldType.object "PendulumGym$Gym")], returnType := (Option.some Jvm.ClassFile.FieldType.int) } : Jvm.ClassFile.MethodDescriptor) } : Jvm.Lambda.Shape)), (({ cls := "PendulumGym$Parser", name := "catchingOrCutting", desc := "()LPendulumGym$Modification;" } : Jvm.MethodName), 43, 69, ({ iface := "PendulumGym$Modification", name := "apply", sam := ({ parameters := [(Jvm.ClassFile.FieldType.object "PendulumGym$Gym")], returnType := (Option.some Jvm.ClassFile.FieldType.int) } : Jvm.ClassFile.MethodDescriptor), captured := [Jvm.ClassFile.FieldType.int], kind := 6, implClass := "PendulumGym$Parser", implName := "lambda$catchingOrCutting$2", implDesc := ({ parameters := [Jvm.ClassFile.FieldType.int, (Jvm.ClassFile.FieldType.object "PendulumGym$Gym")], returnType := (Option.some Jvm.ClassFile.FieldType.int) } : Jvm.ClassFile.MethodDescriptor), implItf := false, inst := ({ parameters := [(Jvm.ClassFile.FieldType.object "PendulumGym$Gym")], returnType := (Option.some Jvm.ClassFile.FieldType.int) } : Jvm.ClassFile.MethodDescriptor) } : Jvm.Lambda.Shape)), (({ cls := "PendulumGym$Parser", name := "catchingOrCutting", desc := "()LPendulumGym$Modification;" } : Jvm.MethodName), 52, 70, ({ iface := "PendulumGym$Modification", name := "apply", sam := ({ parameters := [(Jvm.ClassFile.FieldType.object "PendulumGym$Gym")], returnType := (Option.some Jvm.ClassFile.FieldType.int) } : Jvm.ClassFile.MethodDescriptor), captured := [Jvm.ClassFile.FieldType.int], kind := 6, implClass := "PendulumGym$Parser", implName := "lambda$catchingOrCutting$3", implDesc := ({ parameters := [Jvm.ClassFile.FieldType.int, (Jvm.ClassFile.FieldType.object "PendulumGym$Gym")], returnType := (Option.some Jvm.ClassFile.FieldType.int) } : Jvm.ClassFile.MethodDescriptor), implItf := false, inst := ({ parameters := [(Jvm.ClassFile.FieldType.object "PendulumGym$Gym")], returnType := (Option.some Jvm.ClassFile.FieldType.int) } : Jvm.ClassFile.MethodDescriptor) } : Jvm.Lambda.Shape)), (({ cls := "PendulumGym$Parser", name := "rubbing", desc := "()LPendulumGym$Modification;" } : Jvm.MethodName), 9, 73, ({ iface := "PendulumGym$Modification", name := "apply", sam := ({ parameters := [(Jvm.ClassFile.FieldType.object "PendulumGym$Gym")], returnType := (Option.some Jvm.ClassFile.FieldType.int) } : Jvm.ClassFile.MethodDescriptor), captured := [Jvm.ClassFile.FieldType.int], kind := 6, implClass := "PendulumGym$Parser", implName := "lambda$rubbing$4", implDesc := ({ parameters := [Jvm.ClassFile.FieldType.int, (Jvm.ClassFile.FieldType.object "PendulumGym$Gym")], returnType := (Option.some Jvm.ClassFile.FieldType.int) } : Jvm.ClassFile.MethodDescriptor), implItf := false, inst := ({ parameters := [(Jvm.ClassFile.FieldType.object "PendulumGym$Gym")], returnType := (Option.some Jvm.ClassFile.FieldType.int) } : Jvm.ClassFile.MethodDescriptor) } : Jvm.Lambda.Shape)), (({ cls := "PendulumGym$Parser", name := "addingLeg", desc := "()LPendulumGym$Modification;" } : Jvm.MethodName), 9, 76, ({ iface := "PendulumGym$Modification", name := "apply", sam := ({ parameters := [(Jvm.ClassFile.FieldType.object "PendulumGym$Gym")], returnType := (Option.some Jvm.ClassFile.FieldType.int) } : Jvm.ClassFile.MethodDescriptor), captured := [Jvm.ClassFile.FieldType.int], kind := 6, implClass := "PendulumGym$Parser", implName := "lambda$addingLeg$5", implDesc := ({ parameters := [Jvm.ClassFile.FieldType.int, (Jvm.ClassFile.FieldType.object "PendulumGym$Gym")], returnType := (Option.some Jvm.ClassFile.FieldType.int) } : Jvm.ClassFile.MethodDescriptor), implItf := false, inst := ({ parameters := [(Jvm.ClassFile.FieldType.object "PendulumGym$Gym")], returnType := (Option.some Jvm.ClassFile.FieldType.int) } : Jvm.ClassFile.MethodDescriptor) } : Jvm.Lambda.Shape)), (({ cls := "PendulumGym$Parser", name := "ticking", desc := "()LPendulumGym$Modification;" } : Jvm.MethodName), 9, 79, ({ iface := "PendulumGym$Modification", name := "apply", sam := ({ parameters := [(Jvm.ClassFile.FieldType.object "PendulumGym$Gym")], returnType := (Option.some Jvm.ClassFile.FieldType.int) } : Jvm.ClassFile.MethodDescriptor), captured := [Jvm.ClassFile.FieldType.int], kind := 6, implClass := "PendulumGym$Parser", implName := "lambda$ticking$6", implDesc := ({ parameters := [Jvm.ClassFile.FieldType.int, (Jvm.ClassFile.FieldType.object "PendulumGym$Gym")], returnType := (Option.some Jvm.ClassFile.FieldType.int) } : Jvm.ClassFile.MethodDescriptor), implItf := false, inst := ({ parameters := [(Jvm.ClassFile.FieldType.object "PendulumGym$Gym")], returnType := (Option.some Jvm.ClassFile.FieldType.int) } : Jvm.ClassFile.MethodDescriptor) } : Jvm.Lambda.Shape)), (({ cls := "PendulumGym", name := "execute", desc := "()I" } : Jvm.MethodName), 31, 360, ({ iface := "PendulumGym$Modification", name := "apply", sam := ({ parameters := [(Jvm.ClassFile.FieldType.object "PendulumGym$Gym")], returnType := (Option.some Jvm.ClassFile.FieldType.int) } : Jvm.ClassFile.MethodDescriptor), captured := [(Jvm.ClassFile.FieldType.object "PendulumGym"), (Jvm.ClassFile.FieldType.object "java/util/ArrayList")], kind := 5, implClass := "PendulumGym", implName := "lambda$execute$10", implDesc := ({ parameters := [(Jvm.ClassFile.FieldType.object "java/util/ArrayList"), (Jvm.ClassFile.FieldType.object "PendulumGym$Gym")], returnType := (Option.some Jvm.ClassFile.FieldType.int) } : Jvm.ClassFile.MethodDescriptor), implItf := false, inst := ({ parameters := [(Jvm.ClassFile.FieldType.object "PendulumGym$Gym")], returnType := (Option.some Jvm.ClassFile.FieldType.int) } : Jvm.ClassFile.MethodDescriptor) } : Jvm.Lambda.Shape))]
/-- two statics of Throwable -/
def TH (G : GL) (U : State) : Prop := vx_Zq Bundle.tN "UNASSIGNED_STACK" Bundle.steD (fun a => G.2.1 ≤ a) U G.2.2.2.2.1 ∧ vx_Zq Bundle.tN "SUPPRESSED_SENTINEL" Bundle.listD (fun a => G.2.1 ≤ a) U G.2.2.2.2.1
/-- one lambda site, linked to the class c -/
def lamOK (q : MethodName × Nat × Nat × Lambda.Shape) (c : ClassId) (U : State) : Prop := ∃ (m : MethodId) (k : Class) (cf : ClassFile) (i0 p0 : Nat), U.methodNamed? q.1 = some m ∧ U.vm.classes[m.cls]? = some k ∧ k.cf = some cf ∧ Lambda.shapeOf? cf q.2.2.1 = some q.2.2.2 ∧
  (k.callSites.find? fun y => y.1 == m.idx && y.2.1 == q.2.1) = some (i0, p0, .makes c) ∧ Lambda.isMade { classPath := fun _ => none } U.vm m.cls q.2.2.2 c = true ∧ U.lambdaCallable q.2.2.2 c = true ∧ ∃ (ic : ClassId) (ki : Class), U.vm.findClass q.2.2.2.iface = some ic ∧ U.vm.classes[ic]? = some ki ∧ ki.isInterface = true
def LAM (G : GL) (U : State) : Prop := ∀ (i : Nat) (q : MethodName × Nat × Nat × Lambda.Shape), lsit[i]? = some q → lamOK q (G.2.2.2.2.2 i) U
/-- what the tables say all through the run -/
def GOK (E : EV) (G : GL) (U : State) : Prop :=
  va_K G.2.2.1 mcl (tyl G) U ∧ (∀ w ∈ lw_tbl, nwGood w = true → va_Nw w U) ∧ (∀ q ∈ ncl, va_Nc q.1 q.2 U) ∧ va_AO "java/lang/Object" U ∧ (∀ (k : Nat) (c : MC), cst E k = some c → cAt G U k c) ∧
  (∀ q ∈ stl E, va_Z q.1 q.2.1 q.2.2.1 (mv G.1 q.2.2.2) (fun a => G.2.1 ≤ a) U G.2.2.2.2.1) ∧ (∀ (i : Nat) (q : String × Nat × String), ktx[i]? = some q → vk_R q.1 q.2.1 q.2.2 (G.1 (10 + i)) U) ∧
  (∀ k, KK ≤ k → G.1 k + KK = G.2.1 + k) ∧ (∀ k, k < KK → G.1 k < G.2.1) ∧ G.2.2.2.2.1.size = G.2.1 ∧ TH G U ∧ LAM G U
/-- the room for d frames, so many cells, so many slots -/
def LB (d : Nat) : Nat := 64 * d + 4096
def RM (d mc ms : Nat) : Room := { frames := d, cells := mc, slots := ms, locals := LB d }
/-- the frame of a method at work -/
def SC (E : EV) (y : MethodName) (cc : ByteArray) (nL : Nat) (ret : Option FieldType) (hh : List (Nat × Nat × Nat × Nat)) (l : Launch) (G : GL) (p : Program) (s : State) (m : MethodId) (args : Array Value) (meth : Method) (c : Code) : Prop :=
  p.tables.exec = Jvm.exec ∧ c.code = cc ∧ meth.sig.returnType = ret ∧ meth.locks = false ∧ c.maxLocals = nL ∧ s.vm.findClass y.cls = some m.cls ∧ (meth.name = y.name ∧ s.methodNamed? y = some m) ∧ c.exceptionTable.toList = tableOf hh ∧ (∀ w ∈ lw_all, w.before args s = true) ∧ GOK E G s ∧ l.flags = flags0
/-- how a method's call ends: a returned value, or a thrown object; the heap behind it -/
def sQ (E : EV) (G : GL) (QR : Option Value → MH → Prop) (QX : Nat → MH → Prop) (mc ms : Nat) : Array Value → State → Outcome → State → Prop := fun _ st o t =>
  ∃ (h' : MH) (L : List Loc), Rep E G h' t.heap ∧ (∀ z ∈ L, G.2.1 ≤ z.base) ∧
    ((∃ v : Option Value, o = .returned (v.map (mv G.1)) ∧ QR v h' ∧ FrameEnd st o t L mc ms) ∨
     (∃ q : Nat, o = .threw (G.1 q) ∧ QX q h' ∧ st.WarmedH t.vm ∧ st.sameButNew ({ t with vm := st.vm } : State) L mc ms))
def sMQ (below : List Frame) (E : EV) (G : GL) (QR : Option Value → MH → Prop) (QX : Nat → MH → Prop) (a : Array Value) (s : State) (mc ms : Nat) : State → Prop := fun t =>
  ∃ o, t.status = .running ∧ Ended t below o ∧ sQ E G QR QX mc ms a s o t
/-- FROM HERE IN THE METHOD's FRAME: mini heap h, at pc, locals ls, operand stack st, so many cells and slots and frames at most, it ends by QR or QX -/
def SW (E : EV) (y : MethodName) (cc : ByteArray) (nL : Nat) (ret : Option FieldType) (hh : List (Nat × Nat × Nat × Nat)) (QR : Option Value → MH → Prop) (QX : Nat → MH → Prop) (d kc ks : Nat) (h : MH) (pc : Nat) (ls : List (Nat × Value)) (st : List Value) : Prop :=
  ∀ (l : Launch) (G : GL) (mc ms : Nat) (p : Program) (e : Env) (s : State) (m : MethodId) (args : Array Value) (below : List Frame) (meth : Method) (c : Code) (H : Heap) (locs : List Loc) (cells slots : Nat) (lsr : Array Slot),
    SC E y cc nL ret hh l G p s m args meth c → Rep E G h H → (∀ z ∈ locs, G.2.1 ≤ z.base) → cells + kc ≤ mc → slots + ks ≤ ms → lv_has lsr nL (lm G.1 ls) →
    W p l e (RM d mc ms) s m args below meth c H locs cells slots (sMQ below E G QR QX args s mc ms) (F0 m pc lsr (st.map (mv G.1)))
/-- .. the same while the object q is being thrown from there -/
def SX (E : EV) (y : MethodName) (cc : ByteArray) (nL : Nat) (ret : Option FieldType) (hh : List (Nat × Nat × Nat × Nat)) (QR : Option Value → MH → Prop) (QX : Nat → MH → Prop) (d kc ks : Nat) (h : MH) (pc : Nat) (ls : List (Nat × Value)) (q : Nat) : Prop :=
  ∀ (l : Launch) (G : GL) (mc ms : Nat) (p : Program) (e : Env) (s : State) (m : MethodId) (args : Array Value) (below : List Frame) (meth : Method) (c : Code) (H : Heap) (locs : List Loc) (cells slots : Nat) (lsr : Array Slot) (rest : List Value),
    SC E y cc nL ret hh l G p s m args meth c → Rep E G h H → (∀ z ∈ locs, G.2.1 ≤ z.base) → cells + kc ≤ mc → slots + ks ≤ ms → lv_has lsr nL (lm G.1 ls) →
    vx_W p l e (RM d mc ms) s m args below meth c H locs cells slots (sMQ below E G QR QX args s mc ms) (F0 m pc lsr rest) (G.1 q)
/-- the code of a method is among the tables' words -/
def isCode (y : MethodName) (cc : ByteArray) (nL : Nat) (ret : Option FieldType) (hh : List (Nat × Nat × Nat × Nat)) : Prop :=
  (hh = [] ∧ Cond.code y cc nL ret ∈ lw_all) ∨ Cond.codeWith y cc nL ret hh ∈ lw_all
/-- A METHOD's CONTRACT: called with the values av on the mini heap h it ends by QR or QX, within so many frames, cells and slots -/
def SM (E : EV) (y : MethodName) (d : Nat) (vs : List Value) (h : MH) (mc ms : Nat) (QR : Option Value → MH → Prop) (QX : Nat → MH → Prop) : Prop :=
  (∃ (cc : ByteArray) (nL : Nat) (ret : Option FieldType) (hh : List (Nat × Nat × Nat × Nat)), isCode y cc nL ret hh ∧ nL ≤ 40) ∧ Cond.initialized y.cls ∈ lw_all ∧
  ∀ (l : Launch), l.flags = flags0 → ∀ G : GL, MetFree l y (headSpec lw_all (RM d mc ms)) (fun a s => a = (vs.map (mv G.1)).toArray ∧ Rep E G h s.heap ∧ GOK E G s) (fun _ _ _ _ _ => True) (sQ E G QR QX mc ms)
theorem in_X5 : ∀ w ∈ u_ws RX5 T0_ 0, w ∈ lw_all := fun w h => by cases h
theorem in_XE : ∀ w ∈ u_ws RX11 TXE 1, w ∈ lw_all := fun w h => by
  have e : u_ws RX11 TXE 1 = [Cond.laysFinal "PendulumGym$SyntaxError" "PendulumGym$SyntaxError" "position" "I"] := rfl
  rw [e] at h
  rw [List.mem_singleton.mp h]
  exact q1562
/-- what the tables' words say of a class's followed fields -/
def clOK (r : vw_C) : Prop := (∀ w ∈ u_ws r.1 r.2.1 r.2.2, w ∈ lw_all) ∧ (∃ ty : Nat → FieldType, ∀ k, k < r.2.2 → parseFieldDescriptor (r.2.1 k).2.2.1 = some (ty k)) ∧ ∀ a, a < r.2.2 → ∀ b, b < r.2.2 → a ≠ b → (r.2.1 a).2.1 ≠ (r.2.1 b).2.1
theorem clOK_0 (C : String) : clOK (C, T0_, 0) := ⟨fun w h => (by cases h), ⟨fun _ => .int, fun k hk => absurd hk (Nat.not_lt_zero _)⟩, fun a ha => absurd ha (Nat.not_lt_zero _)⟩
theorem mcl_ok : ∀ r ∈ mcl, clOK r := by
  intro r hr
  simp only [mcl, List.mem_cons, List.not_mem_nil, or_false] at hr
  rcases hr with rfl | rfl | rfl | rfl | rfl | rfl | rfl | rfl | rfl | rfl | rfl | rfl | rfl | rfl | rfl | rfl | rfl | rfl | rfl | rfl
  · exact ⟨in_X1, ⟨tyX1, tyX1_ok⟩, nmX1⟩
  · exact ⟨in_X2, ⟨tyX2, tyX2_ok⟩, nmX2⟩
  · exact ⟨in_X4, ⟨tyX4, tyX4_ok⟩, nmX4⟩
  · exact clOK_0 _
  · exact ⟨in_X7, ⟨tyX7, tyX7_ok⟩, nmX7⟩
  · exact ⟨in_X8, ⟨tyX8, tyX8_ok⟩, nmX8⟩
  · exact ⟨in_X9, ⟨tyX9, tyX9_ok⟩, nmX9⟩
  · exact ⟨in_X10, ⟨tyX10, tyX10_ok⟩, nmX10⟩
  · exact ⟨in_XE, ⟨fun _ => .int, fun k hk => by have hk : k < 1 := hk; rcases (show k = 0 by omega) with rfl; decide +kernel⟩, fun a ha b hb hab => by have ha : a < 1 := ha; have hb : b < 1 := hb; exact absurd (show a = b by omega) hab⟩
  · exact ⟨in_X3, ⟨tyX3, tyX3_ok⟩, nmX3⟩
  · exact ⟨in_J2, ⟨tyJ2, tyJ2_ok⟩, nmJ2⟩
  · exact ⟨in_J3, ⟨tyJ3, tyJ3_ok⟩, nmJ3⟩
  · exact ⟨in_J5, ⟨tyJ5, tyJ5_ok⟩, nmJ5⟩
  · exact ⟨in_J6, ⟨tyJ6, tyJ6_ok⟩, nmJ6⟩
  · exact clOK_0 _
  · exact clOK_0 _
  · exact clOK_0 _
  · exact clOK_0 _
  · exact clOK_0 _
  · exact ⟨in_J23, ⟨tyJ23, tyJ23_ok⟩, nmJ23⟩
theorem mcl_len : mcl.length = 20 := rfl
theorem kcl_of {ci : Nat} {r : vw_C} (h : mcl[ci]? = some r) : kcl[ci]? = some r := by
  have hl : ci < mcl.length := (List.getElem?_eq_some_iff.mp h).1
  unfold kcl
  rw [List.getElem?_append_left hl]
  exact h
section RL
variable {E : EV} {G : GL} {h : MH} {H H1 : Heap} {s : State} {k : Nat} {c c' : MC}
theorem GOK.K (hG : GOK E G s) : va_K G.2.2.1 mcl (tyl G) s := hG.1
theorem GOK.nw (hG : GOK E G s) {w : Cond} (hw : w ∈ lw_tbl) (hg : nwGood w = true) : va_Nw w s := hG.2.1 w hw hg
theorem GOK.nc (hG : GOK E G s) {C T : String} (hw : (C, T) ∈ ncl) : va_Nc C T s := hG.2.2.1 _ hw
theorem GOK.ao (hG : GOK E G s) : va_AO "java/lang/Object" s := hG.2.2.2.1
theorem GOK.ct (hG : GOK E G s) (hc : cst E k = some c) : cAt G s k c := hG.2.2.2.2.1 k c hc
theorem GOK.st (hG : GOK E G s) {q : String × String × String × Value} (hq : q ∈ stl E) : va_Z q.1 q.2.1 q.2.2.1 (mv G.1 q.2.2.2) (fun a => G.2.1 ≤ a) s G.2.2.2.2.1 := hG.2.2.2.2.2.1 q hq
theorem GOK.sr (hG : GOK E G s) {i : Nat} {q : String × Nat × String} (hq : ktx[i]? = some q) : vk_R q.1 q.2.1 q.2.2 (G.1 (10 + i)) s := hG.2.2.2.2.2.2.1 i q hq
theorem GOK.rho (hG : GOK E G s) (hk : KK ≤ k) : G.1 k + KK = G.2.1 + k := hG.2.2.2.2.2.2.2.1 k hk
theorem GOK.rhoC (hG : GOK E G s) (hk : k < KK) : G.1 k < G.2.1 := hG.2.2.2.2.2.2.2.2.1 k hk
theorem GOK.sz (hG : GOK E G s) : G.2.2.2.2.1.size = G.2.1 := hG.2.2.2.2.2.2.2.2.2.1
theorem GOK.th (hG : GOK E G s) : TH G s := hG.2.2.2.2.2.2.2.2.2.2.1
theorem GOK.lam (hG : GOK E G s) : LAM G s := hG.2.2.2.2.2.2.2.2.2.2.2
theorem Rep.lt (hR : Rep E G h H) (hk : h.2 k = some c) : k < h.1 := by
  rcases Nat.lt_or_ge k h.1 with g | g
  · exact g
  · rw [hR.2.2.2.1 k g] at hk
    cases hk
theorem mAt.kept (h : mAt G k c H) (hq : H1[G.1 k]? = H[G.1 k]?) : mAt G k c H1 := by
  cases c with
  | inl a => exact ⟨h.1, hq.trans h.2⟩
  | inr o =>
    rcases h with ⟨r, h1, h2⟩ | ⟨h1, h2⟩
    · exact Or.inl ⟨r, h1, h2.kept hq⟩
    · exact Or.inr ⟨h1, hq.trans h2⟩
theorem GOK.inj (hG : GOK E G s) {i j : Nat} (hi : KK ≤ i) (hj : KK ≤ j) (h : G.1 i = G.1 j) : i = j := by
  have a := hG.rho hi
  have b := hG.rho hj
  omega
theorem GOK.old (hG : GOK E G s) (hk : KK ≤ k) : G.2.1 ≤ G.1 k := by
  have a := hG.rho hk
  omega
theorem Rep.put (hR : Rep E G h H) (hG : GOK E G s) (hk : KK ≤ k) (hc : h.2 k = some c) (hs : H1.size = H.size) (ho : ∀ q : Nat, q ≠ G.1 k → H1[q]? = H[q]?) (hm : mAt G k c' H1) : Rep E G (ph h k c') H1 := by
  have hlt := hR.lt hc
  obtain ⟨h1, h2, h3, h4, h5, h6⟩ := hR
  refine ⟨h1, by rw [hs]; exact h2, fun a ha => ?_, fun j hj => ?_, fun j hj => ?_, fun j cj hj hcj => ?_⟩
  · rw [ho a (fun e => by have := hG.old hk; omega)]
    exact h3 a ha
  · have hne : j ≠ k := fun e => by rw [e] at hj; exact absurd hlt (Nat.not_lt.mpr hj)
    show (if j = k then some c' else h.2 j) = none
    rw [if_neg hne]
    exact h4 j hj
  · show (if j = k then some c' else h.2 j) = cst E j
    rw [if_neg (by omega)]
    exact h5 j hj
  · have hcj : (if j = k then some c' else h.2 j) = some cj := hcj
    by_cases e : j = k
    · rw [if_pos e] at hcj
      cases hcj
      rw [e]
      exact hm
    · rw [if_neg e] at hcj
      exact (h6 j cj hj hcj).kept (ho _ (fun z => e (hG.inj hj hk z)))
theorem Rep.top (hR : Rep E G h H) (hG : GOK E G s) : G.1 h.1 = H.size := by
  have a := hG.rho hR.1
  have b := hR.2.1
  omega
theorem Rep.push (hR : Rep E G h H) (hG : GOK E G s) (hs : H1.size = H.size + 1) (ho : ∀ q : Nat, q < H.size → H1[q]? = H[q]?) (hm : mAt G h.1 c H1) : Rep E G (nh h c) H1 := by
  obtain ⟨h1, h2, h3, h4, h5, h6⟩ := hR
  refine ⟨Nat.le_succ_of_le h1, by rw [hs]; show H.size + 1 + KK = G.2.1 + (h.1 + 1); omega, fun a ha => ?_, fun j hj => ?_, fun j hj => ?_, fun j cj hj hcj => ?_⟩
  · rw [ho a (by omega)]
    exact h3 a ha
  · have hj : h.1 + 1 ≤ j := hj
    show (if j = h.1 then some c else h.2 j) = none
    rw [if_neg (by omega)]
    exact h4 j (by omega)
  · show (if j = h.1 then some c else h.2 j) = cst E j
    rw [if_neg (by omega)]
    exact h5 j hj
  · have hcj : (if j = h.1 then some c else h.2 j) = some cj := hcj
    by_cases e : j = h.1
    · rw [if_pos e] at hcj
      cases hcj
      rw [e]
      exact hm
    · rw [if_neg e] at hcj
      have hlt : j < h.1 := by
        rcases Nat.lt_or_ge j h.1 with g | g
        · exact g
        · rw [h4 j g] at hcj
          cases hcj
      refine (h6 j cj hj hcj).kept (ho _ ?_)
      have := hG.rho hj
      omega
/-- an array, a constant or not: what is read of it -/
theorem rd_arr (hR : Rep E G h H) (hG : GOK E G s) {t n : Nat} {a : (Nat → Int32) ⊕ (Nat → Int64) ⊕ (Nat → UInt32) ⊕ (Nat → UInt64) ⊕ (Nat → Option Nat)} (hk : h.2 k = some (.inl (t, n, a))) :
    ∃ cell : Cell, H[G.1 k]? = some cell ∧ s.isArrayOf cell (aty t) ∧ cell.vm ≠ .unknown ∧ cell.slots.size = n ∧ ∀ j, j < n → cell.slots[j]? = some (av G.1 a j) := by
  rcases Nat.lt_or_ge k KK with g | g
  · have h5 := hR.2.2.2.2.1 k g
    obtain ⟨cell, e1, e2, e3, e4, e5, e6⟩ := hG.ct (h5.symm.trans hk)
    exact ⟨cell, (hR.2.2.1 _ (hG.rhoC g)).trans e1, e4, e2, e5, e6⟩
  · obtain ⟨e1, e2⟩ := hR.2.2.2.2.2 k _ g hk
    refine ⟨_, e2, ?_, fun q => (by cases q), arrV_size _ _ _, fun j hj => arrV_read _ _ hj⟩
    have hty : (tyl G)[t]? = some (G.2.2.2.1 t, aty t) := by
      have e1 : t < 6 := e1
      rcases (show t = 0 ∨ t = 1 ∨ t = 2 ∨ t = 3 ∨ t = 4 ∨ t = 5 by omega) with rfl | rfl | rfl | rfl | rfl | rfl <;> rfl
    exact (hG.K.2 t _ hty).1 n _
end RL
section RS
variable {E : EV} {y : MethodName} {cc : ByteArray} {nL : Nat} {ret : Option FieldType} {hh : List (Nat × Nat × Nat × Nat)} {QR : Option Value → MH → Prop} {QX : Nat → MH → Prop} {d kc ks : Nat} {h : MH} {pc : Nat} {ls : List (Nat × Value)} {st : List Value}
theorem r_iconst {n : Int} {v : Int32} (hd : decode cc pc = .ok (.iconst n, 1)) (hv : Int32.ofInt n = v) (k : SW E y cc nL ret hh QR QX d kc ks h (pc + 1) ls (.int v :: st)) : SW E y cc nL ret hh QR QX d kc ks h pc ls st :=
  fun l G mc ms p e s m args below meth c H locs cells slots lsr C hR hL hc hs hl => lv_iconst C.1 C.2.1 hd hv (k l G mc ms p e s m args below meth c H locs cells slots lsr C hR hL hc hs hl)
theorem r_bipush {n : Int} {v : Int32} (hd : decode cc pc = .ok (.bipush n, 2)) (hv : (Int8.ofInt n).toInt32 = v) (k : SW E y cc nL ret hh QR QX d kc ks h (pc + 2) ls (.int v :: st)) : SW E y cc nL ret hh QR QX d kc ks h pc ls st :=
  fun l G mc ms p e s m args below meth c H locs cells slots lsr C hR hL hc hs hl => lv_bipush C.1 C.2.1 hd hv (k l G mc ms p e s m args below meth c H locs cells slots lsr C hR hL hc hs hl)
theorem r_sipush {n : Int} {v : Int32} (hd : decode cc pc = .ok (.sipush n, 3)) (hv : (Int16.ofInt n).toInt32 = v) (k : SW E y cc nL ret hh QR QX d kc ks h (pc + 3) ls (.int v :: st)) : SW E y cc nL ret hh QR QX d kc ks h pc ls st :=
  fun l G mc ms p e s m args below meth c H locs cells slots lsr C hR hL hc hs hl => lv_sipush C.1 C.2.1 hd hv (k l G mc ms p e s m args below meth c H locs cells slots lsr C hR hL hc hs hl)
theorem r_null  (hd : decode cc pc = .ok (.aconst_null, 1))  (k : SW E y cc nL ret hh QR QX d kc ks h (pc + 1) ls (.null :: st)) : SW E y cc nL ret hh QR QX d kc ks h pc ls st :=
  fun l G mc ms p e s m args below meth c H locs cells slots lsr C hR hL hc hs hl => lv_null C.1 C.2.1 hd (k l G mc ms p e s m args below meth c H locs cells slots lsr C hR hL hc hs hl)
theorem r_dconst0  (hd : decode cc pc = .ok (.dconst 0, 1))  (k : SW E y cc nL ret hh QR QX d kc ks h (pc + 1) ls (.double FP.dconst0 :: st)) : SW E y cc nL ret hh QR QX d kc ks h pc ls st :=
  fun l G mc ms p e s m args below meth c H locs cells slots lsr C hR hL hc hs hl => lv_dconst0 C.1 C.2.1 hd (k l G mc ms p e s m args below meth c H locs cells slots lsr C hR hL hc hs hl)
theorem r_iload_n {i : Fin 4} {x : Int32} (hd : decode cc pc = .ok (.iload_n i, 1)) (hv : lget ls i.val = some (.int x)) (k : SW E y cc nL ret hh QR QX d kc ks h (pc + 1) ls (.int x :: st)) : SW E y cc nL ret hh QR QX d kc ks h pc ls st :=
  fun l G mc ms p e s m args below meth c H locs cells slots lsr C hR hL hc hs hl => lv_iload_n C.1 C.2.1 hd rfl (lv_of hl hv) (k l G mc ms p e s m args below meth c H locs cells slots lsr C hR hL hc hs hl)
theorem r_iload {i : Nat} {x : Int32} (hd : decode cc pc = .ok (.iload i, 2)) (hv : lget ls i = some (.int x)) (k : SW E y cc nL ret hh QR QX d kc ks h (pc + 2) ls (.int x :: st)) : SW E y cc nL ret hh QR QX d kc ks h pc ls st :=
  fun l G mc ms p e s m args below meth c H locs cells slots lsr C hR hL hc hs hl => lv_iload C.1 C.2.1 hd (lv_of hl hv) (k l G mc ms p e s m args below meth c H locs cells slots lsr C hR hL hc hs hl)
theorem r_dload_n {i : Fin 4} {x : UInt64} (hd : decode cc pc = .ok (.dload_n i, 1)) (hv : lget ls i.val = some (.double x)) (k : SW E y cc nL ret hh QR QX d kc ks h (pc + 1) ls (.double x :: st)) : SW E y cc nL ret hh QR QX d kc ks h pc ls st :=
  fun l G mc ms p e s m args below meth c H locs cells slots lsr C hR hL hc hs hl => lv_dload_n C.1 C.2.1 hd rfl (lv_of hl hv) (k l G mc ms p e s m args below meth c H locs cells slots lsr C hR hL hc hs hl)
theorem r_dload {i : Nat} {x : UInt64} (hd : decode cc pc = .ok (.dload i, 2)) (hv : lget ls i = some (.double x)) (k : SW E y cc nL ret hh QR QX d kc ks h (pc + 2) ls (.double x :: st)) : SW E y cc nL ret hh QR QX d kc ks h pc ls st :=
  fun l G mc ms p e s m args below meth c H locs cells slots lsr C hR hL hc hs hl => lv_dload C.1 C.2.1 hd (lv_of hl hv) (k l G mc ms p e s m args below meth c H locs cells slots lsr C hR hL hc hs hl)
theorem r_aload_n {i : Fin 4} {v : Value} (hd : decode cc pc = .ok (.aload_n i, 1)) (hv : lget ls i.val = some v) (k : SW E y cc nL ret hh QR QX d kc ks h (pc + 1) ls (v :: st)) (hr : v.isRef = true := by rfl) : SW E y cc nL ret hh QR QX d kc ks h pc ls st := by
  intro l G mc ms p e s m args below meth c H locs cells slots lsr C hR hL hc hs hl
  have K := k l G mc ms p e s m args below meth c H locs cells slots lsr C hR hL hc hs hl
  have L := lv_of hl hv
  cases v with
  | null => exact lv_aload_nN C.1 C.2.1 hd rfl L K
  | ref a => exact lv_aload_n C.1 C.2.1 hd rfl L K
  | _ => cases hr
theorem r_aload {i : Nat} {v : Value} (hd : decode cc pc = .ok (.aload i, 2)) (hv : lget ls i = some v) (k : SW E y cc nL ret hh QR QX d kc ks h (pc + 2) ls (v :: st)) (hr : v.isRef = true := by rfl) : SW E y cc nL ret hh QR QX d kc ks h pc ls st := by
  intro l G mc ms p e s m args below meth c H locs cells slots lsr C hR hL hc hs hl
  have K := k l G mc ms p e s m args below meth c H locs cells slots lsr C hR hL hc hs hl
  have L := lv_of hl hv
  cases v with
  | null => exact lv_aloadN C.1 C.2.1 hd L K
  | ref a => exact lv_aload C.1 C.2.1 hd L K
  | _ => cases hr
theorem r_istore_n {i : Fin 4} {x : Int32} {ls' : List (Nat × Value)} (hd : decode cc pc = .ok (.istore_n i, 1)) (hn : Nat.blt i.val nL = true) (hls : lset ls i.val (.int x) = ls') (k : SW E y cc nL ret hh QR QX d kc ks h (pc + 1) ls' st) : SW E y cc nL ret hh QR QX d kc ks h pc ls (.int x :: st) :=
  fun l G mc ms p e s m args below meth c H locs cells slots lsr C hR hL hc hs hl => lv_istore_n C.1 C.2.1 hd rfl hl (Nat.le_of_ble_eq_true hn) rfl (fun ls2 hl2 => k l G mc ms p e s m args below meth c H locs cells slots ls2 C hR hL hc hs (lset_has (v := .int x) hls hl2))
theorem r_astore_n {i : Fin 4} {v : Value} {ls' : List (Nat × Value)} (hd : decode cc pc = .ok (.astore_n i, 1)) (hn : Nat.blt i.val nL = true) (hls : lset ls i.val v = ls') (k : SW E y cc nL ret hh QR QX d kc ks h (pc + 1) ls' st) (hr : v.isRef = true := by rfl) : SW E y cc nL ret hh QR QX d kc ks h pc ls (v :: st) := by
  intro l G mc ms p e s m args below meth c H locs cells slots lsr C hR hL hc hs hl
  cases v with
  | null => exact lv_astore_nN C.1 C.2.1 hd rfl hl (Nat.le_of_ble_eq_true hn) rfl (fun ls2 hl2 => k l G mc ms p e s m args below meth c H locs cells slots ls2 C hR hL hc hs (lset_has (v := .null) hls hl2))
  | ref a => exact lv_astore_n C.1 C.2.1 hd rfl hl (Nat.le_of_ble_eq_true hn) rfl (fun ls2 hl2 => k l G mc ms p e s m args below meth c H locs cells slots ls2 C hR hL hc hs (lset_has (v := .ref a) hls hl2))
  | _ => cases hr
theorem r_istore {i : Nat} {x : Int32} {ls' : List (Nat × Value)} (hd : decode cc pc = .ok (.istore i, 2)) (hn : Nat.blt i nL = true) (hls : lset ls i (.int x) = ls') (k : SW E y cc nL ret hh QR QX d kc ks h (pc + 2) ls' st) : SW E y cc nL ret hh QR QX d kc ks h pc ls (.int x :: st) :=
  fun l G mc ms p e s m args below meth c H locs cells slots lsr C hR hL hc hs hl => lv_istore C.1 C.2.1 hd hl (Nat.le_of_ble_eq_true hn) rfl (fun ls2 hl2 => k l G mc ms p e s m args below meth c H locs cells slots ls2 C hR hL hc hs (lset_has (v := .int x) hls hl2))
theorem r_astore {i : Nat} {v : Value} {ls' : List (Nat × Value)} (hd : decode cc pc = .ok (.astore i, 2)) (hn : Nat.blt i nL = true) (hls : lset ls i v = ls') (k : SW E y cc nL ret hh QR QX d kc ks h (pc + 2) ls' st) (hr : v.isRef = true := by rfl) : SW E y cc nL ret hh QR QX d kc ks h pc ls (v :: st) := by
  intro l G mc ms p e s m args below meth c H locs cells slots lsr C hR hL hc hs hl
  cases v with
  | null => exact lv_astoreN C.1 C.2.1 hd hl (Nat.le_of_ble_eq_true hn) rfl (fun ls2 hl2 => k l G mc ms p e s m args below meth c H locs cells slots ls2 C hR hL hc hs (lset_has (v := .null) hls hl2))
  | ref a => exact lv_astore C.1 C.2.1 hd hl (Nat.le_of_ble_eq_true hn) rfl (fun ls2 hl2 => k l G mc ms p e s m args below meth c H locs cells slots ls2 C hR hL hc hs (lset_has (v := .ref a) hls hl2))
  | _ => cases hr
theorem r_dstore {i : Nat} {x : UInt64} {ls' : List (Nat × Value)} (hd : decode cc pc = .ok (.dstore i, 2)) (hn : Nat.blt (i + 1) nL = true) (hls : lset2 ls i (.double x) = ls') (k : SW E y cc nL ret hh QR QX d kc ks h (pc + 2) ls' st) : SW E y cc nL ret hh QR QX d kc ks h pc ls (.double x :: st) :=
  fun l G mc ms p e s m args below meth c H locs cells slots lsr C hR hL hc hs hl => lv_dstore C.1 C.2.1 hd hl (Nat.le_of_ble_eq_true hn) rfl (fun ls2 hl2 => k l G mc ms p e s m args below meth c H locs cells slots ls2 C hR hL hc hs (lset2_has (v := .double x) hls hl2))
theorem r_iinc {i : Nat} {n : Int} {x v : Int32} {ls' : List (Nat × Value)} (hd : decode cc pc = .ok (.iinc i n, 3)) (hx : lget ls i = some (.int x)) (hv : x + Int32.ofInt n = v) (hn : Nat.blt i nL = true) (hls : lset ls i (.int v) = ls') (k : SW E y cc nL ret hh QR QX d kc ks h (pc + 3) ls' st) : SW E y cc nL ret hh QR QX d kc ks h pc ls st := by
  intro l G mc ms p e s m args below meth c H locs cells slots lsr C hR hL hc hs hl
  obtain ⟨j, hj⟩ := lget_at (ρ := G.1) hx
  exact lv_iinc C.1 C.2.1 hd hl hj hv (Nat.le_of_ble_eq_true hn) rfl (fun ls2 hl2 => k l G mc ms p e s m args below meth c H locs cells slots ls2 C hR hL hc hs (lset_has (v := .int v) hls hl2))
theorem r_iadd {x y1 : Int32} (hd : decode cc pc = .ok (.iadd, 1))  (k : SW E y cc nL ret hh QR QX d kc ks h (pc + 1) ls (.int (x + y1) :: st)) : SW E y cc nL ret hh QR QX d kc ks h pc ls (.int y1 :: .int x :: st) :=
  fun l G mc ms p e s m args below meth c H locs cells slots lsr C hR hL hc hs hl => lv_iadd C.1 C.2.1 hd (k l G mc ms p e s m args below meth c H locs cells slots lsr C hR hL hc hs hl)
theorem r_isub {x y1 : Int32} (hd : decode cc pc = .ok (.isub, 1))  (k : SW E y cc nL ret hh QR QX d kc ks h (pc + 1) ls (.int (x - y1) :: st)) : SW E y cc nL ret hh QR QX d kc ks h pc ls (.int y1 :: .int x :: st) :=
  fun l G mc ms p e s m args below meth c H locs cells slots lsr C hR hL hc hs hl => lv_isub C.1 C.2.1 hd (k l G mc ms p e s m args below meth c H locs cells slots lsr C hR hL hc hs hl)
theorem r_imul {x y1 : Int32} (hd : decode cc pc = .ok (.imul, 1))  (k : SW E y cc nL ret hh QR QX d kc ks h (pc + 1) ls (.int (x * y1) :: st)) : SW E y cc nL ret hh QR QX d kc ks h pc ls (.int y1 :: .int x :: st) :=
  fun l G mc ms p e s m args below meth c H locs cells slots lsr C hR hL hc hs hl => lv_imul C.1 C.2.1 hd (k l G mc ms p e s m args below meth c H locs cells slots lsr C hR hL hc hs hl)
theorem r_iand {x y1 : Int32} (hd : decode cc pc = .ok (.iand, 1))  (k : SW E y cc nL ret hh QR QX d kc ks h (pc + 1) ls (.int (x &&& y1) :: st)) : SW E y cc nL ret hh QR QX d kc ks h pc ls (.int y1 :: .int x :: st) :=
  fun l G mc ms p e s m args below meth c H locs cells slots lsr C hR hL hc hs hl => lv_iand C.1 C.2.1 hd (k l G mc ms p e s m args below meth c H locs cells slots lsr C hR hL hc hs hl)
theorem r_ior {x y1 : Int32} (hd : decode cc pc = .ok (.ior, 1))  (k : SW E y cc nL ret hh QR QX d kc ks h (pc + 1) ls (.int (x ||| y1) :: st)) : SW E y cc nL ret hh QR QX d kc ks h pc ls (.int y1 :: .int x :: st) :=
  fun l G mc ms p e s m args below meth c H locs cells slots lsr C hR hL hc hs hl => lv_ior C.1 C.2.1 hd (k l G mc ms p e s m args below meth c H locs cells slots lsr C hR hL hc hs hl)
theorem r_ixor {x y1 : Int32} (hd : decode cc pc = .ok (.ixor, 1))  (k : SW E y cc nL ret hh QR QX d kc ks h (pc + 1) ls (.int (x ^^^ y1) :: st)) : SW E y cc nL ret hh QR QX d kc ks h pc ls (.int y1 :: .int x :: st) :=
  fun l G mc ms p e s m args below meth c H locs cells slots lsr C hR hL hc hs hl => lv_ixor C.1 C.2.1 hd (k l G mc ms p e s m args below meth c H locs cells slots lsr C hR hL hc hs hl)
theorem r_ishl {x y1 : Int32} (hd : decode cc pc = .ok (.ishl, 1))  (k : SW E y cc nL ret hh QR QX d kc ks h (pc + 1) ls (.int (x <<< (y1 &&& 31)) :: st)) : SW E y cc nL ret hh QR QX d kc ks h pc ls (.int y1 :: .int x :: st) :=
  fun l G mc ms p e s m args below meth c H locs cells slots lsr C hR hL hc hs hl => lv_ishl C.1 C.2.1 hd (k l G mc ms p e s m args below meth c H locs cells slots lsr C hR hL hc hs hl)
theorem r_ishr {x y1 : Int32} (hd : decode cc pc = .ok (.ishr, 1))  (k : SW E y cc nL ret hh QR QX d kc ks h (pc + 1) ls (.int (x >>> (y1 &&& 31)) :: st)) : SW E y cc nL ret hh QR QX d kc ks h pc ls (.int y1 :: .int x :: st) :=
  fun l G mc ms p e s m args below meth c H locs cells slots lsr C hR hL hc hs hl => lv_ishr C.1 C.2.1 hd (k l G mc ms p e s m args below meth c H locs cells slots lsr C hR hL hc hs hl)
theorem r_iushr {x y1 : Int32} (hd : decode cc pc = .ok (.iushr, 1))  (k : SW E y cc nL ret hh QR QX d kc ks h (pc + 1) ls (.int ((x.toUInt32 >>> (y1.toUInt32 &&& Int32.toUInt32 31)).toInt32) :: st)) : SW E y cc nL ret hh QR QX d kc ks h pc ls (.int y1 :: .int x :: st) :=
  fun l G mc ms p e s m args below meth c H locs cells slots lsr C hR hL hc hs hl => lv_iushr C.1 C.2.1 hd rfl (k l G mc ms p e s m args below meth c H locs cells slots lsr C hR hL hc hs hl)
theorem r_idiv {x y1 : Int32} (hd : decode cc pc = .ok (.idiv, 1)) (hne : ¬ y1 = 0) (k : SW E y cc nL ret hh QR QX d kc ks h (pc + 1) ls (.int (x / y1) :: st)) : SW E y cc nL ret hh QR QX d kc ks h pc ls (.int y1 :: .int x :: st) :=
  fun l G mc ms p e s m args below meth c H locs cells slots lsr C hR hL hc hs hl => lv_idiv C.1 C.2.1 hd hne (k l G mc ms p e s m args below meth c H locs cells slots lsr C hR hL hc hs hl)
theorem r_irem {x y1 : Int32} (hd : decode cc pc = .ok (.irem, 1)) (hne : ¬ y1 = 0) (k : SW E y cc nL ret hh QR QX d kc ks h (pc + 1) ls (.int (x - x / y1 * y1) :: st)) : SW E y cc nL ret hh QR QX d kc ks h pc ls (.int y1 :: .int x :: st) :=
  fun l G mc ms p e s m args below meth c H locs cells slots lsr C hR hL hc hs hl => lv_irem C.1 C.2.1 hd hne (k l G mc ms p e s m args below meth c H locs cells slots lsr C hR hL hc hs hl)
theorem r_ineg {x : Int32} (hd : decode cc pc = .ok (.ineg, 1))  (k : SW E y cc nL ret hh QR QX d kc ks h (pc + 1) ls (.int (-x) :: st)) : SW E y cc nL ret hh QR QX d kc ks h pc ls (.int x :: st) :=
  fun l G mc ms p e s m args below meth c H locs cells slots lsr C hR hL hc hs hl => lv_ineg C.1 C.2.1 hd (k l G mc ms p e s m args below meth c H locs cells slots lsr C hR hL hc hs hl)
theorem r_i2l {x : Int32} (hd : decode cc pc = .ok (.i2l, 1))  (k : SW E y cc nL ret hh QR QX d kc ks h (pc + 1) ls (.long x.toInt64 :: st)) : SW E y cc nL ret hh QR QX d kc ks h pc ls (.int x :: st) :=
  fun l G mc ms p e s m args below meth c H locs cells slots lsr C hR hL hc hs hl => lv_i2l C.1 C.2.1 hd rfl (k l G mc ms p e s m args below meth c H locs cells slots lsr C hR hL hc hs hl)
theorem r_i2b {x : Int32} (hd : decode cc pc = .ok (.i2b, 1))  (k : SW E y cc nL ret hh QR QX d kc ks h (pc + 1) ls (.int x.toInt8.toInt32 :: st)) : SW E y cc nL ret hh QR QX d kc ks h pc ls (.int x :: st) :=
  fun l G mc ms p e s m args below meth c H locs cells slots lsr C hR hL hc hs hl => lv_i2b C.1 C.2.1 hd rfl (k l G mc ms p e s m args below meth c H locs cells slots lsr C hR hL hc hs hl)
theorem r_i2c {x : Int32} (hd : decode cc pc = .ok (.i2c, 1))  (k : SW E y cc nL ret hh QR QX d kc ks h (pc + 1) ls (.int (x.toUInt32 % 65536).toInt32 :: st)) : SW E y cc nL ret hh QR QX d kc ks h pc ls (.int x :: st) :=
  fun l G mc ms p e s m args below meth c H locs cells slots lsr C hR hL hc hs hl => lv_i2c C.1 C.2.1 hd rfl (k l G mc ms p e s m args below meth c H locs cells slots lsr C hR hL hc hs hl)
theorem r_i2d {x : Int32} (hd : decode cc pc = .ok (.i2d, 1))  (k : SW E y cc nL ret hh QR QX d kc ks h (pc + 1) ls (.double (FP.i2d x) :: st)) : SW E y cc nL ret hh QR QX d kc ks h pc ls (.int x :: st) :=
  fun l G mc ms p e s m args below meth c H locs cells slots lsr C hR hL hc hs hl => lv_i2d C.1 C.2.1 hd (k l G mc ms p e s m args below meth c H locs cells slots lsr C hR hL hc hs hl)
theorem r_ddiv {x y1 : UInt64} (hd : decode cc pc = .ok (.ddiv, 1)) (hne : vf_n64 (FP.ddiv x y1)) (k : SW E y cc nL ret hh QR QX d kc ks h (pc + 1) ls (.double (FP.ddiv x y1) :: st)) : SW E y cc nL ret hh QR QX d kc ks h pc ls (.double y1 :: .double x :: st) :=
  fun l G mc ms p e s m args below meth c H locs cells slots lsr C hR hL hc hs hl => lv_ddiv C.1 C.2.1 hd hne (k l G mc ms p e s m args below meth c H locs cells slots lsr C hR hL hc hs hl)
theorem r_dcmp {x y1 : UInt64} {op : CmpOp} (hd : decode cc pc = .ok (.dcmp op, 1))  (k : SW E y cc nL ret hh QR QX d kc ks h (pc + 1) ls (.int (Op.cmpValue (FP.dcmp x y1) op) :: st)) : SW E y cc nL ret hh QR QX d kc ks h pc ls (.double y1 :: .double x :: st) :=
  fun l G mc ms p e s m args below meth c H locs cells slots lsr C hR hL hc hs hl => lv_dcmp C.1 C.2.1 hd (k l G mc ms p e s m args below meth c H locs cells slots lsr C hR hL hc hs hl)
theorem r_lcmp {x y1 : Int64} (hd : decode cc pc = .ok (.lcmp, 1))  (k : SW E y cc nL ret hh QR QX d kc ks h (pc + 1) ls (.int (lg_cmp x y1) :: st)) : SW E y cc nL ret hh QR QX d kc ks h pc ls (.long y1 :: .long x :: st) :=
  fun l G mc ms p e s m args below meth c H locs cells slots lsr C hR hL hc hs hl => W.lcmp C.1 C.2.1 hd (k l G mc ms p e s m args below meth c H locs cells slots lsr C hR hL hc hs hl)
theorem r_dup {a : Value} (hd : decode cc pc = .ok (.dup, 1)) (ha : a.category = 1) (k : SW E y cc nL ret hh QR QX d kc ks h (pc + 1) ls (a :: a :: st)) : SW E y cc nL ret hh QR QX d kc ks h pc ls (a :: st) :=
  fun l G mc ms p e s m args below meth c H locs cells slots lsr C hR hL hc hs hl => lv_dup C.1 C.2.1 hd (by rw [mv_cat]; exact ha) (k l G mc ms p e s m args below meth c H locs cells slots lsr C hR hL hc hs hl)
theorem r_pop {a : Value} (hd : decode cc pc = .ok (.pop, 1)) (ha : a.category = 1) (k : SW E y cc nL ret hh QR QX d kc ks h (pc + 1) ls st) : SW E y cc nL ret hh QR QX d kc ks h pc ls (a :: st) :=
  fun l G mc ms p e s m args below meth c H locs cells slots lsr C hR hL hc hs hl => lv_pop C.1 C.2.1 hd (by rw [mv_cat]; exact ha) (k l G mc ms p e s m args below meth c H locs cells slots lsr C hR hL hc hs hl)
theorem r_dup_x1 {a b : Value} (hd : decode cc pc = .ok (.dup_x1, 1)) (ha : a.category = 1) (hb : b.category = 1) (k : SW E y cc nL ret hh QR QX d kc ks h (pc + 1) ls (a :: b :: a :: st)) : SW E y cc nL ret hh QR QX d kc ks h pc ls (a :: b :: st) :=
  fun l G mc ms p e s m args below meth c H locs cells slots lsr C hR hL hc hs hl => lv_dup_x1 C.1 C.2.1 hd (by rw [mv_cat]; exact ha) (by rw [mv_cat]; exact hb) (k l G mc ms p e s m args below meth c H locs cells slots lsr C hR hL hc hs hl)
theorem r_dup2 {a b : Value} (hd : decode cc pc = .ok (.dup2, 1)) (ha : a.category = 1) (hb : b.category = 1) (k : SW E y cc nL ret hh QR QX d kc ks h (pc + 1) ls (a :: b :: a :: b :: st)) : SW E y cc nL ret hh QR QX d kc ks h pc ls (a :: b :: st) :=
  fun l G mc ms p e s m args below meth c H locs cells slots lsr C hR hL hc hs hl => lv_dup2_11 C.1 C.2.1 hd (by rw [mv_cat]; exact ha) (by rw [mv_cat]; exact hb) (k l G mc ms p e s m args below meth c H locs cells slots lsr C hR hL hc hs hl)
theorem r_if_eq {x : Int32} {off : Int} {tgt : Nat} (hd : decode cc pc = .ok (.ifCond .eq off, 3)) (ht : (pc : Int) + off = (tgt : Int)) (kt : x = 0 → SW E y cc nL ret hh QR QX d kc ks h tgt ls st) (kf : ¬ x = 0 → SW E y cc nL ret hh QR QX d kc ks h (pc + 3) ls st) : SW E y cc nL ret hh QR QX d kc ks h pc ls (.int x :: st) :=
  fun l G mc ms p e s m args below meth c H locs cells slots lsr C hR hL hc hs hl => lv_if_eq C.1 C.2.1 hd ht (fun q => kt q l G mc ms p e s m args below meth c H locs cells slots lsr C hR hL hc hs hl) (fun q => kf q l G mc ms p e s m args below meth c H locs cells slots lsr C hR hL hc hs hl)
theorem r_icmp_eq {x y1 : Int32} {off : Int} {tgt : Nat} (hd : decode cc pc = .ok (.if_icmp .eq off, 3)) (ht : (pc : Int) + off = (tgt : Int)) (kt : x = y1 → SW E y cc nL ret hh QR QX d kc ks h tgt ls st) (kf : ¬ x = y1 → SW E y cc nL ret hh QR QX d kc ks h (pc + 3) ls st) : SW E y cc nL ret hh QR QX d kc ks h pc ls (.int y1 :: .int x :: st) :=
  fun l G mc ms p e s m args below meth c H locs cells slots lsr C hR hL hc hs hl => lv_icmp_eq C.1 C.2.1 hd ht (fun q => kt q l G mc ms p e s m args below meth c H locs cells slots lsr C hR hL hc hs hl) (fun q => kf q l G mc ms p e s m args below meth c H locs cells slots lsr C hR hL hc hs hl)
theorem r_if_ne {x : Int32} {off : Int} {tgt : Nat} (hd : decode cc pc = .ok (.ifCond .ne off, 3)) (ht : (pc : Int) + off = (tgt : Int)) (kt : ¬ x = 0 → SW E y cc nL ret hh QR QX d kc ks h tgt ls st) (kf : x = 0 → SW E y cc nL ret hh QR QX d kc ks h (pc + 3) ls st) : SW E y cc nL ret hh QR QX d kc ks h pc ls (.int x :: st) :=
  fun l G mc ms p e s m args below meth c H locs cells slots lsr C hR hL hc hs hl => lv_if_ne C.1 C.2.1 hd ht (fun q => kt q l G mc ms p e s m args below meth c H locs cells slots lsr C hR hL hc hs hl) (fun q => kf q l G mc ms p e s m args below meth c H locs cells slots lsr C hR hL hc hs hl)
theorem r_icmp_ne {x y1 : Int32} {off : Int} {tgt : Nat} (hd : decode cc pc = .ok (.if_icmp .ne off, 3)) (ht : (pc : Int) + off = (tgt : Int)) (kt : ¬ x = y1 → SW E y cc nL ret hh QR QX d kc ks h tgt ls st) (kf : x = y1 → SW E y cc nL ret hh QR QX d kc ks h (pc + 3) ls st) : SW E y cc nL ret hh QR QX d kc ks h pc ls (.int y1 :: .int x :: st) :=
  fun l G mc ms p e s m args below meth c H locs cells slots lsr C hR hL hc hs hl => lv_icmp_ne C.1 C.2.1 hd ht (fun q => kt q l G mc ms p e s m args below meth c H locs cells slots lsr C hR hL hc hs hl) (fun q => kf q l G mc ms p e s m args below meth c H locs cells slots lsr C hR hL hc hs hl)
theorem r_if_lt {x : Int32} {off : Int} {tgt : Nat} (hd : decode cc pc = .ok (.ifCond .lt off, 3)) (ht : (pc : Int) + off = (tgt : Int)) (kt : x < 0 → SW E y cc nL ret hh QR QX d kc ks h tgt ls st) (kf : ¬ x < 0 → SW E y cc nL ret hh QR QX d kc ks h (pc + 3) ls st) : SW E y cc nL ret hh QR QX d kc ks h pc ls (.int x :: st) :=
  fun l G mc ms p e s m args below meth c H locs cells slots lsr C hR hL hc hs hl => lv_if_lt C.1 C.2.1 hd ht (fun q => kt q l G mc ms p e s m args below meth c H locs cells slots lsr C hR hL hc hs hl) (fun q => kf q l G mc ms p e s m args below meth c H locs cells slots lsr C hR hL hc hs hl)
theorem r_icmp_lt {x y1 : Int32} {off : Int} {tgt : Nat} (hd : decode cc pc = .ok (.if_icmp .lt off, 3)) (ht : (pc : Int) + off = (tgt : Int)) (kt : x < y1 → SW E y cc nL ret hh QR QX d kc ks h tgt ls st) (kf : ¬ x < y1 → SW E y cc nL ret hh QR QX d kc ks h (pc + 3) ls st) : SW E y cc nL ret hh QR QX d kc ks h pc ls (.int y1 :: .int x :: st) :=
  fun l G mc ms p e s m args below meth c H locs cells slots lsr C hR hL hc hs hl => lv_icmp_lt C.1 C.2.1 hd ht (fun q => kt q l G mc ms p e s m args below meth c H locs cells slots lsr C hR hL hc hs hl) (fun q => kf q l G mc ms p e s m args below meth c H locs cells slots lsr C hR hL hc hs hl)
theorem r_if_ge {x : Int32} {off : Int} {tgt : Nat} (hd : decode cc pc = .ok (.ifCond .ge off, 3)) (ht : (pc : Int) + off = (tgt : Int)) (kt : 0 ≤ x → SW E y cc nL ret hh QR QX d kc ks h tgt ls st) (kf : ¬ 0 ≤ x → SW E y cc nL ret hh QR QX d kc ks h (pc + 3) ls st) : SW E y cc nL ret hh QR QX d kc ks h pc ls (.int x :: st) :=
  fun l G mc ms p e s m args below meth c H locs cells slots lsr C hR hL hc hs hl => lv_if_ge C.1 C.2.1 hd ht (fun q => kt q l G mc ms p e s m args below meth c H locs cells slots lsr C hR hL hc hs hl) (fun q => kf q l G mc ms p e s m args below meth c H locs cells slots lsr C hR hL hc hs hl)
theorem r_icmp_ge {x y1 : Int32} {off : Int} {tgt : Nat} (hd : decode cc pc = .ok (.if_icmp .ge off, 3)) (ht : (pc : Int) + off = (tgt : Int)) (kt : y1 ≤ x → SW E y cc nL ret hh QR QX d kc ks h tgt ls st) (kf : ¬ y1 ≤ x → SW E y cc nL ret hh QR QX d kc ks h (pc + 3) ls st) : SW E y cc nL ret hh QR QX d kc ks h pc ls (.int y1 :: .int x :: st) :=
  fun l G mc ms p e s m args below meth c H locs cells slots lsr C hR hL hc hs hl => lv_icmp_ge C.1 C.2.1 hd ht (fun q => kt q l G mc ms p e s m args below meth c H locs cells slots lsr C hR hL hc hs hl) (fun q => kf q l G mc ms p e s m args below meth c H locs cells slots lsr C hR hL hc hs hl)
theorem r_if_gt {x : Int32} {off : Int} {tgt : Nat} (hd : decode cc pc = .ok (.ifCond .gt off, 3)) (ht : (pc : Int) + off = (tgt : Int)) (kt : 0 < x → SW E y cc nL ret hh QR QX d kc ks h tgt ls st) (kf : ¬ 0 < x → SW E y cc nL ret hh QR QX d kc ks h (pc + 3) ls st) : SW E y cc nL ret hh QR QX d kc ks h pc ls (.int x :: st) :=
  fun l G mc ms p e s m args below meth c H locs cells slots lsr C hR hL hc hs hl => lv_if_gt C.1 C.2.1 hd ht (fun q => kt q l G mc ms p e s m args below meth c H locs cells slots lsr C hR hL hc hs hl) (fun q => kf q l G mc ms p e s m args below meth c H locs cells slots lsr C hR hL hc hs hl)
theorem r_icmp_gt {x y1 : Int32} {off : Int} {tgt : Nat} (hd : decode cc pc = .ok (.if_icmp .gt off, 3)) (ht : (pc : Int) + off = (tgt : Int)) (kt : y1 < x → SW E y cc nL ret hh QR QX d kc ks h tgt ls st) (kf : ¬ y1 < x → SW E y cc nL ret hh QR QX d kc ks h (pc + 3) ls st) : SW E y cc nL ret hh QR QX d kc ks h pc ls (.int y1 :: .int x :: st) :=
  fun l G mc ms p e s m args below meth c H locs cells slots lsr C hR hL hc hs hl => lv_icmp_gt C.1 C.2.1 hd ht (fun q => kt q l G mc ms p e s m args below meth c H locs cells slots lsr C hR hL hc hs hl) (fun q => kf q l G mc ms p e s m args below meth c H locs cells slots lsr C hR hL hc hs hl)
theorem r_if_le {x : Int32} {off : Int} {tgt : Nat} (hd : decode cc pc = .ok (.ifCond .le off, 3)) (ht : (pc : Int) + off = (tgt : Int)) (kt : x ≤ 0 → SW E y cc nL ret hh QR QX d kc ks h tgt ls st) (kf : ¬ x ≤ 0 → SW E y cc nL ret hh QR QX d kc ks h (pc + 3) ls st) : SW E y cc nL ret hh QR QX d kc ks h pc ls (.int x :: st) :=
  fun l G mc ms p e s m args below meth c H locs cells slots lsr C hR hL hc hs hl => lv_if_le C.1 C.2.1 hd ht (fun q => kt q l G mc ms p e s m args below meth c H locs cells slots lsr C hR hL hc hs hl) (fun q => kf q l G mc ms p e s m args below meth c H locs cells slots lsr C hR hL hc hs hl)
theorem r_icmp_le {x y1 : Int32} {off : Int} {tgt : Nat} (hd : decode cc pc = .ok (.if_icmp .le off, 3)) (ht : (pc : Int) + off = (tgt : Int)) (kt : x ≤ y1 → SW E y cc nL ret hh QR QX d kc ks h tgt ls st) (kf : ¬ x ≤ y1 → SW E y cc nL ret hh QR QX d kc ks h (pc + 3) ls st) : SW E y cc nL ret hh QR QX d kc ks h pc ls (.int y1 :: .int x :: st) :=
  fun l G mc ms p e s m args below meth c H locs cells slots lsr C hR hL hc hs hl => lv_icmp_le C.1 C.2.1 hd ht (fun q => kt q l G mc ms p e s m args below meth c H locs cells slots lsr C hR hL hc hs hl) (fun q => kf q l G mc ms p e s m args below meth c H locs cells slots lsr C hR hL hc hs hl)
theorem r_goto {off : Int} {tgt : Nat} (hd : decode cc pc = .ok (.goto off, 3)) (ht : (pc : Int) + off = (tgt : Int)) (k : SW E y cc nL ret hh QR QX d kc ks h tgt ls st) : SW E y cc nL ret hh QR QX d kc ks h pc ls st :=
  fun l G mc ms p e s m args below meth c H locs cells slots lsr C hR hL hc hs hl => lv_goto C.1 C.2.1 hd ht (k l G mc ms p e s m args below meth c H locs cells slots lsr C hR hL hc hs hl)
theorem r_ifnull {off : Int} {tgt : Nat} {v : Value} (hd : decode cc pc = .ok (.ifnull off, 3)) (ht : (pc : Int) + off = (tgt : Int)) (kt : v = .null → SW E y cc nL ret hh QR QX d kc ks h tgt ls st) (kf : ¬ v = .null → SW E y cc nL ret hh QR QX d kc ks h (pc + 3) ls st) (hr : v.isRef = true := by rfl) : SW E y cc nL ret hh QR QX d kc ks h pc ls (v :: st) := by
  intro l G mc ms p e s m args below meth c H locs cells slots lsr C hR hL hc hs hl
  cases v with
  | null => exact lv_ifnullN C.1 C.2.1 hd ht (kt rfl l G mc ms p e s m args below meth c H locs cells slots lsr C hR hL hc hs hl)
  | ref a => exact lv_ifnull C.1 C.2.1 hd (kf (fun q => by cases q) l G mc ms p e s m args below meth c H locs cells slots lsr C hR hL hc hs hl)
  | _ => cases hr
theorem r_ifnonnull {off : Int} {tgt : Nat} {v : Value} (hd : decode cc pc = .ok (.ifnonnull off, 3)) (ht : (pc : Int) + off = (tgt : Int)) (kt : ¬ v = .null → SW E y cc nL ret hh QR QX d kc ks h tgt ls st) (kf : v = .null → SW E y cc nL ret hh QR QX d kc ks h (pc + 3) ls st) (hr : v.isRef = true := by rfl) : SW E y cc nL ret hh QR QX d kc ks h pc ls (v :: st) := by
  intro l G mc ms p e s m args below meth c H locs cells slots lsr C hR hL hc hs hl
  cases v with
  | null => exact lv_ifnonnullN C.1 C.2.1 hd (kf rfl l G mc ms p e s m args below meth c H locs cells slots lsr C hR hL hc hs hl)
  | ref a => exact lv_ifnonnull C.1 C.2.1 hd ht (kt (fun q => by cases q) l G mc ms p e s m args below meth c H locs cells slots lsr C hR hL hc hs hl)
  | _ => cases hr
theorem r_lookup {dflt : Int} {ps : Array (Int × Int)} {len : Nat} {x : Int32} {off : Int} {tgt : Nat} (hd : decode cc pc = .ok (.lookupswitch dflt ps, len)) (hp : (ps.toList.zip (ps.toList.drop 1)).all (fun (a, next) => a.1 < next.1) = true) (ho : Op.lookupswitch.offset ps.toList dflt x.toInt = off) (ht : (pc : Int) + off = (tgt : Int)) (k : SW E y cc nL ret hh QR QX d kc ks h tgt ls st) : SW E y cc nL ret hh QR QX d kc ks h pc ls (.int x :: st) :=
  fun l G mc ms p e s m args below meth c H locs cells slots lsr C hR hL hc hs hl => lv_lookup C.1 C.2.1 hd hp ho ht (k l G mc ms p e s m args below meth c H locs cells slots lsr C hR hL hc hs hl)
theorem r_tableOut {dflt lo hi : Int} {offs : Array Int} {len : Nat} {x : Int32} {tgt : Nat} (hd : decode cc pc = .ok (.tableswitch dflt lo hi offs, len)) (hx : x.toInt < lo ∨ hi < x.toInt) (ht : (pc : Int) + dflt = (tgt : Int)) (k : SW E y cc nL ret hh QR QX d kc ks h tgt ls st) : SW E y cc nL ret hh QR QX d kc ks h pc ls (.int x :: st) :=
  fun l G mc ms p e s m args below meth c H locs cells slots lsr C hR hL hc hs hl => lv_tableOut C.1 C.2.1 hd hx ht (k l G mc ms p e s m args below meth c H locs cells slots lsr C hR hL hc hs hl)
theorem r_tableIn {dflt lo hi : Int} {offs : Array Int} {len : Nat} {x : Int32} {off : Int} {tgt : Nat} (hd : decode cc pc = .ok (.tableswitch dflt lo hi offs, len)) (h1 : ¬ x.toInt < lo) (h2 : ¬ hi < x.toInt) (ho : offs[(x.toInt - lo).toNat]? = some off) (ht : (pc : Int) + off = (tgt : Int)) (k : SW E y cc nL ret hh QR QX d kc ks h tgt ls st) : SW E y cc nL ret hh QR QX d kc ks h pc ls (.int x :: st) :=
  fun l G mc ms p e s m args below meth c H locs cells slots lsr C hR hL hc hs hl => lv_tableIn C.1 C.2.1 hd h1 h2 ho ht (k l G mc ms p e s m args below meth c H locs cells slots lsr C hR hL hc hs hl)
theorem r_top {v : Value} (k : ∀ w : Value, w = v → SW E y cc nL ret hh QR QX d kc ks h pc ls (w :: st)) : SW E y cc nL ret hh QR QX d kc ks h pc ls (v :: st) := k v rfl
theorem r_topi {x : Int32} (k : ∀ w : Int32, w = x → SW E y cc nL ret hh QR QX d kc ks h pc ls (.int w :: st)) : SW E y cc nL ret hh QR QX d kc ks h pc ls (.int x :: st) := k x rfl
theorem r_sub {ls' : List (Nat × Value)} (hs : ∀ q ∈ ls', q ∈ ls) (k : SW E y cc nL ret hh QR QX d kc ks h pc ls' st) : SW E y cc nL ret hh QR QX d kc ks h pc ls st :=
  fun l G mc ms p e s m args below meth c H locs cells slots lsr C hR hL hc hs1 hl => k l G mc ms p e s m args below meth c H locs cells slots lsr C hR hL hc hs1 (lsub_has hs hl)
theorem r_bud {kc' ks' : Nat} (h1 : kc' ≤ kc) (h2 : ks' ≤ ks) (k : SW E y cc nL ret hh QR QX d kc' ks' h pc ls st) : SW E y cc nL ret hh QR QX d kc ks h pc ls st :=
  fun l G mc ms p e s m args below meth c H locs cells slots lsr C hR hL hc hs hl => k l G mc ms p e s m args below meth c H locs cells slots lsr C hR hL (by omega) (by omega) hl
end RS
