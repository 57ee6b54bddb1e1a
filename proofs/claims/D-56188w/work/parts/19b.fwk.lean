set_option maxRecDepth 100000
/-! ===== the shapes of the forwarders (written by gen_fwd.py) ===== -/
def fbA : ByteArray := ⟨#[42, 180, 0, 15, 43, 184, 0, 23, 172]⟩
theorem dfA_0 : decode fbA 0 = .ok (.aload_n 0, 1) := by decide +kernel
theorem dfA_1 : decode fbA 1 = .ok (.getfield 15, 3) := by decide +kernel
theorem dfA_4 : decode fbA 4 = .ok (.aload_n 1, 1) := by decide +kernel
theorem dfA_5 : decode fbA 5 = .ok (.invokestatic 23, 3) := by decide +kernel
theorem dfA_8 : decode fbA 8 = .ok (.ireturn, 1) := by decide +kernel
theorem fwk_A {E : EV} {i : Nat} {q : MethodName × Nat × Nat × Lambda.Shape} {d2 a2 b2 : Nat} {h : MH} {b : Nat} {v0 : Int32} {g0 : Nat} {yT : MethodName} {QR2 : Option Value → MH → Prop} {QX2 : Nat → MH → Prop} (hq : lsit[i]? = some q) (hz : fent[i]? = some ([42, 180, 0, 15, 43, 184, 0, 23, 172], 2, [15], 23, 19))
    (hM : SM E yT d2 [.int v0, .ref g0] h a2 b2 QR2 QX2) (hyT : yT = ⟨q.2.2.2.implClass, q.2.2.2.implName, q.2.2.2.implDesc.toString⟩) (hmh : yT.cls ≠ "java/lang/invoke/MethodHandle" ∧ yT.cls ≠ "java/lang/invoke/VarHandle") (hsta : Cond.static yT ∈ lw_all)
    (hn : (parseMethodDescriptor yT.desc).map (fun z => z.parameters.length) = some 2) (hrt : q.2.2.2.sam.returnType = some .int) (hret : ∀ v h', QR2 v h' → ∃ n, v = some (.int n) ∧ narrow .int (.int n) = .int n) : FWK E i q ([42, 180, 0, 15, 43, 184, 0, 23, 172], 2, [15], 23, 19) d2 a2 b2 h b [.int v0] [.ref g0] QR2 QX2 := by
  intro p l e G R s args below meth c H lsr hexec hfl hcode hlam hts hR hG hfr hlo hce hsl hml hlk hrt2 hex hcell hle
  have hb : c.code = fbA := ByteArray.ext (Array.toList_inj.mp hcode)
  have hsz : lsr.size = c.maxLocals := hle.1.trans hml.symm
  refine lv_aload_n hexec hb dfA_0 rfl (lv_of (v := .ref b) hle rfl) ?_
  refine fw_getf (j := 0) (vs := [.int v0].map (mv G.1)) hexec hb hq hz hlam hts rfl rfl hcell dfA_1 ?_
  refine lv_aload_n hexec hb dfA_4 rfl (lv_of (v := .ref g0) hle rfl) ?_
  exact fw_invS (vs := [.int v0, .ref g0]) hexec hfl hb hq hz hlam hts hM hyT hmh hsta hn hR hG hfr hlo hce hsl hsz hlk (hrt2.trans hrt) hex rfl dfA_5 dfA_8 hret
def fbB : ByteArray := ⟨#[42, 180, 0, 16, 42, 180, 0, 18, 43, 184, 0, 26, 172]⟩
theorem dfB_0 : decode fbB 0 = .ok (.aload_n 0, 1) := by decide +kernel
theorem dfB_1 : decode fbB 1 = .ok (.getfield 16, 3) := by decide +kernel
theorem dfB_4 : decode fbB 4 = .ok (.aload_n 0, 1) := by decide +kernel
theorem dfB_5 : decode fbB 5 = .ok (.getfield 18, 3) := by decide +kernel
theorem dfB_8 : decode fbB 8 = .ok (.aload_n 1, 1) := by decide +kernel
theorem dfB_9 : decode fbB 9 = .ok (.invokestatic 26, 3) := by decide +kernel
theorem dfB_12 : decode fbB 12 = .ok (.ireturn, 1) := by decide +kernel
theorem fwk_B {E : EV} {i : Nat} {q : MethodName × Nat × Nat × Lambda.Shape} {d2 a2 b2 : Nat} {h : MH} {b : Nat} {v0 : Int32} {v1 : Int32} {g0 : Nat} {yT : MethodName} {QR2 : Option Value → MH → Prop} {QX2 : Nat → MH → Prop} (hq : lsit[i]? = some q) (hz : fent[i]? = some ([42, 180, 0, 16, 42, 180, 0, 18, 43, 184, 0, 26, 172], 2, [16, 18], 26, 22))
    (hM : SM E yT d2 [.int v0, .int v1, .ref g0] h a2 b2 QR2 QX2) (hyT : yT = ⟨q.2.2.2.implClass, q.2.2.2.implName, q.2.2.2.implDesc.toString⟩) (hmh : yT.cls ≠ "java/lang/invoke/MethodHandle" ∧ yT.cls ≠ "java/lang/invoke/VarHandle") (hsta : Cond.static yT ∈ lw_all)
    (hn : (parseMethodDescriptor yT.desc).map (fun z => z.parameters.length) = some 3) (hrt : q.2.2.2.sam.returnType = some .int) (hret : ∀ v h', QR2 v h' → ∃ n, v = some (.int n) ∧ narrow .int (.int n) = .int n) : FWK E i q ([42, 180, 0, 16, 42, 180, 0, 18, 43, 184, 0, 26, 172], 2, [16, 18], 26, 22) d2 a2 b2 h b [.int v0, .int v1] [.ref g0] QR2 QX2 := by
  intro p l e G R s args below meth c H lsr hexec hfl hcode hlam hts hR hG hfr hlo hce hsl hml hlk hrt2 hex hcell hle
  have hb : c.code = fbB := ByteArray.ext (Array.toList_inj.mp hcode)
  have hsz : lsr.size = c.maxLocals := hle.1.trans hml.symm
  refine lv_aload_n hexec hb dfB_0 rfl (lv_of (v := .ref b) hle rfl) ?_
  refine fw_getf (j := 0) (vs := [.int v0, .int v1].map (mv G.1)) hexec hb hq hz hlam hts rfl rfl hcell dfB_1 ?_
  refine lv_aload_n hexec hb dfB_4 rfl (lv_of (v := .ref b) hle rfl) ?_
  refine fw_getf (j := 1) (vs := [.int v0, .int v1].map (mv G.1)) hexec hb hq hz hlam hts rfl rfl hcell dfB_5 ?_
  refine lv_aload_n hexec hb dfB_8 rfl (lv_of (v := .ref g0) hle rfl) ?_
  exact fw_invS (vs := [.int v0, .int v1, .ref g0]) hexec hfl hb hq hz hlam hts hM hyT hmh hsta hn hR hG hfr hlo hce hsl hsz hlk (hrt2.trans hrt) hex rfl dfB_9 dfB_12 hret
def fbD : ByteArray := ⟨#[42, 180, 0, 16, 42, 180, 0, 18, 27, 28, 184, 0, 26, 172]⟩
theorem dfD_0 : decode fbD 0 = .ok (.aload_n 0, 1) := by decide +kernel
theorem dfD_1 : decode fbD 1 = .ok (.getfield 16, 3) := by decide +kernel
theorem dfD_4 : decode fbD 4 = .ok (.aload_n 0, 1) := by decide +kernel
theorem dfD_5 : decode fbD 5 = .ok (.getfield 18, 3) := by decide +kernel
theorem dfD_8 : decode fbD 8 = .ok (.iload_n 1, 1) := by decide +kernel
theorem dfD_9 : decode fbD 9 = .ok (.iload_n 2, 1) := by decide +kernel
theorem dfD_10 : decode fbD 10 = .ok (.invokestatic 26, 3) := by decide +kernel
theorem dfD_13 : decode fbD 13 = .ok (.ireturn, 1) := by decide +kernel
theorem fwk_D {E : EV} {i : Nat} {q : MethodName × Nat × Nat × Lambda.Shape} {d2 a2 b2 : Nat} {h : MH} {b : Nat} {v0 : Nat} {v1 : Nat} {g0 : Int32} {g1 : Int32} {yT : MethodName} {QR2 : Option Value → MH → Prop} {QX2 : Nat → MH → Prop} (hq : lsit[i]? = some q) (hz : fent[i]? = some ([42, 180, 0, 16, 42, 180, 0, 18, 27, 28, 184, 0, 26, 172], 3, [16, 18], 26, 22))
    (hM : SM E yT d2 [.ref v0, .ref v1, .int g0, .int g1] h a2 b2 QR2 QX2) (hyT : yT = ⟨q.2.2.2.implClass, q.2.2.2.implName, q.2.2.2.implDesc.toString⟩) (hmh : yT.cls ≠ "java/lang/invoke/MethodHandle" ∧ yT.cls ≠ "java/lang/invoke/VarHandle") (hsta : Cond.static yT ∈ lw_all)
    (hn : (parseMethodDescriptor yT.desc).map (fun z => z.parameters.length) = some 4) (hrt : q.2.2.2.sam.returnType = some .int) (hret : ∀ v h', QR2 v h' → ∃ n, v = some (.int n) ∧ narrow .int (.int n) = .int n) : FWK E i q ([42, 180, 0, 16, 42, 180, 0, 18, 27, 28, 184, 0, 26, 172], 3, [16, 18], 26, 22) d2 a2 b2 h b [.ref v0, .ref v1] [.int g0, .int g1] QR2 QX2 := by
  intro p l e G R s args below meth c H lsr hexec hfl hcode hlam hts hR hG hfr hlo hce hsl hml hlk hrt2 hex hcell hle
  have hb : c.code = fbD := ByteArray.ext (Array.toList_inj.mp hcode)
  have hsz : lsr.size = c.maxLocals := hle.1.trans hml.symm
  refine lv_aload_n hexec hb dfD_0 rfl (lv_of (v := .ref b) hle rfl) ?_
  refine fw_getf (j := 0) (vs := [.ref v0, .ref v1].map (mv G.1)) hexec hb hq hz hlam hts rfl rfl hcell dfD_1 ?_
  refine lv_aload_n hexec hb dfD_4 rfl (lv_of (v := .ref b) hle rfl) ?_
  refine fw_getf (j := 1) (vs := [.ref v0, .ref v1].map (mv G.1)) hexec hb hq hz hlam hts rfl rfl hcell dfD_5 ?_
  refine lv_iload_n hexec hb dfD_8 rfl (lv_of (v := .int g0) hle rfl) ?_
  refine lv_iload_n hexec hb dfD_9 rfl (lv_of (v := .int g1) hle rfl) ?_
  exact fw_invS (vs := [.ref v0, .ref v1, .int g0, .int g1]) hexec hfl hb hq hz hlam hts hM hyT hmh hsta hn hR hG hfr hlo hce hsl hsz hlk (hrt2.trans hrt) hex rfl dfD_10 dfD_13 hret
def fbE : ByteArray := ⟨#[42, 180, 0, 15, 27, 184, 0, 23, 172]⟩
theorem dfE_0 : decode fbE 0 = .ok (.aload_n 0, 1) := by decide +kernel
theorem dfE_1 : decode fbE 1 = .ok (.getfield 15, 3) := by decide +kernel
theorem dfE_4 : decode fbE 4 = .ok (.iload_n 1, 1) := by decide +kernel
theorem dfE_5 : decode fbE 5 = .ok (.invokestatic 23, 3) := by decide +kernel
theorem dfE_8 : decode fbE 8 = .ok (.ireturn, 1) := by decide +kernel
theorem fwk_E {E : EV} {i : Nat} {q : MethodName × Nat × Nat × Lambda.Shape} {d2 a2 b2 : Nat} {h : MH} {b : Nat} {v0 : Int32} {g0 : Int32} {yT : MethodName} {QR2 : Option Value → MH → Prop} {QX2 : Nat → MH → Prop} (hq : lsit[i]? = some q) (hz : fent[i]? = some ([42, 180, 0, 15, 27, 184, 0, 23, 172], 2, [15], 23, 19))
    (hM : SM E yT d2 [.int v0, .int g0] h a2 b2 QR2 QX2) (hyT : yT = ⟨q.2.2.2.implClass, q.2.2.2.implName, q.2.2.2.implDesc.toString⟩) (hmh : yT.cls ≠ "java/lang/invoke/MethodHandle" ∧ yT.cls ≠ "java/lang/invoke/VarHandle") (hsta : Cond.static yT ∈ lw_all)
    (hn : (parseMethodDescriptor yT.desc).map (fun z => z.parameters.length) = some 2) (hrt : q.2.2.2.sam.returnType = some .boolean) (hret : ∀ v h', QR2 v h' → ∃ n, v = some (.int n) ∧ narrow .boolean (.int n) = .int n) : FWK E i q ([42, 180, 0, 15, 27, 184, 0, 23, 172], 2, [15], 23, 19) d2 a2 b2 h b [.int v0] [.int g0] QR2 QX2 := by
  intro p l e G R s args below meth c H lsr hexec hfl hcode hlam hts hR hG hfr hlo hce hsl hml hlk hrt2 hex hcell hle
  have hb : c.code = fbE := ByteArray.ext (Array.toList_inj.mp hcode)
  have hsz : lsr.size = c.maxLocals := hle.1.trans hml.symm
  refine lv_aload_n hexec hb dfE_0 rfl (lv_of (v := .ref b) hle rfl) ?_
  refine fw_getf (j := 0) (vs := [.int v0].map (mv G.1)) hexec hb hq hz hlam hts rfl rfl hcell dfE_1 ?_
  refine lv_iload_n hexec hb dfE_4 rfl (lv_of (v := .int g0) hle rfl) ?_
  exact fw_invS (vs := [.int v0, .int g0]) hexec hfl hb hq hz hlam hts hM hyT hmh hsta hn hR hG hfr hlo hce hsl hsz hlk (hrt2.trans hrt) hex rfl dfE_5 dfE_8 hret
def fbC : ByteArray := ⟨#[42, 180, 0, 17, 42, 180, 0, 19, 43, 182, 0, 27, 172]⟩
theorem dfC_0 : decode fbC 0 = .ok (.aload_n 0, 1) := by decide +kernel
theorem dfC_1 : decode fbC 1 = .ok (.getfield 17, 3) := by decide +kernel
theorem dfC_4 : decode fbC 4 = .ok (.aload_n 0, 1) := by decide +kernel
theorem dfC_5 : decode fbC 5 = .ok (.getfield 19, 3) := by decide +kernel
theorem dfC_8 : decode fbC 8 = .ok (.aload_n 1, 1) := by decide +kernel
theorem dfC_9 : decode fbC 9 = .ok (.invokevirtual 27, 3) := by decide +kernel
theorem dfC_12 : decode fbC 12 = .ok (.ireturn, 1) := by decide +kernel
theorem fwk_C {E : EV} {i : Nat} {q : MethodName × Nat × Nat × Lambda.Shape} {d2 a2 b2 : Nat} {h : MH} {b : Nat} {v0 : Nat} {v1 : Nat} {g0 : Nat} {yT : MethodName} {QR2 : Option Value → MH → Prop} {QX2 : Nat → MH → Prop} (hq : lsit[i]? = some q) (hz : fent[i]? = some ([42, 180, 0, 17, 42, 180, 0, 19, 43, 182, 0, 27, 172], 2, [17, 19], 27, 23))
    (hM : SM E yT d2 [.ref v0, .ref v1, .ref g0] h a2 b2 QR2 QX2) (hyT : yT = ⟨q.2.2.2.implClass, q.2.2.2.implName, q.2.2.2.implDesc.toString⟩) (hmh : yT.cls ≠ "java/lang/invoke/MethodHandle" ∧ yT.cls ≠ "java/lang/invoke/VarHandle") {fs : List Value} (hins : Cond.instanceMethod yT ∈ lw_all) (hselw : Cond.selects RX1 yT yT ∈ lw_all) (hob : h.2 v0 = some (.inr (0, fs))) (hitf : q.2.2.2.implItf = false)
    (hn : (parseMethodDescriptor yT.desc).map (fun z => z.parameters.length) = some 2) (hrt : q.2.2.2.sam.returnType = some .int) (hret : ∀ v h', QR2 v h' → ∃ n, v = some (.int n) ∧ narrow .int (.int n) = .int n) : FWK E i q ([42, 180, 0, 17, 42, 180, 0, 19, 43, 182, 0, 27, 172], 2, [17, 19], 27, 23) d2 a2 b2 h b [.ref v0, .ref v1] [.ref g0] QR2 QX2 := by
  intro p l e G R s args below meth c H lsr hexec hfl hcode hlam hts hR hG hfr hlo hce hsl hml hlk hrt2 hex hcell hle
  have hb : c.code = fbC := ByteArray.ext (Array.toList_inj.mp hcode)
  have hsz : lsr.size = c.maxLocals := hle.1.trans hml.symm
  refine lv_aload_n hexec hb dfC_0 rfl (lv_of (v := .ref b) hle rfl) ?_
  refine fw_getf (j := 0) (vs := [.ref v0, .ref v1].map (mv G.1)) hexec hb hq hz hlam hts rfl rfl hcell dfC_1 ?_
  refine lv_aload_n hexec hb dfC_4 rfl (lv_of (v := .ref b) hle rfl) ?_
  refine fw_getf (j := 1) (vs := [.ref v0, .ref v1].map (mv G.1)) hexec hb hq hz hlam hts rfl rfl hcell dfC_5 ?_
  refine lv_aload_n hexec hb dfC_8 rfl (lv_of (v := .ref g0) hle rfl) ?_
  exact fw_invV (vs := [.ref v0, .ref v1, .ref g0]) (r9 := (RX1, TX1, 7)) hexec hfl hb hq hz hlam hts rfl hM hyT hmh hins hselw hob rfl hitf hn hR hG hfr hlo hce hsl hsz hlk (hrt2.trans hrt) hex rfl dfC_9 dfC_12 hret
