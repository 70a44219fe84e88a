/-! ===== calls of lambda objects (printed by gen/mklamc.py) ===== -/
set_option maxRecDepth 100000
/-- what such a call gives: an answer 0 or 1, nothing thrown -/
def lamQ (Q : Int → SmS → SmI → Prop) : SmQ := fun o S I => ∃ z, o = .inl (some (vI z)) ∧ (z = 0 ∨ z = 1) ∧ Q z S I
def isN : MethodName := ⟨"LineDispatch$Before", "is", "(II)Z"⟩
theorem bIs : plainName "LineDispatch$$Lambda" = true := by decide +kernel
def mfA (nm ds : String) (vm : Vm) (c : ClassId) : Prop := ∃ (k tk : Class) (file : ClassFile) (methk : Method) (ck : Code) (toy : ClassId) (t : MethodId) (g0 : Field), vm.classes[c]? = some k ∧ k.name = "LineDispatch$$Lambda" ∧ k.cf = some file ∧ file.constantPool[22]? = some (.methodref 19 21) ∧ file.constantPool.nameAndType? 21 = some (nm, ds) ∧
      vm.method? ⟨c, 1⟩ = some methk ∧ methk.code = some ck ∧ ck.code = fwA ∧ ck.maxLocals = 3 ∧ methk.locks = false ∧ methk.accessFlags = 0x0001 ∧ methk.sig.returnType = some .boolean ∧
      vm.findClass "LineDispatch" = some toy ∧ vm.classes[toy]? = some tk ∧ tk.isInterface = false ∧ ((methodIn toy nm ds tk.isInterface none).ask { classPath := fun _ => none } vm).1 = .ok t ∧
      vm.methodReady c 22 t ∧ vm.classReady c 19 toy ∧ vm.fieldReady c 15 c g0 ∧ g0.isStatic = false ∧ g0.slot = 0
def mfB (nm ds : String) (vm : Vm) (c : ClassId) : Prop := ∃ (k tk : Class) (file : ClassFile) (methk : Method) (ck : Code) (toy : ClassId) (t : MethodId) (g0 : Field), vm.classes[c]? = some k ∧ k.name = "LineDispatch$$Lambda" ∧ k.cf = some file ∧ file.constantPool[23]? = some (.methodref 19 22) ∧ file.constantPool.nameAndType? 22 = some (nm, ds) ∧
      vm.method? ⟨c, 1⟩ = some methk ∧ methk.code = some ck ∧ ck.code = fwB ∧ ck.maxLocals = 3 ∧ methk.locks = false ∧ methk.accessFlags = 0x0001 ∧ methk.sig.returnType = some .boolean ∧
      vm.findClass "LineDispatch" = some toy ∧ vm.classes[toy]? = some tk ∧ tk.isInterface = false ∧ ((methodIn toy nm ds tk.isInterface none).ask { classPath := fun _ => none } vm).1 = .ok t ∧
      vm.methodReady c 23 t ∧ vm.classReady c 19 toy ∧ vm.fieldReady c 15 c g0 ∧ g0.isStatic = false ∧ g0.slot = 0
def mfC (nm ds : String) (vm : Vm) (c : ClassId) : Prop := ∃ (k tk : Class) (file : ClassFile) (methk : Method) (ck : Code) (toy : ClassId) (t : MethodId) (g0 : Field) (g1 : Field), vm.classes[c]? = some k ∧ k.name = "LineDispatch$$Lambda" ∧ k.cf = some file ∧ file.constantPool[27]? = some (.methodref 23 26) ∧ file.constantPool.nameAndType? 26 = some (nm, ds) ∧
      vm.method? ⟨c, 1⟩ = some methk ∧ methk.code = some ck ∧ ck.code = fwC ∧ ck.maxLocals = 3 ∧ methk.locks = false ∧ methk.accessFlags = 0x0001 ∧ methk.sig.returnType = some .boolean ∧
      vm.findClass "LineDispatch" = some toy ∧ vm.classes[toy]? = some tk ∧ tk.isInterface = false ∧ ((methodIn toy nm ds tk.isInterface none).ask { classPath := fun _ => none } vm).1 = .ok t ∧
      vm.methodReady c 27 t ∧ vm.classReady c 23 toy ∧ vm.fieldReady c 17 c g0 ∧ g0.isStatic = false ∧ g0.slot = 0 ∧ vm.fieldReady c 19 c g1 ∧ g1.isStatic = false ∧ g1.slot = 1
section XLC
variable {M M' : SmM} {pc d : Nat} {Rq : SmQ}
/-- from an interface call on a lambda object into the rule's method -/
theorem lam_in {G : SmG} {p : Program} {e : Env} {R : Room} {s : State} {m : MethodId} {args : Array Value} {below : List Frame} {meth : Method} {c : Code} {cells slots : Nat} {locs : List Loc} {T : State} {t : Nat} {x : MethodName} {pc9 idx9 idx cnt : Nat} {σ : Lambda.Shape} {w : Cond} {methk : Method} {kcell : Class} {cell : Cell} {b : Addr}
    (X : Stand p (gL G) e R s m args below meth c T locs cells slots) (hx : p.tables.exec = Jvm.exec) (hown : s.vm.findClass "LineDispatch" = some m.cls) (hts : ∀ w ∈ lw_all, w.before args s = true) (hKK : KK G s) (hlink : Cond.methodLink "LineDispatch" idx isN ∈ lw_all)
    (hw : w = .lambdaSite x pc9 idx9 σ) (hl : ∀ s0, LamG G s0 → smLam w s0 (gY G t)) (hi : σ.iface = "LineDispatch$Before" ∧ σ.name = "is" ∧ σ.sam.toString = "(II)Z")
    (hmk : s.vm.method? ⟨gY G t, 1⟩ = some methk) (hfl : methk.accessFlags = 0x0001) (hkc : s.vm.classes[gY G t]? = some kcell)
    (hcell : T.heap[b]? = some cell) (hvm : cell.vm = .none) (hcls : cell.cls = gY G t) {g : JFrame} (hg : g.method = m) {v1 v2 : Value} {rest : List Value} (hstack : g.stack = v2 :: v1 :: .ref b :: rest) (hdg : decode c.code g.pc = .ok (.invokeinterface idx cnt, 5)) :
    ∃ vm', Stand p (gL G) e R s m args below meth c (T.setVm vm') locs cells slots ∧
      ∀ target, (∀ acts, Steps p.tables e below (doInvoke e ((T.setVm vm').setTop { g with stack := rest }) acts ⟨gY G t, 1⟩ #[.ref b, v1, v2]).1 target) → Steps p.tables e below (T.setTop g) target := by
  obtain ⟨m9, k, cf, i0, p0, hm, hk9, hcf, hsh, hfind, hmade, hcall⟩ := hKK.site hw hl
  obtain ⟨r0, r, hn, hrm, hstR, hsigR⟩ := Cond.declares_spec (va_Nw.use (A := args) rfl (hKK.decl q576))
  obtain ⟨cL, kL, r1, hcL, hkL, hiL, hfoundL, hn1⟩ := Cond.interfaceMethod_spec (va_Nw.use (A := args) rfl (hKK.ifm (Or.inl q575)))
  cases hn.symm.trans hn1
  have hr0cls : r0.cls = cL := Option.some.inj ((findClass_of_methodNamed hn).symm.trans hcL)
  obtain ⟨hnameR, hdescR⟩ := name_of_methodNamed hn hrm
  obtain ⟨-, -, -, -, -, -, -, iface', -, -, -, -, found, -, -, -, -, -, hi', -, -, -, -, -, -, hfound', -, -, -, -, -, -, -, -, -, -, hsel⟩ := Lambda.isMade_spec hmade
  rw [hi.1] at hi'
  cases hcL.symm.trans hi'
  have hfr : found = r0 := by
    have h1 : s.methodFound? "LineDispatch$Before" "is" "(II)Z" = some r0 := hfoundL
    simp only [State.methodFound?, hcL, hkL, hiL, Option.bind_eq_bind, Option.bind_some] at h1
    rw [hi.2.1, hi.2.2] at hfound'
    rw [hfound'] at h1
    exact Option.some.inj h1
  subst hfr
  obtain ⟨i2, hi2, hasg, hway⟩ := State.lambdaCallable_spec hcall
  rw [hi.1] at hi2
  cases hcL.symm.trans hi2
  rw [hi.2.1, hi.2.2] at hway
  exact X.invokeinterface hx hown (hts _ hlink) (x := isN) hn hrm hstR (by rw [hr0cls]; exact hkL) hiL ⟨by decide, by decide⟩ (a := b) (cell := cell) (kcell := kcell) hcell
    (fun z h => by rw [hvm] at h; cases h) (by rw [hcls]; exact hkc) (by rw [hcls, hr0cls]; exact hasg) (by rw [hcls, Launch.admits_selectMethod X.admits]; exact hsel) hmk (by rw [hcls, hnameR, hdescR]; exact hway) (by rw [hfl]; decide) (by simp [Method.isAbstract, hfl, hasFlag, Acc.abstract]) (g := g) hg (argsL := [v1, v2]) (rest := rest) (by
      have := congrArg (Option.map fun d => d.parameters.length) hsigR
      have e2 : (parseMethodDescriptor isN.desc).map (fun d => d.parameters.length) = some 2 := by decide +kernel
      exact Option.some.inj (e2.symm.trans this)) hstack hdg
theorem sm_lamA {idx cnt t pc9 idx9 : Nat} {x : MethodName} {σ : Lambda.Shape} {w : Cond} {nm ds : String} (hd : decode (mC M) pc = .ok (.invokeinterface idx cnt, 5)) (hM0 : (mN M).cls = "LineDispatch") (hlink : Cond.methodLink "LineDispatch" idx isN ∈ lw_all) (ht : (50 ≤ t ∧ t < 58 ∧ t ≠ 54)) (hw : w = .lambdaSite x pc9 idx9 σ) (hl : ∀ G s0, LamG G s0 → smLam w s0 (gY G t)) (hxc : x.cls = "LineDispatch") (hi : σ.iface = "LineDispatch$Before" ∧ σ.name = "is" ∧ σ.sam.toString = "(II)Z")
    (hmd : ∀ (vm : Vm) (d c : ClassId) (dk : Class), vm.classes[d]? = some dk → dk.name = "LineDispatch" → Lambda.isMade { classPath := fun _ => none } vm d σ c = true → (∀ o ok, vm.findClass "java/lang/Object" = some o → vm.classes[o]? = some ok → ok.instanceTypes.size = 0) → mfA nm ds vm c)
    (hok : callOk M' 2) (hy : mN M' = ⟨"LineDispatch", nm, ds⟩) (hRt : mR M' = some .boolean) (hwd : Cond.instanceMethod (mN M') ∈ lw_all ∧ Cond.selects (mN M').cls (mN M') (mN M') ∈ lw_all) (hini : Cond.initialized (mN M').cls ∈ lw_all) (hcode : Cond.code (mN M') (mC M') (mL M') (mR M') ∈ lw_all)
    {l : SmL} {a b : Int} {f ra : Nat} {r : List SmV} {S : SmS} {I : SmI} (hTf : sT S f = t) (hPf : sP S f 0 = some ra) (hTr : sT S ra = 1) (hws : wsum r ≤ 8) (h : SC M' d [vR (some ra), vI a, vI b] S I (lamQ fun z S' I' => SW M (pc + 5) (d + 2) Rq l (vI z :: r) S' I')) : SW M pc (d + 2) Rq l (vI b :: vI a :: vR (some f) :: r) S I := by
  intro G p e R s m args below meth c cap H locs cells slots FQ ls hf hr hl9 hv hs hc hb9 hq
  have hx9 := hf.1
  have hb := hf.2.1
  have hml := hf.2.2.2.1
  have hown := hf.2.2.2.2.2.2.1
  have hts := hf.2.2.2.2.2.2.2.1
  have hKK := hf.2.2.2.2.2.2.2.2.2.1
  have hRf := hf.2.2.2.2.2.2.2.2.2.2.1
  have hRl := hf.2.2.2.2.2.2.2.2.2.2.2
  rw [hM0] at hown
  obtain ⟨hent, mc, ms, hmc, hms, hbody⟩ := h
  obtain ⟨k1, k2, k3, k4, k5, k6⟩ := hok
  have hb32 : inR b := hv (vI b) List.mem_cons_self
  have ha32 : inR a := hv (vI a) (tl1 List.mem_cons_self)
  obtain ⟨hfl, hfF⟩ := hr.lt (v := f) (by omega) (by omega)
  obtain ⟨hral, hraF⟩ := hr.lt (v := ra) (by omega) (by omega)
  have hcellf : H[gB G + f]? = some { cls := gY G t, slots := #[va_rf (rR G (some ra))], vm := .none } := by
    have h := (hr.2.2.2.1 f (by omega) hfl).2
    unfold sAt at h
    rw [if_pos (by omega)] at h
    rw [h]
    unfold lamCell
    rw [hTf, if_neg ht.2.2, hPf]
  have hargs : ∀ v ∈ [vR (some ra), vI a, vI b], okV v := fun v hv => by
    simp only [List.mem_cons, List.not_mem_nil, or_false] at hv
    rcases hv with rfl | rfl | rfl
    · trivial
    · exact ha32
    · exact hb32
  have hMt := SW_met (G := G) (cap := sZ S + mc) k1 k2 hent hargs (sC_sBud S mc ms) (sB_sBud S mc ms) hbody
  have hra9 : rR G (some ra) = some (gB G + ra) := congrArg some (rA_lt hraF)
  have hsp : (vI b :: vI a :: vR (some f) :: r).map (rV G) = .int (rI b) :: .int (rI a) :: .ref (gB G + f) :: r.map (rV G) := by
    rw [List.map_cons, List.map_cons, List.map_cons, rV_I, rV_I, rV_R, show rR G (some f) = some (gB G + f) from congrArg some (rA_lt hfF)]
    rfl
  have hspA : ([vR (some ra), vI a, vI b].map (rV G)).toArray = #[.ref (gB G + ra), .int (rI a), .int (rI b)] := by
    simp only [List.map_cons, List.map_nil, rV_I, rV_R, hra9]
    rfl
  obtain ⟨m9, k9, cf9, i9, p9, hm9, hk9, -, -, -, hmade, hcallb⟩ := hKK.site hw (hl G)
  have hdn : k9.name = "LineDispatch" := by
    obtain ⟨kz, hkz, hnz⟩ := className_of_methodNamed hm9
    cases hk9.symm.trans hkz
    rw [hnz, hxc]
  obtain ⟨kK, tk, file, methk, ck, toy, tt, g0, hkK, hkn, hfile, hpM, hpN, hmk, hck, hbytes, hmlk, hlk, hflk, hretk, htoy, htk, hitf, hlook, hready, hclsR, hfa0, hfb0, hfc0⟩ := hmd _ _ _ _ hk9 hdn hmade (KK.obj0 (G := G) hts)
  rw [hsp]
  refine call_run (mc := mc) (ms := ms) (rest := r) (Q := fun o S' I' => lamQ (fun z S' I' => SW M (pc + 5) (d + 2) Rq l (vI z :: r) S' I') o S' I') (a' := #[.ref (gB G + ra), .int (rI a), .int (rI b)]) hf hr hl9 (fun v h => hv v (tl1 (tl1 (tl1 h)))) hs hc hb9 hq hmc hms (fun T0 hT0 X => ?_) (fun o S' I' h => by
    obtain ⟨z, rfl, -, h⟩ := h
    exact h)
  obtain ⟨vm1, X1, hstep1⟩ := lam_in X hx9 hown hts hKK hlink hw (hl G) hi hmk hflk hkK (b := gB G + f) (by rw [hT0]; exact hcellf) rfl rfl (g := F0 m pc ls (.int (rI b) :: .int (rI a) :: .ref (gB G + f) :: r.map (rV G))) rfl (v1 := .int (rI a)) (v2 := .int (rI b)) (rest := r.map (rV G)) rfl (by rw [hb]; exact hd)
  have hW1 := X1.warmed
  have hmade1 : Lambda.isMade { classPath := fun _ => none } vm1 m9.cls σ (gY G t) = true := Lambda.isMade_warmer (vm' := vm1) hW1 hmade
  obtain ⟨k91, hk91, he91⟩ := hW1.alike.2.2 _ _ hk9
  have hO1 : ∀ o ok, vm1.findClass "java/lang/Object" = some o → vm1.classes[o]? = some ok → ok.instanceTypes.size = 0 := by
    intro o ok h1 h2
    have h1' : s.vm.findClass "java/lang/Object" = some o := by rw [← hW1.alike.findClass]; exact h1
    obtain ⟨ok0, hok0, -⟩ := Vm.findClass_spec h1'
    obtain ⟨ok', hok', e3⟩ := hW1.alike.2.2 _ _ hok0
    cases h2.symm.trans hok'
    rw [e3]
    exact KK.obj0 (G := G) hts o ok0 h1' hok0
  obtain ⟨kK, tk, file, methk, ck, toy, tt, g0, hkK, hkn, hfile, hpM, hpN, hmk, hck, hbytes, hmlk, hlk, hflk, hretk, htoy, htk, hitf, hlook, hready, hclsR, hfa0, hfb0, hfc0⟩ := hmd vm1 _ _ _ hk91 (by rw [he91]; exact hdn) hmade1 hO1
  have hts1 : ∀ (U : State) (a' : Array Value), U.vm = vm1 → ∀ w ∈ lw_all, w.before a' U = true := fun U a' hU w hw9 => word_at (by rw [hU]; exact hW1) (lw_self w hw9).2 (hts w hw9)
  have hg9 : ({ F0 m pc ls (.int (rI b) :: .int (rI a) :: .ref (gB G + f) :: r.map (rV G)) with stack := r.map (rV G) } : JFrame) = F0 m pc ls (r.map (rV G)) := rfl
  obtain ⟨Y0, hin⟩ := X1.into (g := F0 m pc ls (r.map (rV G))) rfl (by rw [hml]; exact hl9.1) (by rw [hb]; exact hd) (mk := ⟨gY G t, 1⟩) (methk := methk) (ck := ck) #[.ref (gB G + f), .int (rI a), .int (rI b)] (R' := smRm (d + 1) mc ms) hmk hck hlk (State.plainMethod.of_name (fun k' hk' => by cases hkK.symm.trans hk'; rw [hkn]; exact bIs))
    (by show d + 1 + 20 + 1 ≤ R.frames; omega) (by show 2 * 0 + _ + _ + (64 * (d + 1) + 12000) ≤ R.locals; rw [wsum_r, hmlk]; omega) (by show cells + mc ≤ R.cells; omega) (by show slots + ms ≤ R.slots; omega)
  generalize hU : ((T0.setVm vm1).setTop (F0 m pc ls (r.map (rV G)))).pushFrame (.java (entryFrame ⟨gY G t, 1⟩ #[.ref (gB G + f), .int (rI a), .int (rI b)] ck.maxLocals)) = U at Y0 hin
  have hUvm : U.vm = vm1 := by rw [← hU]; rfl
  have hUheap : U.heap = H := by rw [← hU, ← hT0]; rfl
  have htsU := hts1 U #[] hUvm
  have hKU : KK G U := hKK.moved (locs := locs) (by rw [hUvm]; exact hW1) (by rw [hUheap]; exact hs)
  have hcode9 := htsU _ hcode
  obtain ⟨mB, hnB⟩ : ∃ mB, U.methodNamed? (mN M') = some mB := by
    cases hnB : U.methodNamed? (mN M') with
    | none => simp [Cond.before, Cond.holds, Cond.value, hnB] at hcode9
    | some mB => exact ⟨mB, rfl⟩
  obtain ⟨methB, cB, hmB, -, -, -, -, -, -, hsigB⟩ := Cond.code_spec hnB hcode9
  have hfT : U.vm.findClass "LineDispatch" = some mB.cls := by
    have := findClass_of_methodNamed hnB
    rw [hy] at this
    exact this
  obtain ⟨kT, hkT, hnameT⟩ := className_of_methodNamed hnB
  have hcB : toy = mB.cls := Option.some.inj (htoy.symm.trans (by rw [← hUvm]; exact hfT))
  have htB : tt = mB := by
    have h1 : U.methodFound? (mN M').cls (mN M').name (mN M').desc = some mB := State.methodFound?_of_named hnB ⟨k4, k5⟩
    rw [hy] at h1
    simp only [State.methodFound?, hUvm, htoy, htk, Option.bind_eq_bind, Option.bind_some] at h1
    rw [hlook] at h1
    exact Option.some.inj h1
  subst htB
  have hkT' : kT = tk := by
    rw [hUvm, ← hcB] at hkT
    exact Option.some.inj (hkT.symm.trans htk)
  have hpoly : ∀ y, signaturePolymorphic kT y = false := fun y => by simp [signaturePolymorphic, hnameT, k4, k5]
  have hpar : methB.sig.parameters.length = 2 := by
    rw [hsigB] at k6
    exact Option.some.inj k6
  obtain ⟨mM, methM, hnM, hmM, hstM, habM⟩ := Cond.instanceMethod_spec (htsU _ hwd.1)
  cases hnB.symm.trans hnM
  cases hmB.symm.trans hmM
  obtain ⟨c2, r2, m2, q1, q2, q3, q4, kP, hkP, hkPi⟩ := Cond.selects_spec (htsU _ hwd.2)
  cases (State.methodFound?_of_named hnB ⟨k4, k5⟩).symm.trans q2
  cases hnB.symm.trans q3
  obtain ⟨hatr, -, -⟩ := hr.obj hTr (by omega) (by omega)
  obtain ⟨cellR, hcR, hoR, hclR⟩ := hr.rcv hKK hTr (by omega) (by omega) (C := RX0) (T := TX0) (N := 14) rfl
  have hc2 : cellR.cls = c2 := by
    have h1 : s.vm.findClass "LineDispatch" = some c2 := by
      rw [← hW1.alike.findClass]
      show vm1.findClass "LineDispatch" = some c2
      rw [← hUvm]
      rw [hy] at q1
      exact q1
    exact Option.some.inj (hclR.symm.trans h1)
  have hBk : vx_Back (gL G) (smRm (d + 1) mc ms) p e (.java (F0 m pc ls (r.map (rV G))) :: below) ((T0.setVm vm1).calling (F0 m pc ls (r.map (rV G))) ⟨gY G t, 1⟩ #[.ref (gB G + f), .int (rI a), .int (rI b)]) #[.ref (gB G + f), .int (rI a), .int (rI b)] (mN M') 3 0 (PreOf (smRm (d + 1) mc ms) mc ms (smPc G (sZ S + mc) [vR (some ra), vI a, vI b] (sBud S mc ms) I)) (PostOf (smQc G (sZ S + mc) fun o S' I' => lamQ (fun z S' I' => SW M (pc + 5) (d + 2) Rq l (vI z :: r) S' I') o (sBud S' (sC S - mc) (sB S - ms)) I') mc ms (gA G)) (vx_Post (smXC G (sZ S + mc) fun o S' I' => lamQ (fun z S' I' => SW M (pc + 5) (d + 2) Rq l (vI z :: r) S' I') o (sBud S' (sC S - mc) (sB S - ms)) I') mc ms (gA G)) :=
    vx_back (bytes := mC M') (maxL := mL M') (ret := mR M') hMt smBlind rfl rfl (by show d + 20 + 1 ≤ d + 1 + 20; omega) (by show 0 + (mL M' + 11) + (64 * d + 12000) ≤ 64 * (d + 1) + 12000; omega) (fun w hw9 a' U' hW' => by
      have hg1 : GoodIn lw_all (ws_ (mN M') (mC M') (mL M') (mR M')) := lw_meth hcode
      have h0 := hts1 ((T0.setVm vm1).calling (F0 m pc ls (r.map (rV G))) ⟨gY G t, 1⟩ #[.ref (gB G + f), .int (rI a), .int (rI b)]) #[] rfl w (hg1 w hw9).1
      exact word_at hW' (hg1 w hw9).2 h0) List.mem_cons_self (fun a' U' hW' => by
      have h0 := hts1 ((T0.setVm vm1).calling (F0 m pc ls (r.map (rV G))) ⟨gY G t, 1⟩ #[.ref (gB G + f), .int (rI a), .int (rI b)]) #[] rfl _ hini
      exact word_at hW' (lw_self _ hini).2 h0)
  have hPre : smPc G (sZ S + mc) [vR (some ra), vI a, vI b] (sBud S mc ms) I #[.ref (gB G + ra), .int (rI a), .int (rI b)] U := by
    have h0 := smPre (ms := ms) (args := [vR (some ra), vI a, vI b]) hr hKK hs hmc hUheap (by rw [hUvm]; exact hW1)
    rw [hspA] at h0
    exact h0
  have hs9 : U.topJava?.isSome := Y0.here.top
  rcases hBk ⟨gY G t, 1⟩ methk ck ⟨U, [], 0, 0⟩ { method := ⟨gY G t, 1⟩, pc := 6, locals := #[.val (.ref (gB G + f)), .val (.int (rI a)), .val (.int (rI b))], stack := [], locked := none } (.invokevirtual 22) tt #[.ref (gB G + ra), .int (rI a), .int (rI b)] Y0 rfl (by rw [hmlk]; rfl) (by rw [hbytes]; exact fwA_6) (by show 2 * 0 + 0 ≤ 0; decide) hnB ⟨by show 0 + mc ≤ mc; omega, by show 0 + ms ≤ ms; omega, hPre⟩ with ⟨v, ⟨U', l2, c2', s2⟩, X', ⟨g', mk', t2, L, e1, e2, hq2, h1, hL, h2, h3⟩, st2⟩ | ⟨q, ⟨U', l2, c2', s2⟩, X', ⟨g', mk', t2, L, E, ce, e1, e2, ⟨vq, S', I', hqv, hq3, ⟨z, hz, -⟩, -⟩, -⟩, st2⟩
  · dsimp only [Pt.U, Pt.locs, Pt.cells, Pt.slots] at X' e1 e2 h1 h2 h3 st2
    subst h1; subst h2; subst h3
    obtain ⟨vv, S', I', hvv, hvo, ⟨z, hz, hz01, hSW⟩, hrR, hsR⟩ := hq2
    obtain rfl : vv = some (vI z) := Sum.inl.inj hz
    obtain rfl : v = some (.int (rI z)) := Outcome.returned.inj hvv
    obtain ⟨fs, hleave, -, hended, hWe, hsame⟩ := X'.leave (v := some (.int (rI z))) (fun h => by rw [hretk] at h; cases h) hlk
    obtain ⟨T', XT, hWT, -, htT⟩ := X1.outOf (g := F0 m pc ls (r.map (rV G))) rfl (by rw [hb]; exact hd) hended hWe hsame
    have hheapT : T'.heap = U'.heap := by
      have := congrArg (fun s : State => s.heap) htT
      exact this.symm
    have hvmT : T'.vm = U'.vm := by
      have := congrArg (fun s : State => s.vm) htT
      exact this.symm
    refine Or.inl ⟨some (.int (rI z)), U.calling g' mk' #[.ref (gB G + ra), .int (rI a), .int (rI b)], t2, T', l2, ?_, ?_, hL, ?_, ?_, ⟨some (vI z), S', I', rfl, hvo, ⟨z, rfl, hz01, hSW⟩, hrR, hsR⟩, ?_⟩
    · exact hUheap
    · have h0 := XT
      simp only [List.nil_append, Nat.zero_add] at h0
      exact h0
    · rw [hheapT]; exact e1
    · rw [hvmT]; exact e2
    · intro target htg
      refine hstep1 _ fun acts => ?_
      rw [hg9, hin acts]
      have hloc : entryFrame ⟨gY G t, 1⟩ #[.ref (gB G + f), .int (rI a), .int (rI b)] ck.maxLocals = { method := ⟨gY G t, 1⟩, pc := 0, locals := #[.val (.ref (gB G + f)), .val (.int (rI a)), .val (.int (rI b))], stack := [], locked := none } := by rw [hmlk]; rfl
      rw [hloc]
      refine Steps.trans ?_ htg
      show Steps p.tables e below _ (T'.setTop { F0 m pc ls (r.map (rV G)) with pc := (F0 m pc ls (r.map (rV G))).pc + 5, stack := (some (Value.int (rI z))).toList ++ (F0 m pc ls (r.map (rV G))).stack })
      rw [← htT]
      refine Steps.weaken (mid := [.java (F0 m pc ls (r.map (rV G)))]) ?_
      jvm_step Y0.here [hx9, hbytes, fwA_0, Value.isRef]
      jvm_step Y0.here [hx9, hbytes, fwA_1, getfield.wp_ready (e := e) (s := U) (c := gY G t) (field := g0) (a := gB G + f) (rest := []) (cell := { cls := gY G t, slots := #[va_rf (rR G (some ra))], vm := .none }) (v := .ref (gB G + ra))
        (f := { method := ⟨gY G t, 1⟩, pc := 1, locals := #[.val (.ref (gB G + f)), .val (.int (rI a)), .val (.int (rI b))], stack := [.ref (gB G + f)], locked := none }) hs9 (by rw [hUvm]; exact hfa0) hfb0 rfl (by rw [hUheap]; exact hcellf) (fun h => by cases h) (by rw [hfc0, hra9]; rfl)]
      jvm_step Y0.here [hx9, hbytes, fwA_4]
      jvm_step Y0.here [hx9, hbytes, fwA_5]
      jvm_step Y0.here [hx9, hbytes, fwA_6, invokevirtual.wp_ready (e := e) (s := U) (r := tt) (m := tt) (k := kT) (mk := kP) (rmeth := methB) (meth := methB) (a := gB G + ra) (args := [.int (rI a), .int (rI b)]) (rest := []) (cell := cellR)
        (f := { method := ⟨gY G t, 1⟩, pc := 6, locals := #[.val (.ref (gB G + f)), .val (.int (rI a)), .val (.int (rI b))], stack := [.int (rI b), .int (rI a), .ref (gB G + ra)], locked := none }) hs9 ⟨kK, file, 19, 21, toy, tk, by rw [hUvm]; exact hkK, hfile, hpM, by rw [hUvm]; exact hclsR, by rw [hUvm]; exact htk, hitf⟩ (by rw [hUvm]; exact hready) hkT hmB (hpoly _) hstM hpar.symm rfl
        (by rw [hUheap]; exact hcR) (fun z h => by rw [h] at hoR; cases hoR) (by rw [hc2, Launch.admits_selectMethod X.admits]; exact q4) hmB habM hkP hkPi]
      intro acts'
      rw [doInvoke_state]
      refine st2.trans ?_
      show Steps p.tables e (.java (F0 m pc ls (r.map (rV G))) :: below) (U'.setTop { method := ⟨gY G t, 1⟩, pc := 9, locals := #[.val (.ref (gB G + f)), .val (.int (rI a)), .val (.int (rI b))], stack := [.int (rI z)], locked := none }) _
      jvm_step X'.here [X'.here.top, hx9, hbytes, fwA_9, (show U'.vm.method? ⟨gY G t, 1⟩ = some methk from X'.method'), hretk, (show narrow .boolean (.int (rI z)) = .int (rI z) by rcases hz01 with rfl | rfl <;> decide +kernel)]
      intro acts''
      rw [hleave { method := ⟨gY G t, 1⟩, pc := 9, locals := #[.val (.ref (gB G + f)), .val (.int (rI a)), .val (.int (rI b))], stack := [], locked := none } acts'' rfl rfl rfl]
      exact Steps.refl _
  · cases hz
theorem sm_lamB {idx cnt t pc9 idx9 : Nat} {x : MethodName} {σ : Lambda.Shape} {w : Cond} {nm ds : String} (hd : decode (mC M) pc = .ok (.invokeinterface idx cnt, 5)) (hM0 : (mN M).cls = "LineDispatch") (hlink : Cond.methodLink "LineDispatch" idx isN ∈ lw_all) (ht : (50 ≤ t ∧ t < 58 ∧ t ≠ 54)) (hw : w = .lambdaSite x pc9 idx9 σ) (hl : ∀ G s0, LamG G s0 → smLam w s0 (gY G t)) (hxc : x.cls = "LineDispatch") (hi : σ.iface = "LineDispatch$Before" ∧ σ.name = "is" ∧ σ.sam.toString = "(II)Z")
    (hmd : ∀ (vm : Vm) (d c : ClassId) (dk : Class), vm.classes[d]? = some dk → dk.name = "LineDispatch" → Lambda.isMade { classPath := fun _ => none } vm d σ c = true → (∀ o ok, vm.findClass "java/lang/Object" = some o → vm.classes[o]? = some ok → ok.instanceTypes.size = 0) → mfB nm ds vm c)
    (hok : callOk M' 3) (hy : mN M' = ⟨"LineDispatch", nm, ds⟩) (hRt : mR M' = some .boolean) (hwd : Cond.static (mN M') ∈ lw_all) (hini : Cond.initialized (mN M').cls ∈ lw_all) (hcode : Cond.code (mN M') (mC M') (mL M') (mR M') ∈ lw_all)
    {l : SmL} {a b : Int} {f ra : Nat} {r : List SmV} {S : SmS} {I : SmI} (hTf : sT S f = t) (hPf : sP S f 0 = some ra) (hTr : (sT S ra ≠ 0 ∧ sT S ra < 50)) (hws : wsum r ≤ 8) (h : SC M' d [vR (some ra), vI a, vI b] S I (lamQ fun z S' I' => SW M (pc + 5) (d + 2) Rq l (vI z :: r) S' I')) : SW M pc (d + 2) Rq l (vI b :: vI a :: vR (some f) :: r) S I := by
  intro G p e R s m args below meth c cap H locs cells slots FQ ls hf hr hl9 hv hs hc hb9 hq
  have hx9 := hf.1
  have hb := hf.2.1
  have hml := hf.2.2.2.1
  have hown := hf.2.2.2.2.2.2.1
  have hts := hf.2.2.2.2.2.2.2.1
  have hKK := hf.2.2.2.2.2.2.2.2.2.1
  have hRf := hf.2.2.2.2.2.2.2.2.2.2.1
  have hRl := hf.2.2.2.2.2.2.2.2.2.2.2
  rw [hM0] at hown
  obtain ⟨hent, mc, ms, hmc, hms, hbody⟩ := h
  obtain ⟨k1, k2, k3, k4, k5, k6⟩ := hok
  have hb32 : inR b := hv (vI b) List.mem_cons_self
  have ha32 : inR a := hv (vI a) (tl1 List.mem_cons_self)
  obtain ⟨hfl, hfF⟩ := hr.lt (v := f) (by omega) (by omega)
  obtain ⟨hral, hraF⟩ := hr.lt (v := ra) (by omega) (by omega)
  have hcellf : H[gB G + f]? = some { cls := gY G t, slots := #[va_rf (rR G (some ra))], vm := .none } := by
    have h := (hr.2.2.2.1 f (by omega) hfl).2
    unfold sAt at h
    rw [if_pos (by omega)] at h
    rw [h]
    unfold lamCell
    rw [hTf, if_neg ht.2.2, hPf]
  have hargs : ∀ v ∈ [vR (some ra), vI a, vI b], okV v := fun v hv => by
    simp only [List.mem_cons, List.not_mem_nil, or_false] at hv
    rcases hv with rfl | rfl | rfl
    · trivial
    · exact ha32
    · exact hb32
  have hMt := SW_met (G := G) (cap := sZ S + mc) k1 k2 hent hargs (sC_sBud S mc ms) (sB_sBud S mc ms) hbody
  have hra9 : rR G (some ra) = some (gB G + ra) := congrArg some (rA_lt hraF)
  have hsp : (vI b :: vI a :: vR (some f) :: r).map (rV G) = .int (rI b) :: .int (rI a) :: .ref (gB G + f) :: r.map (rV G) := by
    rw [List.map_cons, List.map_cons, List.map_cons, rV_I, rV_I, rV_R, show rR G (some f) = some (gB G + f) from congrArg some (rA_lt hfF)]
    rfl
  have hspA : ([vR (some ra), vI a, vI b].map (rV G)).toArray = #[.ref (gB G + ra), .int (rI a), .int (rI b)] := by
    simp only [List.map_cons, List.map_nil, rV_I, rV_R, hra9]
    rfl
  obtain ⟨m9, k9, cf9, i9, p9, hm9, hk9, -, -, -, hmade, hcallb⟩ := hKK.site hw (hl G)
  have hdn : k9.name = "LineDispatch" := by
    obtain ⟨kz, hkz, hnz⟩ := className_of_methodNamed hm9
    cases hk9.symm.trans hkz
    rw [hnz, hxc]
  obtain ⟨kK, tk, file, methk, ck, toy, tt, g0, hkK, hkn, hfile, hpM, hpN, hmk, hck, hbytes, hmlk, hlk, hflk, hretk, htoy, htk, hitf, hlook, hready, hclsR, hfa0, hfb0, hfc0⟩ := hmd _ _ _ _ hk9 hdn hmade (KK.obj0 (G := G) hts)
  rw [hsp]
  refine call_run (mc := mc) (ms := ms) (rest := r) (Q := fun o S' I' => lamQ (fun z S' I' => SW M (pc + 5) (d + 2) Rq l (vI z :: r) S' I') o S' I') (a' := #[.ref (gB G + ra), .int (rI a), .int (rI b)]) hf hr hl9 (fun v h => hv v (tl1 (tl1 (tl1 h)))) hs hc hb9 hq hmc hms (fun T0 hT0 X => ?_) (fun o S' I' h => by
    obtain ⟨z, rfl, -, h⟩ := h
    exact h)
  obtain ⟨vm1, X1, hstep1⟩ := lam_in X hx9 hown hts hKK hlink hw (hl G) hi hmk hflk hkK (b := gB G + f) (by rw [hT0]; exact hcellf) rfl rfl (g := F0 m pc ls (.int (rI b) :: .int (rI a) :: .ref (gB G + f) :: r.map (rV G))) rfl (v1 := .int (rI a)) (v2 := .int (rI b)) (rest := r.map (rV G)) rfl (by rw [hb]; exact hd)
  have hW1 := X1.warmed
  have hmade1 : Lambda.isMade { classPath := fun _ => none } vm1 m9.cls σ (gY G t) = true := Lambda.isMade_warmer (vm' := vm1) hW1 hmade
  obtain ⟨k91, hk91, he91⟩ := hW1.alike.2.2 _ _ hk9
  have hO1 : ∀ o ok, vm1.findClass "java/lang/Object" = some o → vm1.classes[o]? = some ok → ok.instanceTypes.size = 0 := by
    intro o ok h1 h2
    have h1' : s.vm.findClass "java/lang/Object" = some o := by rw [← hW1.alike.findClass]; exact h1
    obtain ⟨ok0, hok0, -⟩ := Vm.findClass_spec h1'
    obtain ⟨ok', hok', e3⟩ := hW1.alike.2.2 _ _ hok0
    cases h2.symm.trans hok'
    rw [e3]
    exact KK.obj0 (G := G) hts o ok0 h1' hok0
  obtain ⟨kK, tk, file, methk, ck, toy, tt, g0, hkK, hkn, hfile, hpM, hpN, hmk, hck, hbytes, hmlk, hlk, hflk, hretk, htoy, htk, hitf, hlook, hready, hclsR, hfa0, hfb0, hfc0⟩ := hmd vm1 _ _ _ hk91 (by rw [he91]; exact hdn) hmade1 hO1
  have hts1 : ∀ (U : State) (a' : Array Value), U.vm = vm1 → ∀ w ∈ lw_all, w.before a' U = true := fun U a' hU w hw9 => word_at (by rw [hU]; exact hW1) (lw_self w hw9).2 (hts w hw9)
  have hg9 : ({ F0 m pc ls (.int (rI b) :: .int (rI a) :: .ref (gB G + f) :: r.map (rV G)) with stack := r.map (rV G) } : JFrame) = F0 m pc ls (r.map (rV G)) := rfl
  obtain ⟨Y0, hin⟩ := X1.into (g := F0 m pc ls (r.map (rV G))) rfl (by rw [hml]; exact hl9.1) (by rw [hb]; exact hd) (mk := ⟨gY G t, 1⟩) (methk := methk) (ck := ck) #[.ref (gB G + f), .int (rI a), .int (rI b)] (R' := smRm (d + 1) mc ms) hmk hck hlk (State.plainMethod.of_name (fun k' hk' => by cases hkK.symm.trans hk'; rw [hkn]; exact bIs))
    (by show d + 1 + 20 + 1 ≤ R.frames; omega) (by show 2 * 0 + _ + _ + (64 * (d + 1) + 12000) ≤ R.locals; rw [wsum_r, hmlk]; omega) (by show cells + mc ≤ R.cells; omega) (by show slots + ms ≤ R.slots; omega)
  generalize hU : ((T0.setVm vm1).setTop (F0 m pc ls (r.map (rV G)))).pushFrame (.java (entryFrame ⟨gY G t, 1⟩ #[.ref (gB G + f), .int (rI a), .int (rI b)] ck.maxLocals)) = U at Y0 hin
  have hUvm : U.vm = vm1 := by rw [← hU]; rfl
  have hUheap : U.heap = H := by rw [← hU, ← hT0]; rfl
  have htsU := hts1 U #[] hUvm
  have hKU : KK G U := hKK.moved (locs := locs) (by rw [hUvm]; exact hW1) (by rw [hUheap]; exact hs)
  have hcode9 := htsU _ hcode
  obtain ⟨mB, hnB⟩ : ∃ mB, U.methodNamed? (mN M') = some mB := by
    cases hnB : U.methodNamed? (mN M') with
    | none => simp [Cond.before, Cond.holds, Cond.value, hnB] at hcode9
    | some mB => exact ⟨mB, rfl⟩
  obtain ⟨methB, cB, hmB, -, -, -, -, -, -, hsigB⟩ := Cond.code_spec hnB hcode9
  have hfT : U.vm.findClass "LineDispatch" = some mB.cls := by
    have := findClass_of_methodNamed hnB
    rw [hy] at this
    exact this
  obtain ⟨kT, hkT, hnameT⟩ := className_of_methodNamed hnB
  have hcB : toy = mB.cls := Option.some.inj (htoy.symm.trans (by rw [← hUvm]; exact hfT))
  have htB : tt = mB := by
    have h1 : U.methodFound? (mN M').cls (mN M').name (mN M').desc = some mB := State.methodFound?_of_named hnB ⟨k4, k5⟩
    rw [hy] at h1
    simp only [State.methodFound?, hUvm, htoy, htk, Option.bind_eq_bind, Option.bind_some] at h1
    rw [hlook] at h1
    exact Option.some.inj h1
  subst htB
  have hkT' : kT = tk := by
    rw [hUvm, ← hcB] at hkT
    exact Option.some.inj (hkT.symm.trans htk)
  have hpoly : ∀ y, signaturePolymorphic kT y = false := fun y => by simp [signaturePolymorphic, hnameT, k4, k5]
  have hpar : methB.sig.parameters.length = 3 := by
    rw [hsigB] at k6
    exact Option.some.inj k6
  have hstB : methB.isStatic = true := Cond.static_spec hnB hmB (htsU _ hwd)
  have hinitB : kT.init = .initialized := Cond.initialized_spec (findClass_of_methodNamed hnB) hkT (htsU _ hini)
  obtain ⟨bb, hmem⟩ := memberRef_ask' (e := e) (vm := U.vm) (d := gY G t) (index := 23) (by rw [hUvm]; exact hkK) hfile (Or.inl hpM) hpN
  have hBk : vx_Back (gL G) (smRm (d + 1) mc ms) p e (.java (F0 m pc ls (r.map (rV G))) :: below) ((T0.setVm vm1).calling (F0 m pc ls (r.map (rV G))) ⟨gY G t, 1⟩ #[.ref (gB G + f), .int (rI a), .int (rI b)]) #[.ref (gB G + f), .int (rI a), .int (rI b)] (mN M') 3 0 (PreOf (smRm (d + 1) mc ms) mc ms (smPc G (sZ S + mc) [vR (some ra), vI a, vI b] (sBud S mc ms) I)) (PostOf (smQc G (sZ S + mc) fun o S' I' => lamQ (fun z S' I' => SW M (pc + 5) (d + 2) Rq l (vI z :: r) S' I') o (sBud S' (sC S - mc) (sB S - ms)) I') mc ms (gA G)) (vx_Post (smXC G (sZ S + mc) fun o S' I' => lamQ (fun z S' I' => SW M (pc + 5) (d + 2) Rq l (vI z :: r) S' I') o (sBud S' (sC S - mc) (sB S - ms)) I') mc ms (gA G)) :=
    vx_back (bytes := mC M') (maxL := mL M') (ret := mR M') hMt smBlind rfl rfl (by show d + 20 + 1 ≤ d + 1 + 20; omega) (by show 0 + (mL M' + 11) + (64 * d + 12000) ≤ 64 * (d + 1) + 12000; omega) (fun w hw9 a' U' hW' => by
      have hg1 : GoodIn lw_all (ws_ (mN M') (mC M') (mL M') (mR M')) := lw_meth hcode
      have h0 := hts1 ((T0.setVm vm1).calling (F0 m pc ls (r.map (rV G))) ⟨gY G t, 1⟩ #[.ref (gB G + f), .int (rI a), .int (rI b)]) #[] rfl w (hg1 w hw9).1
      exact word_at hW' (hg1 w hw9).2 h0) List.mem_cons_self (fun a' U' hW' => by
      have h0 := hts1 ((T0.setVm vm1).calling (F0 m pc ls (r.map (rV G))) ⟨gY G t, 1⟩ #[.ref (gB G + f), .int (rI a), .int (rI b)]) #[] rfl _ hini
      exact word_at hW' (lw_self _ hini).2 h0)
  have hPre : smPc G (sZ S + mc) [vR (some ra), vI a, vI b] (sBud S mc ms) I #[.ref (gB G + ra), .int (rI a), .int (rI b)] U := by
    have h0 := smPre (ms := ms) (args := [vR (some ra), vI a, vI b]) hr hKK hs hmc hUheap (by rw [hUvm]; exact hW1)
    rw [hspA] at h0
    exact h0
  have hs9 : U.topJava?.isSome := Y0.here.top
  rcases hBk ⟨gY G t, 1⟩ methk ck ⟨U, [], 0, 0⟩ { method := ⟨gY G t, 1⟩, pc := 6, locals := #[.val (.ref (gB G + f)), .val (.int (rI a)), .val (.int (rI b))], stack := [], locked := none } (.invokestatic 23) tt #[.ref (gB G + ra), .int (rI a), .int (rI b)] Y0 rfl (by rw [hmlk]; rfl) (by rw [hbytes]; exact fwB_6) (by show 2 * 0 + 0 ≤ 0; decide) hnB ⟨by show 0 + mc ≤ mc; omega, by show 0 + ms ≤ ms; omega, hPre⟩ with ⟨v, ⟨U', l2, c2', s2⟩, X', ⟨g', mk', t2, L, e1, e2, hq2, h1, hL, h2, h3⟩, st2⟩ | ⟨q, ⟨U', l2, c2', s2⟩, X', ⟨g', mk', t2, L, E, ce, e1, e2, ⟨vq, S', I', hqv, hq3, ⟨z, hz, -⟩, -⟩, -⟩, st2⟩
  · dsimp only [Pt.U, Pt.locs, Pt.cells, Pt.slots] at X' e1 e2 h1 h2 h3 st2
    subst h1; subst h2; subst h3
    obtain ⟨vv, S', I', hvv, hvo, ⟨z, hz, hz01, hSW⟩, hrR, hsR⟩ := hq2
    obtain rfl : vv = some (vI z) := Sum.inl.inj hz
    obtain rfl : v = some (.int (rI z)) := Outcome.returned.inj hvv
    obtain ⟨fs, hleave, -, hended, hWe, hsame⟩ := X'.leave (v := some (.int (rI z))) (fun h => by rw [hretk] at h; cases h) hlk
    obtain ⟨T', XT, hWT, -, htT⟩ := X1.outOf (g := F0 m pc ls (r.map (rV G))) rfl (by rw [hb]; exact hd) hended hWe hsame
    have hheapT : T'.heap = U'.heap := by
      have := congrArg (fun s : State => s.heap) htT
      exact this.symm
    have hvmT : T'.vm = U'.vm := by
      have := congrArg (fun s : State => s.vm) htT
      exact this.symm
    refine Or.inl ⟨some (.int (rI z)), U.calling g' mk' #[.ref (gB G + ra), .int (rI a), .int (rI b)], t2, T', l2, ?_, ?_, hL, ?_, ?_, ⟨some (vI z), S', I', rfl, hvo, ⟨z, rfl, hz01, hSW⟩, hrR, hsR⟩, ?_⟩
    · exact hUheap
    · have h0 := XT
      simp only [List.nil_append, Nat.zero_add] at h0
      exact h0
    · rw [hheapT]; exact e1
    · rw [hvmT]; exact e2
    · intro target htg
      refine hstep1 _ fun acts => ?_
      rw [hg9, hin acts]
      have hloc : entryFrame ⟨gY G t, 1⟩ #[.ref (gB G + f), .int (rI a), .int (rI b)] ck.maxLocals = { method := ⟨gY G t, 1⟩, pc := 0, locals := #[.val (.ref (gB G + f)), .val (.int (rI a)), .val (.int (rI b))], stack := [], locked := none } := by rw [hmlk]; rfl
      rw [hloc]
      refine Steps.trans ?_ htg
      show Steps p.tables e below _ (T'.setTop { F0 m pc ls (r.map (rV G)) with pc := (F0 m pc ls (r.map (rV G))).pc + 5, stack := (some (Value.int (rI z))).toList ++ (F0 m pc ls (r.map (rV G))).stack })
      rw [← htT]
      refine Steps.weaken (mid := [.java (F0 m pc ls (r.map (rV G)))]) ?_
      jvm_step Y0.here [hx9, hbytes, fwB_0, Value.isRef]
      jvm_step Y0.here [hx9, hbytes, fwB_1, getfield.wp_ready (e := e) (s := U) (c := gY G t) (field := g0) (a := gB G + f) (rest := []) (cell := { cls := gY G t, slots := #[va_rf (rR G (some ra))], vm := .none }) (v := .ref (gB G + ra))
        (f := { method := ⟨gY G t, 1⟩, pc := 1, locals := #[.val (.ref (gB G + f)), .val (.int (rI a)), .val (.int (rI b))], stack := [.ref (gB G + f)], locked := none }) hs9 (by rw [hUvm]; exact hfa0) hfb0 rfl (by rw [hUheap]; exact hcellf) (fun h => by cases h) (by rw [hfc0, hra9]; rfl)]
      jvm_step Y0.here [hx9, hbytes, fwB_4]
      jvm_step Y0.here [hx9, hbytes, fwB_5]
      jvm_step Y0.here [hx9, hbytes, fwB_6, invokestatic.wp_ready (e := e) (s := U) (m := tt) (k := kT) (meth := methB) (args := [.ref (gB G + ra), .int (rI a), .int (rI b)]) (rest := [])
        (f := { method := ⟨gY G t, 1⟩, pc := 6, locals := #[.val (.ref (gB G + f)), .val (.int (rI a)), .val (.int (rI b))], stack := [.int (rI b), .int (rI a), .ref (gB G + ra)], locked := none }) hs9 ⟨19, _, _, bb, toy, tk, hmem, by rw [hUvm]; exact hclsR, by rw [hUvm]; exact htk, by rw [← hkT']; simp [hpoly]⟩ (by rw [hUvm]; exact hready) hkT hmB (hpoly _) hstB hinitB hpar.symm rfl]
      intro acts'
      rw [doInvoke_state]
      refine st2.trans ?_
      show Steps p.tables e (.java (F0 m pc ls (r.map (rV G))) :: below) (U'.setTop { method := ⟨gY G t, 1⟩, pc := 9, locals := #[.val (.ref (gB G + f)), .val (.int (rI a)), .val (.int (rI b))], stack := [.int (rI z)], locked := none }) _
      jvm_step X'.here [X'.here.top, hx9, hbytes, fwB_9, (show U'.vm.method? ⟨gY G t, 1⟩ = some methk from X'.method'), hretk, (show narrow .boolean (.int (rI z)) = .int (rI z) by rcases hz01 with rfl | rfl <;> decide +kernel)]
      intro acts''
      rw [hleave { method := ⟨gY G t, 1⟩, pc := 9, locals := #[.val (.ref (gB G + f)), .val (.int (rI a)), .val (.int (rI b))], stack := [], locked := none } acts'' rfl rfl rfl]
      exact Steps.refl _
  · cases hz
theorem sm_lamC {idx cnt t pc9 idx9 : Nat} {x : MethodName} {σ : Lambda.Shape} {w : Cond} {nm ds : String} (hd : decode (mC M) pc = .ok (.invokeinterface idx cnt, 5)) (hM0 : (mN M).cls = "LineDispatch") (hlink : Cond.methodLink "LineDispatch" idx isN ∈ lw_all) (ht : t = 54) (hw : w = .lambdaSite x pc9 idx9 σ) (hl : ∀ G s0, LamG G s0 → smLam w s0 (gY G t)) (hxc : x.cls = "LineDispatch") (hi : σ.iface = "LineDispatch$Before" ∧ σ.name = "is" ∧ σ.sam.toString = "(II)Z")
    (hmd : ∀ (vm : Vm) (d c : ClassId) (dk : Class), vm.classes[d]? = some dk → dk.name = "LineDispatch" → Lambda.isMade { classPath := fun _ => none } vm d σ c = true → (∀ o ok, vm.findClass "java/lang/Object" = some o → vm.classes[o]? = some ok → ok.instanceTypes.size = 0) → mfC nm ds vm c)
    (hok : callOk M' 3) (hy : mN M' = ⟨"LineDispatch", nm, ds⟩) (hRt : mR M' = some .boolean) (hwd : Cond.instanceMethod (mN M') ∈ lw_all ∧ Cond.selects (mN M').cls (mN M') (mN M') ∈ lw_all) (hini : Cond.initialized (mN M').cls ∈ lw_all) (hcode : Cond.code (mN M') (mC M') (mL M') (mR M') ∈ lw_all)
    {l : SmL} {a b : Int} {f ra : Nat} {r : List SmV} {S : SmS} {I : SmI} (hTf : sT S f = t) (hPf : sP S f 0 = some ra) (hTr : sT S ra = 1) (hws : wsum r ≤ 8) (h : SC M' d [vR (some ra), vI (I f 1), vI a, vI b] S I (lamQ fun z S' I' => SW M (pc + 5) (d + 2) Rq l (vI z :: r) S' I')) : SW M pc (d + 2) Rq l (vI b :: vI a :: vR (some f) :: r) S I := by
  intro G p e R s m args below meth c cap H locs cells slots FQ ls hf hr hl9 hv hs hc hb9 hq
  have hx9 := hf.1
  have hb := hf.2.1
  have hml := hf.2.2.2.1
  have hown := hf.2.2.2.2.2.2.1
  have hts := hf.2.2.2.2.2.2.2.1
  have hKK := hf.2.2.2.2.2.2.2.2.2.1
  have hRf := hf.2.2.2.2.2.2.2.2.2.2.1
  have hRl := hf.2.2.2.2.2.2.2.2.2.2.2
  rw [hM0] at hown
  obtain ⟨hent, mc, ms, hmc, hms, hbody⟩ := h
  obtain ⟨k1, k2, k3, k4, k5, k6⟩ := hok
  have hb32 : inR b := hv (vI b) List.mem_cons_self
  have ha32 : inR a := hv (vI a) (tl1 List.mem_cons_self)
  obtain ⟨hfl, hfF⟩ := hr.lt (v := f) (by omega) (by omega)
  obtain ⟨hral, hraF⟩ := hr.lt (v := ra) (by omega) (by omega)
  have hcellf : H[gB G + f]? = some { cls := gY G t, slots := #[va_rf (rR G (some ra)), .int (rI (I f 1))], vm := .none } := by
    have h := (hr.2.2.2.1 f (by omega) hfl).2
    unfold sAt at h
    rw [if_pos (by omega)] at h
    rw [h]
    unfold lamCell
    rw [hTf, if_pos ht, hPf]
  have hargs : ∀ v ∈ [vR (some ra), vI (I f 1), vI a, vI b], okV v := fun v hv => by
    simp only [List.mem_cons, List.not_mem_nil, or_false] at hv
    rcases hv with rfl | rfl | rfl | rfl
    · trivial
    · exact hr.i f 1
    · exact ha32
    · exact hb32
  have hMt := SW_met (G := G) (cap := sZ S + mc) k1 k2 hent hargs (sC_sBud S mc ms) (sB_sBud S mc ms) hbody
  have hra9 : rR G (some ra) = some (gB G + ra) := congrArg some (rA_lt hraF)
  have hsp : (vI b :: vI a :: vR (some f) :: r).map (rV G) = .int (rI b) :: .int (rI a) :: .ref (gB G + f) :: r.map (rV G) := by
    rw [List.map_cons, List.map_cons, List.map_cons, rV_I, rV_I, rV_R, show rR G (some f) = some (gB G + f) from congrArg some (rA_lt hfF)]
    rfl
  have hspA : ([vR (some ra), vI (I f 1), vI a, vI b].map (rV G)).toArray = #[.ref (gB G + ra), .int (rI (I f 1)), .int (rI a), .int (rI b)] := by
    simp only [List.map_cons, List.map_nil, rV_I, rV_R, hra9]
    rfl
  obtain ⟨m9, k9, cf9, i9, p9, hm9, hk9, -, -, -, hmade, hcallb⟩ := hKK.site hw (hl G)
  have hdn : k9.name = "LineDispatch" := by
    obtain ⟨kz, hkz, hnz⟩ := className_of_methodNamed hm9
    cases hk9.symm.trans hkz
    rw [hnz, hxc]
  obtain ⟨kK, tk, file, methk, ck, toy, tt, g0, g1, hkK, hkn, hfile, hpM, hpN, hmk, hck, hbytes, hmlk, hlk, hflk, hretk, htoy, htk, hitf, hlook, hready, hclsR, hfa0, hfb0, hfc0, hfa1, hfb1, hfc1⟩ := hmd _ _ _ _ hk9 hdn hmade (KK.obj0 (G := G) hts)
  rw [hsp]
  refine call_run (mc := mc) (ms := ms) (rest := r) (Q := fun o S' I' => lamQ (fun z S' I' => SW M (pc + 5) (d + 2) Rq l (vI z :: r) S' I') o S' I') (a' := #[.ref (gB G + ra), .int (rI (I f 1)), .int (rI a), .int (rI b)]) hf hr hl9 (fun v h => hv v (tl1 (tl1 (tl1 h)))) hs hc hb9 hq hmc hms (fun T0 hT0 X => ?_) (fun o S' I' h => by
    obtain ⟨z, rfl, -, h⟩ := h
    exact h)
  obtain ⟨vm1, X1, hstep1⟩ := lam_in X hx9 hown hts hKK hlink hw (hl G) hi hmk hflk hkK (b := gB G + f) (by rw [hT0]; exact hcellf) rfl rfl (g := F0 m pc ls (.int (rI b) :: .int (rI a) :: .ref (gB G + f) :: r.map (rV G))) rfl (v1 := .int (rI a)) (v2 := .int (rI b)) (rest := r.map (rV G)) rfl (by rw [hb]; exact hd)
  have hW1 := X1.warmed
  have hmade1 : Lambda.isMade { classPath := fun _ => none } vm1 m9.cls σ (gY G t) = true := Lambda.isMade_warmer (vm' := vm1) hW1 hmade
  obtain ⟨k91, hk91, he91⟩ := hW1.alike.2.2 _ _ hk9
  have hO1 : ∀ o ok, vm1.findClass "java/lang/Object" = some o → vm1.classes[o]? = some ok → ok.instanceTypes.size = 0 := by
    intro o ok h1 h2
    have h1' : s.vm.findClass "java/lang/Object" = some o := by rw [← hW1.alike.findClass]; exact h1
    obtain ⟨ok0, hok0, -⟩ := Vm.findClass_spec h1'
    obtain ⟨ok', hok', e3⟩ := hW1.alike.2.2 _ _ hok0
    cases h2.symm.trans hok'
    rw [e3]
    exact KK.obj0 (G := G) hts o ok0 h1' hok0
  obtain ⟨kK, tk, file, methk, ck, toy, tt, g0, g1, hkK, hkn, hfile, hpM, hpN, hmk, hck, hbytes, hmlk, hlk, hflk, hretk, htoy, htk, hitf, hlook, hready, hclsR, hfa0, hfb0, hfc0, hfa1, hfb1, hfc1⟩ := hmd vm1 _ _ _ hk91 (by rw [he91]; exact hdn) hmade1 hO1
  have hts1 : ∀ (U : State) (a' : Array Value), U.vm = vm1 → ∀ w ∈ lw_all, w.before a' U = true := fun U a' hU w hw9 => word_at (by rw [hU]; exact hW1) (lw_self w hw9).2 (hts w hw9)
  have hg9 : ({ F0 m pc ls (.int (rI b) :: .int (rI a) :: .ref (gB G + f) :: r.map (rV G)) with stack := r.map (rV G) } : JFrame) = F0 m pc ls (r.map (rV G)) := rfl
  obtain ⟨Y0, hin⟩ := X1.into (g := F0 m pc ls (r.map (rV G))) rfl (by rw [hml]; exact hl9.1) (by rw [hb]; exact hd) (mk := ⟨gY G t, 1⟩) (methk := methk) (ck := ck) #[.ref (gB G + f), .int (rI a), .int (rI b)] (R' := smRm (d + 1) mc ms) hmk hck hlk (State.plainMethod.of_name (fun k' hk' => by cases hkK.symm.trans hk'; rw [hkn]; exact bIs))
    (by show d + 1 + 20 + 1 ≤ R.frames; omega) (by show 2 * 0 + _ + _ + (64 * (d + 1) + 12000) ≤ R.locals; rw [wsum_r, hmlk]; omega) (by show cells + mc ≤ R.cells; omega) (by show slots + ms ≤ R.slots; omega)
  generalize hU : ((T0.setVm vm1).setTop (F0 m pc ls (r.map (rV G)))).pushFrame (.java (entryFrame ⟨gY G t, 1⟩ #[.ref (gB G + f), .int (rI a), .int (rI b)] ck.maxLocals)) = U at Y0 hin
  have hUvm : U.vm = vm1 := by rw [← hU]; rfl
  have hUheap : U.heap = H := by rw [← hU, ← hT0]; rfl
  have htsU := hts1 U #[] hUvm
  have hKU : KK G U := hKK.moved (locs := locs) (by rw [hUvm]; exact hW1) (by rw [hUheap]; exact hs)
  have hcode9 := htsU _ hcode
  obtain ⟨mB, hnB⟩ : ∃ mB, U.methodNamed? (mN M') = some mB := by
    cases hnB : U.methodNamed? (mN M') with
    | none => simp [Cond.before, Cond.holds, Cond.value, hnB] at hcode9
    | some mB => exact ⟨mB, rfl⟩
  obtain ⟨methB, cB, hmB, -, -, -, -, -, -, hsigB⟩ := Cond.code_spec hnB hcode9
  have hfT : U.vm.findClass "LineDispatch" = some mB.cls := by
    have := findClass_of_methodNamed hnB
    rw [hy] at this
    exact this
  obtain ⟨kT, hkT, hnameT⟩ := className_of_methodNamed hnB
  have hcB : toy = mB.cls := Option.some.inj (htoy.symm.trans (by rw [← hUvm]; exact hfT))
  have htB : tt = mB := by
    have h1 : U.methodFound? (mN M').cls (mN M').name (mN M').desc = some mB := State.methodFound?_of_named hnB ⟨k4, k5⟩
    rw [hy] at h1
    simp only [State.methodFound?, hUvm, htoy, htk, Option.bind_eq_bind, Option.bind_some] at h1
    rw [hlook] at h1
    exact Option.some.inj h1
  subst htB
  have hkT' : kT = tk := by
    rw [hUvm, ← hcB] at hkT
    exact Option.some.inj (hkT.symm.trans htk)
  have hpoly : ∀ y, signaturePolymorphic kT y = false := fun y => by simp [signaturePolymorphic, hnameT, k4, k5]
  have hpar : methB.sig.parameters.length = 3 := by
    rw [hsigB] at k6
    exact Option.some.inj k6
  obtain ⟨mM, methM, hnM, hmM, hstM, habM⟩ := Cond.instanceMethod_spec (htsU _ hwd.1)
  cases hnB.symm.trans hnM
  cases hmB.symm.trans hmM
  obtain ⟨c2, r2, m2, q1, q2, q3, q4, kP, hkP, hkPi⟩ := Cond.selects_spec (htsU _ hwd.2)
  cases (State.methodFound?_of_named hnB ⟨k4, k5⟩).symm.trans q2
  cases hnB.symm.trans q3
  obtain ⟨hatr, -, -⟩ := hr.obj hTr (by omega) (by omega)
  obtain ⟨cellR, hcR, hoR, hclR⟩ := hr.rcv hKK hTr (by omega) (by omega) (C := RX0) (T := TX0) (N := 14) rfl
  have hc2 : cellR.cls = c2 := by
    have h1 : s.vm.findClass "LineDispatch" = some c2 := by
      rw [← hW1.alike.findClass]
      show vm1.findClass "LineDispatch" = some c2
      rw [← hUvm]
      rw [hy] at q1
      exact q1
    exact Option.some.inj (hclR.symm.trans h1)
  have hBk : vx_Back (gL G) (smRm (d + 1) mc ms) p e (.java (F0 m pc ls (r.map (rV G))) :: below) ((T0.setVm vm1).calling (F0 m pc ls (r.map (rV G))) ⟨gY G t, 1⟩ #[.ref (gB G + f), .int (rI a), .int (rI b)]) #[.ref (gB G + f), .int (rI a), .int (rI b)] (mN M') 3 0 (PreOf (smRm (d + 1) mc ms) mc ms (smPc G (sZ S + mc) [vR (some ra), vI (I f 1), vI a, vI b] (sBud S mc ms) I)) (PostOf (smQc G (sZ S + mc) fun o S' I' => lamQ (fun z S' I' => SW M (pc + 5) (d + 2) Rq l (vI z :: r) S' I') o (sBud S' (sC S - mc) (sB S - ms)) I') mc ms (gA G)) (vx_Post (smXC G (sZ S + mc) fun o S' I' => lamQ (fun z S' I' => SW M (pc + 5) (d + 2) Rq l (vI z :: r) S' I') o (sBud S' (sC S - mc) (sB S - ms)) I') mc ms (gA G)) :=
    vx_back (bytes := mC M') (maxL := mL M') (ret := mR M') hMt smBlind rfl rfl (by show d + 20 + 1 ≤ d + 1 + 20; omega) (by show 0 + (mL M' + 11) + (64 * d + 12000) ≤ 64 * (d + 1) + 12000; omega) (fun w hw9 a' U' hW' => by
      have hg1 : GoodIn lw_all (ws_ (mN M') (mC M') (mL M') (mR M')) := lw_meth hcode
      have h0 := hts1 ((T0.setVm vm1).calling (F0 m pc ls (r.map (rV G))) ⟨gY G t, 1⟩ #[.ref (gB G + f), .int (rI a), .int (rI b)]) #[] rfl w (hg1 w hw9).1
      exact word_at hW' (hg1 w hw9).2 h0) List.mem_cons_self (fun a' U' hW' => by
      have h0 := hts1 ((T0.setVm vm1).calling (F0 m pc ls (r.map (rV G))) ⟨gY G t, 1⟩ #[.ref (gB G + f), .int (rI a), .int (rI b)]) #[] rfl _ hini
      exact word_at hW' (lw_self _ hini).2 h0)
  have hPre : smPc G (sZ S + mc) [vR (some ra), vI (I f 1), vI a, vI b] (sBud S mc ms) I #[.ref (gB G + ra), .int (rI (I f 1)), .int (rI a), .int (rI b)] U := by
    have h0 := smPre (ms := ms) (args := [vR (some ra), vI (I f 1), vI a, vI b]) hr hKK hs hmc hUheap (by rw [hUvm]; exact hW1)
    rw [hspA] at h0
    exact h0
  have hs9 : U.topJava?.isSome := Y0.here.top
  rcases hBk ⟨gY G t, 1⟩ methk ck ⟨U, [], 0, 0⟩ { method := ⟨gY G t, 1⟩, pc := 10, locals := #[.val (.ref (gB G + f)), .val (.int (rI a)), .val (.int (rI b))], stack := [], locked := none } (.invokevirtual 27) tt #[.ref (gB G + ra), .int (rI (I f 1)), .int (rI a), .int (rI b)] Y0 rfl (by rw [hmlk]; rfl) (by rw [hbytes]; exact fwC_10) (by show 2 * 0 + 0 ≤ 0; decide) hnB ⟨by show 0 + mc ≤ mc; omega, by show 0 + ms ≤ ms; omega, hPre⟩ with ⟨v, ⟨U', l2, c2', s2⟩, X', ⟨g', mk', t2, L, e1, e2, hq2, h1, hL, h2, h3⟩, st2⟩ | ⟨q, ⟨U', l2, c2', s2⟩, X', ⟨g', mk', t2, L, E, ce, e1, e2, ⟨vq, S', I', hqv, hq3, ⟨z, hz, -⟩, -⟩, -⟩, st2⟩
  · dsimp only [Pt.U, Pt.locs, Pt.cells, Pt.slots] at X' e1 e2 h1 h2 h3 st2
    subst h1; subst h2; subst h3
    obtain ⟨vv, S', I', hvv, hvo, ⟨z, hz, hz01, hSW⟩, hrR, hsR⟩ := hq2
    obtain rfl : vv = some (vI z) := Sum.inl.inj hz
    obtain rfl : v = some (.int (rI z)) := Outcome.returned.inj hvv
    obtain ⟨fs, hleave, -, hended, hWe, hsame⟩ := X'.leave (v := some (.int (rI z))) (fun h => by rw [hretk] at h; cases h) hlk
    obtain ⟨T', XT, hWT, -, htT⟩ := X1.outOf (g := F0 m pc ls (r.map (rV G))) rfl (by rw [hb]; exact hd) hended hWe hsame
    have hheapT : T'.heap = U'.heap := by
      have := congrArg (fun s : State => s.heap) htT
      exact this.symm
    have hvmT : T'.vm = U'.vm := by
      have := congrArg (fun s : State => s.vm) htT
      exact this.symm
    refine Or.inl ⟨some (.int (rI z)), U.calling g' mk' #[.ref (gB G + ra), .int (rI (I f 1)), .int (rI a), .int (rI b)], t2, T', l2, ?_, ?_, hL, ?_, ?_, ⟨some (vI z), S', I', rfl, hvo, ⟨z, rfl, hz01, hSW⟩, hrR, hsR⟩, ?_⟩
    · exact hUheap
    · have h0 := XT
      simp only [List.nil_append, Nat.zero_add] at h0
      exact h0
    · rw [hheapT]; exact e1
    · rw [hvmT]; exact e2
    · intro target htg
      refine hstep1 _ fun acts => ?_
      rw [hg9, hin acts]
      have hloc : entryFrame ⟨gY G t, 1⟩ #[.ref (gB G + f), .int (rI a), .int (rI b)] ck.maxLocals = { method := ⟨gY G t, 1⟩, pc := 0, locals := #[.val (.ref (gB G + f)), .val (.int (rI a)), .val (.int (rI b))], stack := [], locked := none } := by rw [hmlk]; rfl
      rw [hloc]
      refine Steps.trans ?_ htg
      show Steps p.tables e below _ (T'.setTop { F0 m pc ls (r.map (rV G)) with pc := (F0 m pc ls (r.map (rV G))).pc + 5, stack := (some (Value.int (rI z))).toList ++ (F0 m pc ls (r.map (rV G))).stack })
      rw [← htT]
      refine Steps.weaken (mid := [.java (F0 m pc ls (r.map (rV G)))]) ?_
      jvm_step Y0.here [hx9, hbytes, fwC_0, Value.isRef]
      jvm_step Y0.here [hx9, hbytes, fwC_1, getfield.wp_ready (e := e) (s := U) (c := gY G t) (field := g0) (a := gB G + f) (rest := []) (cell := { cls := gY G t, slots := #[va_rf (rR G (some ra)), .int (rI (I f 1))], vm := .none }) (v := .ref (gB G + ra))
        (f := { method := ⟨gY G t, 1⟩, pc := 1, locals := #[.val (.ref (gB G + f)), .val (.int (rI a)), .val (.int (rI b))], stack := [.ref (gB G + f)], locked := none }) hs9 (by rw [hUvm]; exact hfa0) hfb0 rfl (by rw [hUheap]; exact hcellf) (fun h => by cases h) (by rw [hfc0, hra9]; rfl)]
      jvm_step Y0.here [hx9, hbytes, fwC_4, Value.isRef]
      jvm_step Y0.here [hx9, hbytes, fwC_5, getfield.wp_ready (e := e) (s := U) (c := gY G t) (field := g1) (a := gB G + f) (rest := [.ref (gB G + ra)]) (cell := { cls := gY G t, slots := #[va_rf (rR G (some ra)), .int (rI (I f 1))], vm := .none }) (v := .int (rI (I f 1)))
        (f := { method := ⟨gY G t, 1⟩, pc := 5, locals := #[.val (.ref (gB G + f)), .val (.int (rI a)), .val (.int (rI b))], stack := [.ref (gB G + f), .ref (gB G + ra)], locked := none }) hs9 (by rw [hUvm]; exact hfa1) hfb1 rfl (by rw [hUheap]; exact hcellf) (fun h => by cases h) (by rw [hfc1]; rfl)]
      jvm_step Y0.here [hx9, hbytes, fwC_8]
      jvm_step Y0.here [hx9, hbytes, fwC_9]
      jvm_step Y0.here [hx9, hbytes, fwC_10, invokevirtual.wp_ready (e := e) (s := U) (r := tt) (m := tt) (k := kT) (mk := kP) (rmeth := methB) (meth := methB) (a := gB G + ra) (args := [.int (rI (I f 1)), .int (rI a), .int (rI b)]) (rest := []) (cell := cellR)
        (f := { method := ⟨gY G t, 1⟩, pc := 10, locals := #[.val (.ref (gB G + f)), .val (.int (rI a)), .val (.int (rI b))], stack := [.int (rI b), .int (rI a), .int (rI (I f 1)), .ref (gB G + ra)], locked := none }) hs9 ⟨kK, file, 23, 26, toy, tk, by rw [hUvm]; exact hkK, hfile, hpM, by rw [hUvm]; exact hclsR, by rw [hUvm]; exact htk, hitf⟩ (by rw [hUvm]; exact hready) hkT hmB (hpoly _) hstM hpar.symm rfl
        (by rw [hUheap]; exact hcR) (fun z h => by rw [h] at hoR; cases hoR) (by rw [hc2, Launch.admits_selectMethod X.admits]; exact q4) hmB habM hkP hkPi]
      intro acts'
      rw [doInvoke_state]
      refine st2.trans ?_
      show Steps p.tables e (.java (F0 m pc ls (r.map (rV G))) :: below) (U'.setTop { method := ⟨gY G t, 1⟩, pc := 13, locals := #[.val (.ref (gB G + f)), .val (.int (rI a)), .val (.int (rI b))], stack := [.int (rI z)], locked := none }) _
      jvm_step X'.here [X'.here.top, hx9, hbytes, fwC_13, (show U'.vm.method? ⟨gY G t, 1⟩ = some methk from X'.method'), hretk, (show narrow .boolean (.int (rI z)) = .int (rI z) by rcases hz01 with rfl | rfl <;> decide +kernel)]
      intro acts''
      rw [hleave { method := ⟨gY G t, 1⟩, pc := 13, locals := #[.val (.ref (gB G + f)), .val (.int (rI a)), .val (.int (rI b))], stack := [], locked := none } acts'' rfl rfl rfl]
      exact Steps.refl _
  · cases hz
end XLC
