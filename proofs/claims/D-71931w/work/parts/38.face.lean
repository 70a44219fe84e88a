/-! ===== calls through interfaces ===== -/
set_option maxRecDepth 100000
theorem KK.pub {G : SmG} {U : State} {y : MethodName} (h : KK G U) (hw : Cond.publicMethod y ∈ lw_tbl) : va_Nw (.publicMethod y) U := h.tbl hw rfl (fun s hW hZ => va_tabs rfl (rfl : (s.setVm U.vm).vm = U.vm) (by rw [Cond.publicMethod_setVm hW.alike]; exact hZ))
theorem KK.unh {G : SmG} {U : State} {C n d : String} (h : KK G U) (hw : Cond.unhidden C n d ∈ lw_tbl) : va_Nw (.unhidden C n d) U := h.tbl hw rfl (fun s hW hZ => va_tabs rfl (rfl : (s.setVm U.vm).vm = U.vm) (by rw [Cond.unhidden_setVm hW.alike]; exact hZ))
theorem ifm_warm {s U : State} {ref owner n d : String} (hW : s.WarmedH U.vm) (hZ : va_Nw (.interfaceMethod ref owner n d) s) : va_Nw (.interfaceMethod ref owner n d) U := va_tabs (A := #[]) rfl (rfl : (s.setVm U.vm).vm = U.vm) (by
  have hZ' : (Cond.interfaceMethod ref owner n d).before #[] s = true := hZ
  simp only [Cond.before, Cond.holds, Cond.value, State.vm_setVm, hW.alike.findClass, State.methodFound?_setVm hW.alike, State.methodNamed?_setVm hW.alike, arm_isInterface_setVm hW.alike] at hZ' ⊢
  exact hZ')
theorem KK.ifm {G : SmG} {U : State} {ref owner n d : String} (h : KK G U) (hw : Cond.interfaceMethod ref owner n d ∈ lw_tbl ∨ Cond.interfaceMethod ref owner n d ∈ cLv narrow_1) : va_Nw (.interfaceMethod ref owner n d) U := by
  obtain ⟨s0, b, h1, h2, h3, h4, -⟩ := h
  rw [Cond.before_and, Bool.and_eq_true] at h2
  rcases hw with hw | hw
  · exact ifm_warm h4 (va_Nw.of rfl (h1 _ hw))
  · exact ifm_warm h4 (va_Nw.of rfl (cLv_all _ h2.2 _ hw))
theorem KK.gd {G : SmG} {U : State} {w : Cond} {a' : Array Value} (h : KK G U) (hg : goodWord w = true) (hw : w ∈ lw_tbl ∨ w ∈ cLv narrow_1) : w.before a' U = true := by
  obtain ⟨s0, b, h1, h2, h3, h4, -⟩ := h
  rw [Cond.before_and, Bool.and_eq_true] at h2
  rcases hw with hw | hw
  · exact word_at h4 (good_of_word hg) (h1 _ hw)
  · exact word_at h4 (good_of_word hg) (cLv_all _ h2.2 _ hw)
/-- the words of a call of x (which J declares) on an object of C that has y for it -/
def faceT (own C J : String) (idx : Nat) (x y : MethodName) (b : ByteArray) (L : Nat) (r : Option FieldType) : Prop :=
  (Cond.methodLink own idx x ∈ lw_tbl ∨ Cond.methodLink own idx x ∈ cLv narrow_1) ∧ Cond.declares ⟨J, x.name, x.desc⟩ ∈ lw_tbl ∧ (Cond.interfaceMethod x.cls J x.name x.desc ∈ lw_tbl ∨ Cond.interfaceMethod x.cls J x.name x.desc ∈ cLv narrow_1) ∧ Cond.selects C ⟨J, x.name, x.desc⟩ y ∈ lw_all ∧ Cond.instanceMethod y ∈ lw_all ∧ Cond.publicMethod y ∈ lw_tbl ∧ Cond.unhidden C x.name x.desc ∈ lw_tbl ∧ Cond.castable C x.cls ∈ lw_tbl ∧ Cond.initialized y.cls ∈ lw_all ∧ Cond.code y b L r ∈ lw_all ∧ (x.cls = J ∨ x.cls ≠ J ∧ (J ≠ "java/lang/invoke/MethodHandle" ∧ J ≠ "java/lang/invoke/VarHandle") ∧ Cond.publicMethod ⟨J, x.name, x.desc⟩ ∈ lw_tbl)
section XF
variable {p : Program} {l : Launch} {e : Env} {R : Room} {s : State} {m : MethodId} {args : Array Value} {below : List Frame} {meth : Method} {c : Code} {H : Heap} {locs : List Loc} {cells slots : Nat}
theorem sm_callIF {G : SmG} {T : State} (X : Stand p l e R s m args below meth c T locs cells slots) (hexec : p.tables.exec = Jvm.exec) (hK9 : KK G s) (hts : ∀ w ∈ lw_all, w.before args s = true) {own C J : String} {index count : Nat} {x y : MethodName} {bytes : ByteArray} {maxL : Nat} {ret : Option FieldType}
    (hown : s.vm.findClass own = some m.cls) (hw : faceT own C J index x y bytes maxL ret) (hx : x.cls ≠ "java/lang/invoke/MethodHandle" ∧ x.cls ≠ "java/lang/invoke/VarHandle")
    {W9 : Nat} {Pre : Pt → Array Value → Prop} {Post : Pt → Array Value → Option Value → Pt → Prop} {PostX : Pt → Array Value → Addr → Pt → Prop} (hK : vx_Back l R p e below s args y 5 W9 Pre Post PostX)
    {b : Addr} {cellB : Cell} {kB : Class} (hcell : T.heap[b]? = some cellB) (hobj : cellB.vm.isStatics = false) (hcls : s.vm.findClass C = some cellB.cls) (hkB : s.vm.classes[cellB.cls]? = some kB)
    {g : JFrame} (hg : g.method = m) (hsize : g.locals.size = c.maxLocals) {argsL rest : List Value} (hlen : ∀ sig, parseMethodDescriptor x.desc = some sig → argsL.length = sig.parameters.length)
    (hstack : g.stack = argsL.reverse ++ .ref b :: rest) (hW : 2 * g.monitorRoom + (rest.map fun v => v.category).sum ≤ W9) (hdg : decode c.code g.pc = .ok (.invokeinterface index count, 5))
    (hpre : ∀ vm₁, s.WarmedH vm₁ → Pre ⟨T.setVm vm₁, locs, cells, slots⟩ (Value.ref b :: argsL).toArray) :
    (∃ (v : Option Value) (vm₁ : Vm) (B : Pt), s.WarmedH vm₁ ∧ Stand p l e R s m args below meth c B.U B.locs B.cells B.slots ∧ Post ⟨T.setVm vm₁, locs, cells, slots⟩ (Value.ref b :: argsL).toArray v B ∧
      ∀ target, Steps p.tables e below (B.U.setTop { g with pc := g.pc + 5, stack := v.toList ++ rest }) target → Steps p.tables e below (T.setTop g) target) ∨
    (∃ (q : Addr) (vm₁ : Vm) (B : Pt), s.WarmedH vm₁ ∧ Stand p l e R s m args below meth c B.U B.locs B.cells B.slots ∧ PostX ⟨T.setVm vm₁, locs, cells, slots⟩ (Value.ref b :: argsL).toArray q B ∧
      Steps p.tables e below (T.setTop g) ((B.U.setTop { g with stack := rest }).pushFrame (.throwing q))) := by
  obtain ⟨w1, w2, w3, w4, w5, w6, w7, w8, w9, w10, w11⟩ := hw
  have hlink : (Cond.methodLink own index x).before args s = true := hK9.gd rfl w1
  have hdecl : (Cond.declares ⟨J, x.name, x.desc⟩).before args s = true := va_Nw.use rfl (hK9.decl w2)
  have hface : (Cond.interfaceMethod x.cls J x.name x.desc).before args s = true := va_Nw.use rfl (hK9.ifm w3)
  obtain ⟨r0, r, hn, hrm, hstR, hsigR⟩ := Cond.declares_spec hdecl
  obtain ⟨cL, kL, r1, hcL, hkL, hiL, hfoundL, hn1⟩ := Cond.interfaceMethod_spec hface
  cases hn.symm.trans hn1
  obtain ⟨hnameR, hdescR⟩ := name_of_methodNamed hn hrm
  obtain ⟨mk, methM, hnamed, hmethM, -, habM⟩ := Cond.instanceMethod_spec (hts _ w5)
  obtain ⟨c2, r2, m2, q1, q2, q3, q4, -⟩ := Cond.selects_spec (hts _ w4)
  cases hcls.symm.trans q1
  cases hnamed.symm.trans q3
  have hr2 : r2 = r0 := by
    have h9 : s.methodFound? J x.name x.desc = some r0 := by
      rcases w11 with h | ⟨h, hJ, -⟩
      · rw [← h]; exact hfoundL
      · exact State.methodFound?_of_named (x := ⟨J, x.name, x.desc⟩) hn hJ
    exact Option.some.inj (q2.symm.trans h9)
  subst hr2
  have hselP : selectMethod e.platform s.vm cellB.cls r2 = .method mk := by rw [Launch.admits_selectMethod X.admits]; exact q4
  have hpubM : hasFlag methM.accessFlags Acc.public_ = true := Cond.publicMethod_spec hnamed hmethM (va_Nw.use (A := args) rfl (hK9.pub w6))
  have hway : ((cellB.cls :: s.vm.superclasses cellB.cls).any fun k => (declaredIn s.vm r.name r.desc k).any fun (_, z) => z.isPrivate || z.isStatic) = false := by
    rw [hnameR, hdescR]; exact Cond.unhidden_spec hcls (va_Nw.use (A := args) rfl (hK9.unh w7))
  obtain ⟨c3, t3, z1, z2, z3⟩ := Cond.castable_spec (va_Nw.use (A := args) rfl (hK9.cast w8))
  cases hcls.symm.trans z1
  cases hcL.symm.trans z2
  have key : ∃ vm₁, Stand p l e R s m args below meth c (T.setVm vm₁) locs cells slots ∧
      ∀ target, (∀ acts, Steps p.tables e below (doInvoke e ((T.setVm vm₁).setTop { g with stack := rest }) acts mk (.ref b :: argsL).toArray).1 target) → Steps p.tables e below (T.setTop g) target := by
    rcases w11 with h | ⟨h, -, w12⟩
    · have hn' : s.methodNamed? x = some r2 := by
        rw [← h] at hn
        exact hn
      have hr0cls : r2.cls = cL := Option.some.inj ((findClass_of_methodNamed hn').symm.trans hcL)
      exact X.invokeinterface hexec hown hlink hn' hrm hstR (by rw [hr0cls]; exact hkL) hiL hx (a := b) (cell := cellB) (kcell := kB) hcell
        (fun z h => by rw [h] at hobj; cases hobj) hkB (by rw [hr0cls]; exact z3) hselP hmethM hway hpubM habM (g := g) hg (argsL := argsL) (rest := rest) (hlen _ hsigR) hstack hdg
    · exact X.invokeinterfaceUp hexec hown hlink hface hdecl (va_Nw.use (A := args) rfl (hK9.pub w12)) h hx hcL hcell (fun z h => by rw [h] at hobj; cases hobj) hkB z3 hn hrm hselP hmethM hway hpubM habM hg (hlen _ hsigR) hstack hdg
  obtain ⟨vm₁, X₁, hstep₁⟩ := key
  rcases hK m meth c ⟨T.setVm vm₁, locs, cells, slots⟩ { g with stack := rest } (.invokeinterface index count) mk (Value.ref b :: argsL).toArray X₁ hg hsize hdg hW (X₁.named hnamed) (hpre vm₁ X₁.warmed) with ⟨v, B, X', hpost, hsteps⟩ | ⟨q, B, X', hpost, hsteps⟩
  · exact Or.inl ⟨v, vm₁, B, X₁.warmed, X', hpost, fun target h => hstep₁ _ fun acts => by rw [doInvoke_state]; exact hsteps.trans h⟩
  · exact Or.inr ⟨q, vm₁, B, X₁.warmed, X', hpost, hstep₁ _ fun acts => by rw [doInvoke_state]; exact hsteps⟩
end XF
section XF2
variable {M M' : SmM} {pc d : Nat} {Rq : SmQ}
theorem xv_callF {idx cnt n t : Nat} {C J : String} {T : u_T} {N : Nat} {x : MethodName} (hd : decode (mC M) pc = .ok (.invokeinterface idx cnt, 5)) (hcl : smCl[t]? = some (C, T, N)) (ht : 1 ≤ t ∧ t < 50) (hok : callOk M' n) (hx : (x.cls ≠ "java/lang/invoke/MethodHandle" ∧ x.cls ≠ "java/lang/invoke/VarHandle") ∧ (parseMethodDescriptor x.desc).map (fun d => d.parameters.length) = some n) (hw : faceT (mN M).cls C J idx x (mN M') (mC M') (mL M') (mR M')) :
    ∀ l st S I, im_callV n t M' d (retK M pc (pc + 5) d Rq l) st S I → SW M pc d Rq l st S I := by
  intro l st S I h
  cases d with
  | zero => cases h
  | succ d =>
    obtain ⟨a, r, hst, hlen, hT, hws, hent, mc, ms, hmc, hms, hbody⟩ := popA_ex h
    intro G p e R s m args below meth c cap H locs cells slots FQ ls hf hr hl hv hs hc hb9 hq
    have hx9 := hf.1
    have hb := hf.2.1
    have hml := hf.2.2.2.1
    have hown := hf.2.2.2.2.2.2.1
    have hts := hf.2.2.2.2.2.2.2.1
    have hKK := hf.2.2.2.2.2.2.2.2.2.1
    have hRf := hf.2.2.2.2.2.2.2.2.2.2.1
    have hRl := hf.2.2.2.2.2.2.2.2.2.2.2
    obtain ⟨k1, k2, k3, k4, k5, k6⟩ := hok
    obtain ⟨hat, hlt, hF⟩ := hr.obj hT ht.1 ht.2
    have hargs : ∀ v ∈ vR (some a) :: (st.take n).reverse, okV v := okc trivial (r0 := st) hv (fun v h => List.mem_of_mem_take (List.mem_reverse.mp h))
    have hM := SW_met (G := G) (cap := sZ S + mc) k1 k2 hent hargs (sC_sBud S mc ms) (sB_sBud S mc ms) hbody
    have hrm := rm_ok (mc := mc) (ms := ms) hRf hRl k3
    have hav : rV G (vR (some a)) = .ref (gB G + a) := by rw [rV_R, rR, Option.map_some, rA_lt hF]; rfl
    have hsp : st.map (rV G) = ((st.take n).reverse.map (rV G)).reverse ++ .ref (gB G + a) :: r.map (rV G) := by
      rw [st_split (n := n), hst, List.map_cons, hav]
    have hPc : ∀ U : State, U.heap = H → s.WarmedH U.vm → smPc G (sZ S + mc) (vR (some a) :: (st.take n).reverse) (sBud S mc ms) I (Value.ref (gB G + a) :: (st.take n).reverse.map (rV G)).toArray U := fun U hU hW => by
      have := smPre (ms := ms) (args := vR (some a) :: (st.take n).reverse) hr hKK hs hmc hU hW
      rw [List.map_cons, hav] at this
      exact this
    obtain ⟨cellB, hcB, hoB, hclB⟩ := va_recv (D := gD G) (cl := smCl) (ws := [(gB G + a, .inr (t, smFs G t (I a) (sP S a)))]) (ci := t) (q0 := 0) hKK.k (one_P hat) hcl rfl
    obtain ⟨kB, hkB, -⟩ := Vm.findClass_spec hclB
    have hcode := hts _ hw.2.2.2.2.2.2.2.2.2.1
    have hini : (Cond.initialized (mN M').cls).before args s = true := hts _ hw.2.2.2.2.2.2.2.2.1
    have hpay : ∀ w ∈ ws_ (mN M') (mC M') (mL M') (mR M'), ∀ a' U, s.WarmedH U.vm → w.before a' U = true := pay_in hts (lw_meth hw.2.2.2.2.2.2.2.2.2.1)
    have hBk : vx_Back (gL G) R p e below s args (mN M') 5 8 (PreOf R mc ms (smPc G (sZ S + mc) (vR (some a) :: (st.take n).reverse) (sBud S mc ms) I)) (PostOf (smQc G (sZ S + mc) fun o S' I' => retK M pc (pc + 5) (d + 1) Rq l r o (sBud S' (sC S - mc) (sB S - ms)) I') mc ms (gA G)) (vx_Post (smXC G (sZ S + mc) fun o S' I' => retK M pc (pc + 5) (d + 1) Rq l r o (sBud S' (sC S - mc) (sB S - ms)) I') mc ms (gA G)) :=
      vx_back (bytes := mC M') (maxL := mL M') (ret := mR M') hM smBlind rfl rfl hrm.1 hrm.2 hpay (List.mem_cons_self) (fun a' U hW => word_at hW (Or.inl (by first | rfl | simp [Cond.onTables, Cond.keeps, Cond.steady])) hini)
    refine call_run (mc := mc) (ms := ms) (rest := r) (Q := retK M pc (pc + 5) (d + 1) Rq l r) (a' := (Value.ref (gB G + a) :: (st.take n).reverse.map (rV G)).toArray) hf hr hl (fun v h => hv v (List.mem_of_mem_drop (by rw [hst]; exact tl1 h))) hs hc hb9 hq hmc hms (fun T0 hT0 X => ?_) (fun o S' I' h => h)
    have hlen9 : ((st.take n).reverse.map (rV G)).length = n := by rw [List.length_map, List.length_reverse, List.length_take]; omega
    rcases sm_callIF X hx9 hKK hts (C := C) (J := J) (bytes := mC M') (maxL := mL M') (ret := mR M') hown hw hx.1 hBk (b := gB G + a) (cellB := cellB) (kB := kB) (by rw [hT0]; exact hcB) hoB hclB hkB (g := F0 m pc ls (st.map (rV G))) rfl (by rw [hml]; exact hl.1) (argsL := (st.take n).reverse.map (rV G)) (rest := r.map (rV G)) (fun sig h => by
        have h2 := hx.2
        rw [h] at h2
        exact hlen9.trans (Option.some.inj h2).symm) hsp (by show 2 * 0 + _ ≤ 8; rw [wsum_r]; omega) (by rw [hb]; exact hd)
      (fun vm₁ hW₁ => ⟨by show cells + mc ≤ R.cells; omega, by show slots + ms ≤ R.slots; omega, hPc (T0.setVm vm₁) hT0 hW₁⟩) with ⟨v, vm₁, ⟨U', l2, c2, s2⟩, hW₁, X', ⟨g', mk, t2, L, e1, e2, hq2, h1, hL, h2, h3⟩, st2⟩ | ⟨q, vm₁, ⟨U', l2, c2, s2⟩, hW₁, X', ⟨g', mk, t2, L, E, ce, e1, e2, hq2, hce, hcv, hcl2, h1, hL, h2, h3⟩, st2⟩
    · dsimp only [Pt.U, Pt.locs, Pt.cells, Pt.slots] at X' e1 e2 h1 h2 h3 st2
      subst h1; subst h2; subst h3
      exact Or.inl ⟨v, (T0.setVm vm₁).calling g' mk (Value.ref (gB G + a) :: (st.take n).reverse.map (rV G)).toArray, t2, U', L, hT0, X', hL, e1, e2, hq2, st2⟩
    · dsimp only [Pt.U, Pt.locs, Pt.cells, Pt.slots] at X' e1 e2 h1 h2 h3 st2 hcl2
      subst h1; subst h2; subst h3
      exact Or.inr ⟨q, (T0.setVm vm₁).calling g' mk (Value.ref (gB G + a) :: (st.take n).reverse.map (rV G)).toArray, t2, U', L, E, ce, hT0, X', hL, e1, e2, hq2, hce, hcv, vx_cls hW₁ hcl2, st2⟩
end XF2
