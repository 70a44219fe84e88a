/-! ===== calls of inherited methods ===== -/
set_option maxRecDepth 100000
/-- the words of a call of x, which its class has from owner -/
theorem wsU_in {own C owner : String} {idx : Nat} {x y : MethodName} {b : ByteArray} {L : Nat} {r : Option FieldType} (h1 : Cond.methodLink own idx x ∈ lw_all) (h2 : Cond.sameMethod x.cls owner x.name x.desc ∈ lw_all) (h3 : Cond.selects C x y ∈ lw_all) (h4 : Cond.instanceMethod y ∈ lw_all) (h5 : Cond.initialized y.cls ∈ lw_all) (h6 : Cond.code y b L r ∈ lw_all) : GoodIn lw_all (va_wsU own idx C owner x y (ws_ y b L r)) := by
  refine lw_app ?_ (lw_meth h6)
  intro w hw
  simp only [List.mem_cons, List.not_mem_nil, or_false] at hw
  rcases hw with e | e | e | e | e
  · rw [e]; exact h1
  · rw [e]; exact h2
  · rw [e]; exact h3
  · rw [e]; exact h4
  · rw [e]; exact h5
section XU
variable {M M' : SmM} {pc d : Nat} {Rq : SmQ}
theorem xv_callU {idx n t : Nat} {C owner : String} {T : u_T} {N : Nat} {x : MethodName} (hd : decode (mC M) pc = .ok (.invokevirtual idx, 3)) (hcl : smCl[t]? = some (C, T, N)) (ht : 1 ≤ t ∧ t < 50) (hok : callOk M' n) (hy : mN M' = ⟨owner, x.name, x.desc⟩) (hw : GoodIn lw_all (va_wsU (mN M).cls idx C owner x (mN M') (ws_ (mN M') (mC M') (mL M') (mR M')))) :
    ∀ l st S I, im_callV n t M' d (retK M pc (pc + 3) d Rq l) st S I → SW M pc d Rq l st S I := by
  intro l st S I h
  cases d with
  | zero => cases h
  | succ d =>
    obtain ⟨a, r, hst, hlen, hT, hws, hent, mc, ms, hmc, hms, hbody⟩ := popA_ex h
    intro G p e R s m args below meth c cap H locs cells slots FQ ls hf hr hl hv hs hc hb9 hq
    have hx := hf.1
    have hb := hf.2.1
    have hml := hf.2.2.2.1
    have hown := hf.2.2.2.2.2.2.1
    have hts := hf.2.2.2.2.2.2.2.1
    have hKK := hf.2.2.2.2.2.2.2.2.2.1
    have hRf := hf.2.2.2.2.2.2.2.2.2.2.1
    have hRl := hf.2.2.2.2.2.2.2.2.2.2.2
    obtain ⟨k1, k2, k3, k4, k5, k6⟩ := hok
    obtain ⟨hat, hlt, hF⟩ := hr.obj hT ht.1 ht.2
    have hargs : ∀ v ∈ vR (some a) :: (st.take n).reverse, okV v := okc trivial (r0 := st) hv (fun v h => List.mem_of_mem_take (List.mem_reverse.mp h))
    have hM := SW_met (G := G) (cap := sZ S + mc) k1 k2 hent hargs (sC_sBud S mc ms) (sB_sBud S mc ms) hbody
    have hrm := rm_ok (mc := mc) (ms := ms) hRf hRl k3
    have hav : rV G (vR (some a)) = .ref (gB G + a) := by rw [rV_R, rR, Option.map_some, rA_lt hF]; rfl
    have hsp : st.map (rV G) = ((st.take n).reverse.map (rV G)).reverse ++ .ref (gB G + a) :: r.map (rV G) := by
      rw [st_split (n := n), hst, List.map_cons, hav]
    have hPc : ∀ U : State, U.heap = H → s.WarmedH U.vm → smPc G (sZ S + mc) (vR (some a) :: (st.take n).reverse) (sBud S mc ms) I (Value.ref (gB G + a) :: (st.take n).reverse.map (rV G)).toArray U := fun U hU hW => by
      have := smPre (ms := ms) (args := vR (some a) :: (st.take n).reverse) hr hKK hs hmc hU hW
      rw [List.map_cons, hav] at this
      exact this
    have hrecv := va_recv (D := gD G) (cl := smCl) (ws := [(gB G + a, .inr (t, smFs G t (I a) (sP S a)))]) (ci := t) (q0 := 0) hKK.k (one_P hat) hcl rfl
    have h4 : owner ≠ "java/lang/invoke/MethodHandle" ∧ owner ≠ "java/lang/invoke/VarHandle" := by rw [hy] at k4 k5; exact ⟨k4, k5⟩
    have h6 : (parseMethodDescriptor x.desc).map (fun d => d.parameters.length) = some n := by rw [hy] at k6; exact k6
    have hrun := vx_runU (e := e) (below := below) (meth := meth) (locs := locs) (cells := cells) (slots := slots) (mc := mc) (ms := ms) (As := (st.take n).reverse.map (rV G)) (rest := r.map (rV G)) (g := F0 m pc ls (st.map (rV G))) ⟨hx, hb, hml, hown, hts⟩ hM (va_cwU (C := C) n hts hw rfl rfl rfl hy ⟨h4.1, h4.2, h6⟩ hrm) ⟨smBlind, hrecv, hPc⟩ rfl (by rw [List.length_map, List.length_reverse, List.length_take]; omega) hl.1 hsp (by show 2 * 0 + _ ≤ 8; rw [wsum_r]; omega) hd ⟨by omega, by omega⟩
    exact call_run hf hr hl (fun v h => hv v (List.mem_of_mem_drop (by rw [hst]; exact tl1 h))) hs hc hb9 hq hmc hms hrun (fun o S' I' h => h)
/-- super.x(..), which the superclass has from owner, the superclass's own superclass -/
def superT (own owner : String) (idx : Nat) (x y : MethodName) (b : ByteArray) (L : Nat) (r : Option FieldType) : Prop :=
  Cond.methodLink own idx x ∈ lw_all ∧ Cond.sameMethod x.cls owner x.name x.desc ∈ lw_all ∧ Cond.superclass own x.cls ∈ lw_all ∧ Cond.superclass x.cls owner ∈ lw_all ∧ Cond.instanceMethod y ∈ lw_all ∧ Cond.initialized y.cls ∈ lw_all ∧ Cond.code y b L r ∈ lw_all
theorem xv_callSU {idx n t : Nat} {C owner : String} {T : u_T} {N : Nat} {x : MethodName} (hd : decode (mC M) pc = .ok (.invokespecial idx, 3)) (hcl : smCl[t]? = some (C, T, N)) (ht : 1 ≤ t ∧ t < 50) (hok : callOk M' n) (hy : mN M' = ⟨owner, x.name, x.desc⟩) (hno : x.name ≠ "<init>") (hw : superT (mN M).cls owner idx x (mN M') (mC M') (mL M') (mR M')) :
    ∀ l st S I, im_callV n t M' d (retK M pc (pc + 3) d Rq l) st S I → SW M pc d Rq l st S I := by
  intro l st S I h
  cases d with
  | zero => cases h
  | succ d =>
    obtain ⟨a, r, hst, hlen, hT, hws, hent, mc, ms, hmc, hms, hbody⟩ := popA_ex h
    intro G p e R s m args below meth c cap H locs cells slots FQ ls hf hr hl hv hs hc hb9 hq
    have hx9 := hf.1
    have hb := hf.2.1
    have hml := hf.2.2.2.1
    have hown := hf.2.2.2.2.2.2.1
    have hts := hf.2.2.2.2.2.2.2.1
    have hKK := hf.2.2.2.2.2.2.2.2.2.1
    have hRf := hf.2.2.2.2.2.2.2.2.2.2.1
    have hRl := hf.2.2.2.2.2.2.2.2.2.2.2
    obtain ⟨k1, k2, k3, k4, k5, k6⟩ := hok
    obtain ⟨hat, hlt, hF⟩ := hr.obj hT ht.1 ht.2
    have hargs : ∀ v ∈ vR (some a) :: (st.take n).reverse, okV v := okc trivial (r0 := st) hv (fun v h => List.mem_of_mem_take (List.mem_reverse.mp h))
    have hM := SW_met (G := G) (cap := sZ S + mc) k1 k2 hent hargs (sC_sBud S mc ms) (sB_sBud S mc ms) hbody
    have hrm := rm_ok (mc := mc) (ms := ms) hRf hRl k3
    have hav : rV G (vR (some a)) = .ref (gB G + a) := by rw [rV_R, rR, Option.map_some, rA_lt hF]; rfl
    have hsp : st.map (rV G) = ((st.take n).reverse.map (rV G)).reverse ++ .ref (gB G + a) :: r.map (rV G) := by
      rw [st_split (n := n), hst, List.map_cons, hav]
    have hPc : ∀ U : State, U.heap = H → s.WarmedH U.vm → smPc G (sZ S + mc) (vR (some a) :: (st.take n).reverse) (sBud S mc ms) I (Value.ref (gB G + a) :: (st.take n).reverse.map (rV G)).toArray U := fun U hU hW => by
      have := smPre (ms := ms) (args := vR (some a) :: (st.take n).reverse) hr hKK hs hmc hU hW
      rw [List.map_cons, hav] at this
      exact this
    obtain ⟨cellB, hcB, hoB, hclB⟩ := va_recv (D := gD G) (cl := smCl) (ws := [(gB G + a, .inr (t, smFs G t (I a) (sP S a)))]) (ci := t) (q0 := 0) hKK.k (one_P hat) hcl rfl
    obtain ⟨kB, hkB, -⟩ := Vm.findClass_spec hclB
    obtain ⟨w1, w2, w3, w4, w5, w6, w7⟩ := hw
    have hcode := hts _ w7
    have hini : (Cond.initialized (mN M').cls).before args s = true := hts _ w6
    have hpay : ∀ w ∈ ws_ (mN M') (mC M') (mL M') (mR M'), ∀ a' U, s.WarmedH U.vm → w.before a' U = true := pay_in hts (lw_meth w7)
    have hBk : vx_Back (gL G) R p e below s args (mN M') 3 8 (PreOf R mc ms (smPc G (sZ S + mc) (vR (some a) :: (st.take n).reverse) (sBud S mc ms) I)) (PostOf (smQc G (sZ S + mc) fun o S' I' => retK M pc (pc + 3) (d + 1) Rq l r o (sBud S' (sC S - mc) (sB S - ms)) I') mc ms (gA G)) (vx_Post (smXC G (sZ S + mc) fun o S' I' => retK M pc (pc + 3) (d + 1) Rq l r o (sBud S' (sC S - mc) (sB S - ms)) I') mc ms (gA G)) :=
      vx_back (bytes := mC M') (maxL := mL M') (ret := mR M') hM smBlind rfl rfl hrm.1 hrm.2 hpay (List.mem_cons_self) (fun a' U hW => word_at hW (Or.inl (by first | rfl | simp [Cond.onTables, Cond.keeps, Cond.steady])) hini)
    obtain ⟨mk, methM, hnamed, hmethM, hstM, habM⟩ := Cond.instanceMethod_spec (hts _ w5)
    obtain ⟨methM', cM, hmethM', -, -, -, -, -, -, hsigM⟩ := Cond.code_spec hnamed hcode
    cases hmethM.symm.trans hmethM'
    obtain ⟨ps, dk, kp, hps, hdk, hkp, hsuper, -, -, hnid⟩ := Cond.superclass_spec hown (hts _ w3)
    obtain ⟨ps2, dk2, kp2, hps2, hdk2, hkp2, hsuper2, -⟩ := Cond.superclass_spec hps (hts _ w4)
    have hn : s.methodNamed? ⟨owner, x.name, x.desc⟩ = some mk := by rw [← hy]; exact hnamed
    have hpm : ps2 = mk.cls := Option.some.inj (hps2.symm.trans (findClass_of_methodNamed hn))
    have hsub : s.vm.isSubclass ps mk.cls = true := by
      rw [← hpm]
      have hz : 0 < s.vm.classes.size := Nat.lt_of_le_of_lt (Nat.zero_le _) (Array.getElem?_eq_some_iff.mp hdk2).1
      obtain ⟨k, hk⟩ : ∃ k, s.vm.classes.size = k + 1 := ⟨s.vm.classes.size - 1, by omega⟩
      simp [Vm.isSubclass, hk, Vm.isSubclassAux, hdk2, hsuper2]
    refine call_run (mc := mc) (ms := ms) (rest := r) (Q := retK M pc (pc + 3) (d + 1) Rq l r) (a' := (Value.ref (gB G + a) :: (st.take n).reverse.map (rV G)).toArray) hf hr hl (fun v h => hv v (List.mem_of_mem_drop (by rw [hst]; exact tl1 h))) hs hc hb9 hq hmc hms (fun T0 hT0 X => ?_) (fun o S' I' h => h)
    have hlen9 : ((st.take n).reverse.map (rV G)).length = n := by rw [List.length_map, List.length_reverse, List.length_take]; omega
    obtain ⟨vm₁, X₁, hstep₁⟩ := X.invokespecialUp hx9 hown (hts _ w1) (hts _ w2) hn hmethM hstM habM hno hdk hnid hps hsuper hsub (a := gB G + a) (cell := cellB) (by rw [hT0]; exact hcB)
      (fun z h => by rw [h] at hoB; cases hoB) hkB (g := F0 m pc ls (st.map (rV G))) rfl (argsL := (st.take n).reverse.map (rV G)) (rest := r.map (rV G)) (by
        rw [hlen9]
        have h2 := k6
        rw [hsigM] at h2
        exact (Option.some.inj h2).symm) hsp (by rw [hb]; exact hd)
    rcases hBk m meth c ⟨T0.setVm vm₁, locs, cells, slots⟩ { F0 m pc ls (st.map (rV G)) with stack := r.map (rV G) } (.invokespecial idx) mk (Value.ref (gB G + a) :: (st.take n).reverse.map (rV G)).toArray X₁ rfl (by rw [hml]; exact hl.1) (by rw [hb]; exact hd) (by show 2 * 0 + _ ≤ 8; rw [wsum_r]; omega) (X₁.named hnamed) ⟨by show cells + mc ≤ R.cells; omega, by show slots + ms ≤ R.slots; omega, hPc (T0.setVm vm₁) hT0 X₁.warmed⟩ with ⟨v, ⟨U', l2, c2, s2⟩, X', ⟨g', mk', t2, L, e1, e2, hq2, h1, hL, h2, h3⟩, st2⟩ | ⟨q, ⟨U', l2, c2, s2⟩, X', ⟨g', mk', t2, L, E, ce, e1, e2, hq2, hce, hcv, hcl2, h1, hL, h2, h3⟩, st2⟩
    · dsimp only [Pt.U, Pt.locs, Pt.cells, Pt.slots] at X' e1 e2 h1 h2 h3 st2
      subst h1; subst h2; subst h3
      exact Or.inl ⟨v, (T0.setVm vm₁).calling g' mk' (Value.ref (gB G + a) :: (st.take n).reverse.map (rV G)).toArray, t2, U', L, hT0, X', hL, e1, e2, hq2, fun target h => hstep₁ _ (by rw [doInvoke_state]; exact st2.trans h)⟩
    · dsimp only [Pt.U, Pt.locs, Pt.cells, Pt.slots] at X' e1 e2 h1 h2 h3 st2 hcl2
      subst h1; subst h2; subst h3
      exact Or.inr ⟨q, (T0.setVm vm₁).calling g' mk' (Value.ref (gB G + a) :: (st.take n).reverse.map (rV G)).toArray, t2, U', L, E, ce, hT0, X', hL, e1, e2, hq2, hce, hcv, vx_cls X₁.warmed hcl2, hstep₁ _ (by rw [doInvoke_state]; exact st2)⟩
end XU
