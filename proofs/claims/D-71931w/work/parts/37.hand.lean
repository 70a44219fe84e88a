/-! ===== methods with handlers ===== -/
set_option maxRecDepth 100000
def callOkH (M' : SmM) (n : Nat) : Prop := plainName (mN M').cls = true ∧ mL M' ≤ 40 ∧ (mN M').cls ≠ "java/lang/invoke/MethodHandle" ∧ (mN M').cls ≠ "java/lang/invoke/VarHandle" ∧ (parseMethodDescriptor (mN M').desc).map (fun d => d.parameters.length) = some n
section XHD
variable {M M' : SmM} {pc d : Nat} {Rq : SmQ}
theorem xv_callVH {idx n t : Nat} {C : String} {T : u_T} {N : Nat} (hd : decode (mC M) pc = .ok (.invokevirtual idx, 3)) (hcl : smCl[t]? = some (C, T, N)) (ht : 1 ≤ t ∧ t < 50) (hok : callOkH M' n) (hC : (mN M').cls = C) (hw : GoodIn lw_all (wsV (mN M).cls idx C (mN M') (wsW_ (mN M') (mC M') (mL M') (mR M') (mH M')))) :
    ∀ l st S I, im_callV n t M' d (retK M pc (pc + 3) d Rq l) st S I → SW M pc d Rq l st S I := by
  intro l st S I h
  cases d with
  | zero => cases h
  | succ d =>
    obtain ⟨a, r, hst, hlen, hT, hws, hent, mc, ms, hmc, hms, hbody⟩ := popA_ex h
    intro G p e R s m args below meth c cap H locs cells slots FQ ls hf hr hl hv hs hc hb9 hq
    have hx := hf.1
    have hb := hf.2.1
    have hml := hf.2.2.2.1
    have hown := hf.2.2.2.2.2.2.1
    have hts := hf.2.2.2.2.2.2.2.1
    have hKK := hf.2.2.2.2.2.2.2.2.2.1
    have hRf := hf.2.2.2.2.2.2.2.2.2.2.1
    have hRl := hf.2.2.2.2.2.2.2.2.2.2.2
    obtain ⟨k2, k3, k4, k5, k6⟩ := hok
    obtain ⟨hat, hlt, hF⟩ := hr.obj hT ht.1 ht.2
    have hargs : ∀ v ∈ vR (some a) :: (st.take n).reverse, okV v := okc trivial (r0 := st) hv (fun v h => List.mem_of_mem_take (List.mem_reverse.mp h))
    have hM := SW_metH (G := G) (cap := sZ S + mc) k2 hent hargs (sC_sBud S mc ms) (sB_sBud S mc ms) hbody
    have hrm := rm_ok (mc := mc) (ms := ms) hRf hRl k3
    have hav : rV G (vR (some a)) = .ref (gB G + a) := by rw [rV_R, rR, Option.map_some, rA_lt hF]; rfl
    have hsp : st.map (rV G) = ((st.take n).reverse.map (rV G)).reverse ++ .ref (gB G + a) :: r.map (rV G) := by
      rw [st_split (n := n), hst, List.map_cons, hav]
    have hPc : ∀ U : State, U.heap = H → s.WarmedH U.vm → smPc G (sZ S + mc) (vR (some a) :: (st.take n).reverse) (sBud S mc ms) I (Value.ref (gB G + a) :: (st.take n).reverse.map (rV G)).toArray U := fun U hU hW => by
      have := smPre (ms := ms) (args := vR (some a) :: (st.take n).reverse) hr hKK hs hmc hU hW
      rw [List.map_cons, hav] at this
      exact this
    have hrecv := va_recv (D := gD G) (cl := smCl) (ws := [(gB G + a, .inr (t, smFs G t (I a) (sP S a)))]) (ci := t) (q0 := 0) hKK.k (one_P hat) hcl rfl
    have hrun := vx_runVX (e := e) (below := below) (meth := meth) (locs := locs) (cells := cells) (slots := slots) (mc := mc) (ms := ms) (As := (st.take n).reverse.map (rV G)) (rest := r.map (rV G)) (g := F0 m pc ls (st.map (rV G))) ⟨hx, hb, hml, hown, hts⟩ hM (vx_cwVW (C := C) n hts hw rfl rfl rfl ⟨hC, k4, k5, k6⟩ hrm) ⟨smBlind, hrecv, hPc⟩ rfl (by rw [List.length_map, List.length_reverse, List.length_take]; omega) hl.1 hsp (by show 2 * 0 + _ ≤ 8; rw [wsum_r]; omega) hd ⟨by omega, by omega⟩
    exact call_run hf hr hl (fun v h => hv v (List.mem_of_mem_drop (by rw [hst]; exact tl1 h))) hs hc hb9 hq hmc hms hrun (fun o S' I' h => h)
/-- a handler takes it -/
theorem EX_catch {l : SmL} {q t : Nat} {S : SmS} {I : SmI} {C nm : String} {T : u_T} {N : Nat} (hcl : smCl[t]? = some (C, T, N)) (pre : List ExceptionTableEntry) (x : ExceptionTableEntry) (suf : List ExceptionTableEntry) (hsplit : tableOf (mH M) = pre ++ x :: suf)
    (hpass : ∀ z ∈ pre, covers z pc = false ∨ (z.catchType ≠ 0 ∧ ∃ nm : String, Cond.classLink (mN M).cls z.catchType nm ∈ lw_all ∧ Cond.not (.castable C nm) ∈ cLv narrow_1)) (hx : covers x pc = true) (h0 : x.catchType ≠ 0) (hlink : Cond.classLink (mN M).cls x.catchType nm ∈ lw_all) (hcast : Cond.castable C nm ∈ lw_tbl)
    (hT : sT S q = t) (h : SW M x.handlerPc d Rq l [vR (some q)] S I) : EX M pc d Rq l q S I := by
  intro G p e R s m args below meth c cap H locs cells slots FQ ls rest hf hr hl hs hc hb9 hq h3
  have hown := hf.2.2.2.2.2.2.1
  have hts := hf.2.2.2.2.2.2.2.1
  have htab := hf.2.2.2.2.2.2.2.2.1.1
  have hKK := hf.2.2.2.2.2.2.2.2.2.1
  rw [hT] at h3
  obtain ⟨hcell, hlt, hF⟩ := hr.obj hT h3.1 (by omega)
  obtain ⟨r, g1, cell, g2, g3, g4, -⟩ := hcell
  rw [hcl] at g1
  cases g1
  have hcl9 : s.vm.findClass C = some cell.cls := by rw [g3]; exact (hKK.k.1 _ _ hcl).2.1
  refine vx_catch (E := C) (name := nm) hown pre x suf (by rw [htab]; exact hsplit) (fun z hz => ?_) hx h0 (hts _ hlink) (va_Nw.use rfl (hKK.cast hcast)) g2 g4 hcl9 ?_
  · rcases hpass z hz with z1 | ⟨z1, nm', z2, z3⟩
    · exact Or.inl z1
    · exact Or.inr ⟨z1, nm', hts _ z2, hKK.nc z3⟩
  · have := h G p e R s m args below meth c cap H locs cells slots FQ ls hf hr hl (fun v hv => by cases List.mem_singleton.mp hv; exact trivial) hs hc hb9 hq
    rw [List.map_cons, rV_R, rR, Option.map_some, rA_lt hF] at this
    exact this
end XHD
