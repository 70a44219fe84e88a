/-! ===== returns; calls of nest mates, constructors ===== -/
set_option maxRecDepth 100000
section RETS
variable {M M' : SmM} {pc d : Nat} {Rq : SmQ}
def im_ireturn (Rq : SmQ) (_ : SmL) (st : List SmV) (S : SmS) (I : SmI) : Prop := popI st fun z r => r = [] ∧ Rq (.inl (some (vI z))) S I
def im_zreturn (Rq : SmQ) (_ : SmL) (st : List SmV) (S : SmS) (I : SmI) : Prop := popI st fun z r => r = [] ∧ chk (z = 0 ∨ z = 1) ∧ Rq (.inl (some (vI z))) S I
def im_areturn (Rq : SmQ) (_ : SmL) (st : List SmV) (S : SmS) (I : SmI) : Prop := popR st fun z r => r = [] ∧ Rq (.inl (some (vR z))) S I
def im_return (Rq : SmQ) (_ : SmL) (st : List SmV) (S : SmS) (I : SmI) : Prop := st = [] ∧ Rq (.inl none) S I
theorem xv_ireturn (hd : decode (mC M) pc = .ok (.ireturn, 1)) (hR : mR M = some .int) : SmW M pc d Rq (fun l st S I => im_ireturn Rq l st S I) := by
  intro l st S I h
  obtain ⟨z, r, rfl, rfl, h9⟩ := popI_ex h
  intro G p e R s m args below meth c cap H locs cells slots FQ ls hf hr hl hv hs hc hb hq
  exact hq (.inl (some (vI z))) S I H locs cells slots pc ls [] h9 hr hs hc hb ⟨⟨.int, hR, rfl⟩, hv (vI z) List.mem_cons_self, hd⟩
theorem xv_zreturn (hd : decode (mC M) pc = .ok (.ireturn, 1)) (hR : mR M = some .boolean) : SmW M pc d Rq (fun l st S I => im_zreturn Rq l st S I) := by
  intro l st S I h
  obtain ⟨z, r, rfl, rfl, h0, h9⟩ := popI_ex h
  intro G p e R s m args below meth c cap H locs cells slots FQ ls hf hr hl hv hs hc hb hq
  exact hq (.inl (some (vI z))) S I H locs cells slots pc ls [] h9 hr hs hc hb ⟨⟨.boolean, hR, by rcases h0 with rfl | rfl <;> decide +kernel⟩, hv (vI z) List.mem_cons_self, hd⟩
theorem xv_areturn {rt : FieldType} (hd : decode (mC M) pc = .ok (.areturn, 1)) (hR : mR M = some rt) (hrt : isRefTy rt = true) : SmW M pc d Rq (fun l st S I => im_areturn Rq l st S I) := by
  intro l st S I h
  obtain ⟨z, r, rfl, rfl, h9⟩ := popR_ex h
  intro G p e R s m args below meth c cap H locs cells slots FQ ls hf hr hl hv hs hc hb hq
  exact hq (.inl (some (vR z))) S I H locs cells slots pc ls [] h9 hr hs hc hb ⟨⟨rt, hR, hrt⟩, hd⟩
theorem xv_return (hd : decode (mC M) pc = .ok (.return_, 1)) (hR : mR M = none) : SmW M pc d Rq (fun l st S I => im_return Rq l st S I) := by
  intro l st S I h
  obtain ⟨rfl, h9⟩ := h
  intro G p e R s m args below meth c cap H locs cells slots FQ ls hf hr hl hv hs hc hb hq
  exact hq (.inl none) S I H locs cells slots pc ls [] h9 hr hs hc hb ⟨hR, hd⟩
/-- a nest mate's static method -/
theorem xv_callSN {idx n : Nat} {host : String} (hd : decode (mC M) pc = .ok (.invokestatic idx, 3)) (hok : callOk M' n) (hl9 : Cond.methodLinkNest (mN M).cls idx (mN M') host ∈ lw_tbl) (hst : Cond.static (mN M') ∈ lw_all) (hini : Cond.initialized (mN M').cls ∈ lw_all) (hcode : Cond.code (mN M') (mC M') (mL M') (mR M') ∈ lw_all) :
    ∀ l st S I, im_callS n M' d (retK M pc (pc + 3) d Rq l) st S I → SW M pc d Rq l st S I := by
  intro l st S I h
  cases d with
  | zero => cases h
  | succ d =>
    obtain ⟨hlen, hws, hent, mc, ms, hmc, hms, hbody⟩ := h
    intro G p e R s m args below meth c cap H locs cells slots FQ ls hf hr hl hv hs hc hb9 hq
    have hx := hf.1
    have hb := hf.2.1
    have hml := hf.2.2.2.1
    have hown := hf.2.2.2.2.2.2.1
    have hts := hf.2.2.2.2.2.2.2.1
    have hKK := hf.2.2.2.2.2.2.2.2.2.1
    have hRf := hf.2.2.2.2.2.2.2.2.2.2.1
    have hRl := hf.2.2.2.2.2.2.2.2.2.2.2
    obtain ⟨k1, k2, k3, k4, k5, k6⟩ := hok
    have hargs : ∀ v ∈ (st.take n).reverse, okV v := fun v h => hv v (List.mem_of_mem_take (List.mem_reverse.mp h))
    have hM := SW_met (G := G) (cap := sZ S + mc) k1 k2 hent hargs (sC_sBud S mc ms) (sB_sBud S mc ms) hbody
    have hrm := rm_ok (mc := mc) (ms := ms) hRf hRl k3
    have hrun := vx_runSN (e := e) (below := below) (meth := meth) (locs := locs) (cells := cells) (slots := slots) (mc := mc) (ms := ms) (As := (st.take n).reverse.map (rV G)) (rest := (st.drop n).map (rV G)) (g := F0 m pc ls (st.map (rV G))) ⟨hx, hb, hml, hown, hts⟩ hM ⟨va_cnB n hts (lw_meth hcode) rfl rfl rfl (hKK.tbl hl9 rfl (fun _ hW hZ => va_Nw.warmM hW hZ)) (hts _ hini) ⟨k4, k5, k6⟩ hrm, hts _ hst, trivial⟩ ⟨smBlind, fun U hU hW => smPre hr hKK hs hmc hU hW⟩ rfl (by rw [List.length_map, List.length_reverse, List.length_take]; omega) hl.1 st_split (by show 2 * 0 + _ ≤ 8; rw [wsum_r]; omega) hd ⟨by omega, by omega⟩
    exact call_run hf hr hl (fun v h => hv v (List.mem_of_mem_drop h)) hs hc hb9 hq hmc hms hrun (fun o S' I' h => h)
/-- a constructor -/
theorem xv_callI {idx n t : Nat} (hd : decode (mC M) pc = .ok (.invokespecial idx, 3)) (ht : 1 ≤ t ∧ t < 50) (hok : callOk M' n) (hR : mR M' = none) (hnm : (mN M').name = "<init>") (hl9 : Cond.methodLink (mN M).cls idx (mN M') ∈ lw_all) (hin : Cond.instanceMethod (mN M') ∈ lw_all) (hini : Cond.initialized (mN M').cls ∈ lw_all) (hcode : Cond.code (mN M') (mC M') (mL M') none ∈ lw_all) :
    ∀ l st S I, im_callV n t M' d (retK M pc (pc + 3) d Rq l) st S I → SW M pc d Rq l st S I := by
  intro l st S I h
  cases d with
  | zero => cases h
  | succ d =>
    obtain ⟨a, r, hst, hlen, hT, hws, hent, mc, ms, hmc, hms, hbody⟩ := popA_ex h
    intro G p e R s m args below meth c cap H locs cells slots FQ ls hf hr hl hv hs hc hb9 hq
    have hx := hf.1
    have hb := hf.2.1
    have hml := hf.2.2.2.1
    have hown := hf.2.2.2.2.2.2.1
    have hts := hf.2.2.2.2.2.2.2.1
    have hKK := hf.2.2.2.2.2.2.2.2.2.1
    have hRf := hf.2.2.2.2.2.2.2.2.2.2.1
    have hRl := hf.2.2.2.2.2.2.2.2.2.2.2
    obtain ⟨k1, k2, k3, k4, k5, k6⟩ := hok
    obtain ⟨hat, hlt, hF⟩ := hr.obj hT ht.1 ht.2
    have hargs : ∀ v ∈ vR (some a) :: (st.take n).reverse, okV v := okc trivial (r0 := st) hv (fun v h => List.mem_of_mem_take (List.mem_reverse.mp h))
    have hM := SW_met (G := G) (cap := sZ S + mc) k1 k2 hent hargs (sC_sBud S mc ms) (sB_sBud S mc ms) hbody
    rw [hR] at hM
    have hrm := rm_ok (mc := mc) (ms := ms) hRf hRl k3
    have hav : rV G (vR (some a)) = .ref (gB G + a) := by rw [rV_R, rR, Option.map_some, rA_lt hF]; rfl
    have hsp : st.map (rV G) = ((st.take n).reverse.map (rV G)).reverse ++ .ref (gB G + a) :: r.map (rV G) := by
      rw [st_split (n := n), hst, List.map_cons, hav]
    have hPc : ∀ U : State, U.heap = H → s.WarmedH U.vm → smPc G (sZ S + mc) (vR (some a) :: (st.take n).reverse) (sBud S mc ms) I (Value.ref (gB G + a) :: (st.take n).reverse.map (rV G)).toArray U := fun U hU hW => by
      have := smPre (ms := ms) (args := vR (some a) :: (st.take n).reverse) hr hKK hs hmc hU hW
      rw [List.map_cons, hav] at this
      exact this
    have hrun := vx_runI (e := e) (below := below) (meth := meth) (locs := locs) (cells := cells) (slots := slots) (mc := mc) (ms := ms) (As := (st.take n).reverse.map (rV G)) (rest := r.map (rV G)) (g := F0 m pc ls (st.map (rV G))) ⟨hx, hb, hml, hown, hts⟩ hM (cwI n hts (lw_meth hcode) rfl rfl rfl (hts _ hini) (hts _ hl9) (hts _ hin) hnm ⟨k4, k5, k6⟩ hrm) ⟨smBlind, hPc⟩ rfl (by rw [List.length_map, List.length_reverse, List.length_take]; omega) hl.1 hsp (by show 2 * 0 + _ ≤ 8; rw [wsum_r]; omega) hd ⟨by omega, by omega⟩
    exact call_run hf hr hl (fun v h => hv v (List.mem_of_mem_drop (by rw [hst]; exact tl1 h))) hs hc hb9 hq hmc hms hrun (fun o S' I' h => h)
/-- a nest mate's private constructor -/
theorem xv_callIN {idx n t : Nat} {host : String} (hd : decode (mC M) pc = .ok (.invokespecial idx, 3)) (ht : 1 ≤ t ∧ t < 50) (hok : callOk M' n) (hR : mR M' = none) (hnm : (mN M').name = "<init>") (hl9 : Cond.methodLinkNest (mN M).cls idx (mN M') host ∈ lw_tbl) (hin : Cond.instanceMethod (mN M') ∈ lw_all) (hini : Cond.initialized (mN M').cls ∈ lw_all) (hcode : Cond.code (mN M') (mC M') (mL M') none ∈ lw_all) :
    ∀ l st S I, im_callV n t M' d (retK M pc (pc + 3) d Rq l) st S I → SW M pc d Rq l st S I := by
  intro l st S I h
  cases d with
  | zero => cases h
  | succ d =>
    obtain ⟨a, r, hst, hlen, hT, hws, hent, mc, ms, hmc, hms, hbody⟩ := popA_ex h
    intro G p e R s m args below meth c cap H locs cells slots FQ ls hf hr hl hv hs hc hb9 hq
    have hx := hf.1
    have hb := hf.2.1
    have hml := hf.2.2.2.1
    have hown := hf.2.2.2.2.2.2.1
    have hts := hf.2.2.2.2.2.2.2.1
    have hKK := hf.2.2.2.2.2.2.2.2.2.1
    have hRf := hf.2.2.2.2.2.2.2.2.2.2.1
    have hRl := hf.2.2.2.2.2.2.2.2.2.2.2
    obtain ⟨k1, k2, k3, k4, k5, k6⟩ := hok
    obtain ⟨hat, hlt, hF⟩ := hr.obj hT ht.1 ht.2
    have hargs : ∀ v ∈ vR (some a) :: (st.take n).reverse, okV v := okc trivial (r0 := st) hv (fun v h => List.mem_of_mem_take (List.mem_reverse.mp h))
    have hM := SW_met (G := G) (cap := sZ S + mc) k1 k2 hent hargs (sC_sBud S mc ms) (sB_sBud S mc ms) hbody
    rw [hR] at hM
    have hrm := rm_ok (mc := mc) (ms := ms) hRf hRl k3
    have hav : rV G (vR (some a)) = .ref (gB G + a) := by rw [rV_R, rR, Option.map_some, rA_lt hF]; rfl
    have hsp : st.map (rV G) = ((st.take n).reverse.map (rV G)).reverse ++ .ref (gB G + a) :: r.map (rV G) := by
      rw [st_split (n := n), hst, List.map_cons, hav]
    have hPc : ∀ U : State, U.heap = H → s.WarmedH U.vm → smPc G (sZ S + mc) (vR (some a) :: (st.take n).reverse) (sBud S mc ms) I (Value.ref (gB G + a) :: (st.take n).reverse.map (rV G)).toArray U := fun U hU hW => by
      have := smPre (ms := ms) (args := vR (some a) :: (st.take n).reverse) hr hKK hs hmc hU hW
      rw [List.map_cons, hav] at this
      exact this
    have hrun := vx_runIN (e := e) (below := below) (meth := meth) (locs := locs) (cells := cells) (slots := slots) (mc := mc) (ms := ms) (As := (st.take n).reverse.map (rV G)) (rest := r.map (rV G)) (g := F0 m pc ls (st.map (rV G))) ⟨hx, hb, hml, hown, hts⟩ hM ⟨va_cnB n hts (lw_meth hcode) rfl rfl rfl (hKK.tbl hl9 rfl (fun _ hW hZ => va_Nw.warmM hW hZ)) (hts _ hini) ⟨k4, k5, k6⟩ hrm, hnm, hts _ hin⟩ ⟨smBlind, hPc⟩ rfl (by rw [List.length_map, List.length_reverse, List.length_take]; omega) hl.1 hsp (by show 2 * 0 + _ ≤ 8; rw [wsum_r]; omega) hd ⟨by omega, by omega⟩
    exact call_run hf hr hl (fun v h => hv v (List.mem_of_mem_drop (by rw [hst]; exact tl1 h))) hs hc hb9 hq hmc hms hrun (fun o S' I' h => h)
/-- Object's own constructor -/
def im_objinit (l : SmL) (st : List SmV) (S : SmS) (I : SmI) (K : SmK) : Prop := popA st fun a r => (sT S a ≠ 0 ∧ sT S a < 200) ∧ wsum r ≤ 8 ∧ K l r S I
theorem xv_objinit {idx : Nat} {K : SmK} (hd : decode (mC M) pc = .ok (.invokespecial idx, 3)) (hl9 : Cond.methodLink (mN M).cls idx Lib.objectInit ∈ lw_all) (hin : Cond.instanceMethod Lib.objectInit ∈ lw_all) (hcode : Cond.code Lib.objectInit ⟨#[0xb1]⟩ 1 none ∈ lw_all) (hk : SmW M (pc + 3) d Rq K) : SmW M pc d Rq (fun l st S I => im_objinit l st S I K) := by
  intro l st S I h
  obtain ⟨a, r, rfl, hT, hws, h9⟩ := popA_ex h
  refine SW_gen ?_ (hk _ _ _ _ h9)
  intro G p e R s m args below meth c cap H locs cells slots FQ ls hf hr hl hv hs hc hb9
  have hx := hf.1
  have hb := hf.2.1
  have hml := hf.2.2.2.1
  have hown := hf.2.2.2.2.2.2.1
  have hts := hf.2.2.2.2.2.2.2.1
  have hRf := hf.2.2.2.2.2.2.2.2.2.2.1
  have hRl := hf.2.2.2.2.2.2.2.2.2.2.2
  refine ⟨fun v hv' => hv v (tl1 hv'), fun q => ?_⟩
  obtain ⟨hlt, hF⟩ := hr.lt hT.1 hT.2
  rw [List.map_cons, rV_R, rR, Option.map_some, rA_lt hF]
  exact W.objInit hx hb hown (hts _ hl9) (hts _ hin) (hts _ hcode) rfl (by rw [hml]; exact hl.1) rfl hd (by omega) (by show 2 * 0 + _ + 12 ≤ _; rw [wsum_r]; omega) (q H locs cells slots hr hs hc hb9)
end RETS
