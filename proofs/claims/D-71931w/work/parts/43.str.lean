/-! ===== the three words of the text: String's own members over them; statics of Throwable ===== -/
set_option maxRecDepth 100000
def wBy : List (List Int32) := [[112, 108, 97, 99, 101], [115, 101, 99, 116, 105, 111, 110], [116, 114, 97, 105, 110]]
/-- length and letters of the word smF + k -/
def wLen (k : Nat) : Int := if k = 3 then 7 else 5
def wCh (k : Nat) (i : Int) : Int := ((wBy.getD (k - 2) []).getD i.toNat 0).toInt
def isW (k : Nat) : Prop := k = 2 ∨ k = 3 ∨ k = 4
theorem KK.words {G : SmG} {U : State} (h : KK G U) {k : Nat} (hk : isW k) : va_O "java/lang/String" (gF G k) (gA G) U U.heap ∧ va_OF "java/lang/String" "coder" "B" (.int 0) (gF G k) (gA G) U U.heap ∧ va_OF "java/lang/String" "value" "[B" (.ref (gF G (k + 5))) (gF G k) (gA G) U U.heap ∧ va_T .byte (gF G (k + 5)) (wLen k).toNat (fun j => .int ((wBy.getD (k - 2) []).getD j 0)) (gA G) U U.heap := by
  obtain ⟨s0, b, h1, h2, h3, h4, h5, h5', h6, h7, h8, h9, -⟩ := h
  have hS := (vk_S.moved h4.alike h9.2.2.2.2.1).kept (H1 := U.heap) (fun q hq _ => h6 q (by rw [h5]; exact hq))
  rcases hk with rfl | rfl | rfl
  · exact hS.1 0 (by omega)
  · exact hS.1 1 (by omega)
  · exact hS.1 2 (by omega)
theorem KK.compact {G : SmG} {U : State} (h : KK G U) : va_Z "java/lang/String" "COMPACT_STRINGS" "Z" (.int 1) (gA G) U U.heap := by
  obtain ⟨s0, b, h1, h2, h3, h4, h5, h5', h6, h7, h8, h9, -⟩ := h
  exact (h9.2.2.2.2.2.2.2.2.1.moved h4.alike).kept fun q hq _ => h6 q (by rw [h5]; exact hq)
theorem va_Zor {G : SmG} {s U : State} {C n ds : String} {k : Nat} (hA : s.vm.Alike U.vm) (hq : ∀ q, q < s.heap.size → ¬ gA G q → U.heap[q]? = s.heap[q]?) (h : va_Z C n ds .null (gA G) s s.heap ∨ va_Z C n ds (.ref (gF G k)) (gA G) s s.heap) : ∃ x : Option Nat, (x = none ∨ x = some (smF + k)) ∧ va_Z C n ds (va_rf (rR G x)) (gA G) U U.heap := by
  rcases h with h | h
  · exact ⟨none, Or.inl rfl, (h.moved hA).kept hq⟩
  · refine ⟨some (smF + k), Or.inr rfl, ?_⟩
    rw [rR, Option.map_some, rA_Fk]
    exact (h.moved hA).kept hq
theorem KK.gets5 {G : SmG} {U : State} (h : KK G U) : ∃ x : Option Nat, (x = none ∨ x = some (smF + 5)) ∧ va_Z Bundle.tN "UNASSIGNED_STACK" Bundle.steD (va_rf (rR G x)) (gA G) U U.heap := by
  obtain ⟨s0, b, h1, h2, h3, h4, h5, h5', h6, h7, h8, h9, -⟩ := h
  exact va_Zor h4.alike (fun q hq _ => h6 q (by rw [h5]; exact hq)) h9.2.2.2.2.2.2.1
theorem KK.gets6 {G : SmG} {U : State} (h : KK G U) : ∃ x : Option Nat, (x = none ∨ x = some (smF + 6)) ∧ va_Z Bundle.tN "SUPPRESSED_SENTINEL" Bundle.listD (va_rf (rR G x)) (gA G) U U.heap := by
  obtain ⟨s0, b, h1, h2, h3, h4, h5, h5', h6, h7, h8, h9, -⟩ := h
  exact va_Zor h4.alike (fun q hq _ => h6 q (by rw [h5]; exact hq)) h9.2.2.2.2.2.2.2.1
theorem KK.gets10 {G : SmG} {U : State} (h : KK G U) : ∃ x : Option Nat, (x = none ∨ x = some (smF + 10)) ∧ va_Z "jdk/internal/util/Preconditions" "SIOOBE_FORMATTER" "Ljava/util/function/BiFunction;" (va_rf (rR G x)) (gA G) U U.heap := by
  obtain ⟨s0, b, h1, h2, h3, h4, h5, h5', h6, h7, h8, h9, -⟩ := h
  exact va_Zor h4.alike (fun q hq _ => h6 q (by rw [h5]; exact hq)) h9.2.2.2.2.2.2.2.2.2
section XS
variable {M M' : SmM} {pc d : Nat} {Rq : SmQ} {K : SmK}
/-- a static that is null or the foreign object k -/
def im_gets (k : Nat) (l : SmL) (st : List SmV) (S : SmS) (I : SmI) (K : SmK) : Prop := ∀ x : Option Nat, x = none ∨ x = some (smF + k) → K l (vR x :: st) S I
theorem sm_gets {k idx : Nat} {C n ds : String} (hd : decode (mC M) pc = .ok (.getstatic idx, 3)) (hlink : Cond.fieldLink (mN M).cls idx C n ds ∈ lw_all) (hz : ∀ (G : SmG) (U : State), KK G U → ∃ x : Option Nat, (x = none ∨ x = some (smF + k)) ∧ va_Z C n ds (va_rf (rR G x)) (gA G) U U.heap) (hk : SmW M (pc + 3) d Rq K) : SmW M pc d Rq (fun l st S I => im_gets k l st S I K) := by
  intro l st S I h
  intro G p e R s m args below meth c cap H locs cells slots FQ ls hf hr hl hv hs hc hb9 hq
  obtain ⟨x, hx, hZ⟩ := hz G s hf.2.2.2.2.2.2.2.2.2.1
  have q' := hk _ _ _ _ (h x hx) G p e R s m args below meth c cap H locs cells slots FQ ls hf hr hl (okc trivial hv (fun _ h => h)) hs hc hb9 hq
  exact va_gets hf.1 hf.2.1 hZ hs hf.2.2.2.2.2.2.1 (hf.2.2.2.2.2.2.2.1 _ hlink) (fun _ h => h) hd q'
theorem xv_gets5 {idx : Nat} (hd : decode (mC M) pc = .ok (.getstatic idx, 3)) (hlink : Cond.fieldLink (mN M).cls idx Bundle.tN "UNASSIGNED_STACK" Bundle.steD ∈ lw_all) (hk : SmW M (pc + 3) d Rq K) : SmW M pc d Rq (fun l st S I => im_gets 5 l st S I K) := sm_gets hd hlink (fun _ _ h => h.gets5) hk
theorem xv_gets6 {idx : Nat} (hd : decode (mC M) pc = .ok (.getstatic idx, 3)) (hlink : Cond.fieldLink (mN M).cls idx Bundle.tN "SUPPRESSED_SENTINEL" Bundle.listD ∈ lw_all) (hk : SmW M (pc + 3) d Rq K) : SmW M pc d Rq (fun l st S I => im_gets 6 l st S I K) := sm_gets hd hlink (fun _ _ h => h.gets6) hk
theorem xv_gets10 {idx : Nat} (hd : decode (mC M) pc = .ok (.getstatic idx, 3)) (hlink : Cond.fieldLink (mN M).cls idx "jdk/internal/util/Preconditions" "SIOOBE_FORMATTER" "Ljava/util/function/BiFunction;" ∈ lw_all) (hk : SmW M (pc + 3) d Rq K) : SmW M pc d Rq (fun l st S I => im_gets 10 l st S I K) := sm_gets hd hlink (fun _ _ h => h.gets10) hk
def im_compact (l : SmL) (st : List SmV) (S : SmS) (I : SmI) (K : SmK) : Prop := K l (vI 1 :: st) S I
theorem xv_compact {idx : Nat} (hd : decode (mC M) pc = .ok (.getstatic idx, 3)) (hlink : Cond.fieldLink (mN M).cls idx "java/lang/String" "COMPACT_STRINGS" "Z" ∈ lw_all) (hk : SmW M (pc + 3) d Rq K) : SmW M pc d Rq (fun l st S I => im_compact l st S I K) := by
  intro l st S I h
  intro G p e R s m args below meth c cap H locs cells slots FQ ls hf hr hl hv hs hc hb9 hq
  have q' := hk _ _ _ _ h G p e R s m args below meth c cap H locs cells slots FQ ls hf hr hl (okc (show inR 1 by unfold inR; omega) hv (fun _ h => h)) hs hc hb9 hq
  exact va_gets hf.1 hf.2.1 hf.2.2.2.2.2.2.2.2.2.1.compact hs hf.2.2.2.2.2.2.1 (hf.2.2.2.2.2.2.2.1 _ hlink) (fun _ h => h) hd q'
/-- a word's array, its coder -/
def im_sval (l : SmL) (st : List SmV) (S : SmS) (I : SmI) (K : SmK) : Prop := popA st fun a r => ∃ k, isW k ∧ a = smF + k ∧ K l (vR (some (smF + (k + 5))) :: r) S I
def im_scod (l : SmL) (st : List SmV) (S : SmS) (I : SmI) (K : SmK) : Prop := popA st fun a r => (∃ k, isW k ∧ a = smF + k) ∧ K l (vI 0 :: r) S I
theorem xv_sval {idx : Nat} (hd : decode (mC M) pc = .ok (.getfield idx, 3)) (hlink : Cond.fieldLink (mN M).cls idx "java/lang/String" "value" "[B" ∈ lw_all) (hk : SmW M (pc + 3) d Rq K) : SmW M pc d Rq (fun l st S I => im_sval l st S I K) := by
  intro l st S I h
  obtain ⟨a, r, rfl, k, hw, rfl, h9⟩ := popA_ex h
  intro G p e R s m args below meth c cap H locs cells slots FQ ls hf hr hl hv hs hc hb9 hq
  have hKK := hf.2.2.2.2.2.2.2.2.2.1
  have q' := hk _ _ _ _ h9 G p e R s m args below meth c cap H locs cells slots FQ ls hf hr hl (okc trivial hv (fun _ => tl1)) hs hc hb9 hq
  rw [List.map_cons, rV_R, rR, Option.map_some, rA_Fk] at q' ⊢
  exact vk_getf hf.1 hf.2.1 (hKK.words hw).2.2.1 hs hf.2.2.2.2.2.2.1 (hf.2.2.2.2.2.2.2.1 _ hlink) (fun _ h => h) hd q'
theorem xv_scod {idx : Nat} (hd : decode (mC M) pc = .ok (.getfield idx, 3)) (hlink : Cond.fieldLink (mN M).cls idx "java/lang/String" "coder" "B" ∈ lw_all) (hk : SmW M (pc + 3) d Rq K) : SmW M pc d Rq (fun l st S I => im_scod l st S I K) := by
  intro l st S I h
  obtain ⟨a, r, rfl, ⟨k, hw, rfl⟩, h9⟩ := popA_ex h
  intro G p e R s m args below meth c cap H locs cells slots FQ ls hf hr hl hv hs hc hb9 hq
  have hKK := hf.2.2.2.2.2.2.2.2.2.1
  have q' := hk _ _ _ _ h9 G p e R s m args below meth c cap H locs cells slots FQ ls hf hr hl (okc inR_0 hv (fun _ => tl1)) hs hc hb9 hq
  rw [List.map_cons, rV_R, rR, Option.map_some, rA_Fk]
  exact vk_getf hf.1 hf.2.1 (hKK.words hw).2.1 hs hf.2.2.2.2.2.2.1 (hf.2.2.2.2.2.2.2.1 _ hlink) (fun _ h => h) hd q'
theorem wCh_in (k : Nat) (i : Int) : inR (wCh k i) := inR_of _
theorem wLen_in (k : Nat) : 5 ≤ wLen k ∧ wLen k ≤ 7 := by unfold wLen; split <;> omega
def im_swld (l : SmL) (st : List SmV) (S : SmS) (I : SmI) (K : SmK) : Prop := popIA st fun i a r => ∃ k, isW k ∧ a = smF + (k + 5) ∧ (0 ≤ i ∧ i < wLen k) ∧ K l (vI (wCh k i) :: r) S I
theorem xv_swld (hd : decode (mC M) pc = .ok (.baload, 1)) (hk : SmW M (pc + 1) d Rq K) : SmW M pc d Rq (fun l st S I => im_swld l st S I K) := by
  intro l st S I h
  obtain ⟨i, a, r, rfl, k, hw, rfl, ⟨h0, h1⟩, h9⟩ := popIA_ex h
  intro G p e R s m args below meth c cap H locs cells slots FQ ls hf hr hl hv hs hc hb9 hq
  have hKK := hf.2.2.2.2.2.2.2.2.2.1
  have hi9 : inR i := hv (vI i) List.mem_cons_self
  have q' := hk _ _ _ _ h9 G p e R s m args below meth c cap H locs cells slots FQ ls hf hr hl (okc (wCh_in k i) hv (fun _ h => tl1 (tl1 h))) hs hc hb9 hq
  rw [List.map_cons, List.map_cons, rV_R, rV_I, rR, Option.map_some, rA_Fk]
  refine va_tb hf.1 hf.2.1 (hKK.words hw).2.2.2 hs (i := rI i) (rI_in h0 h1 hi9) (v := .int (rI (wCh k i))) ?_ hd q'
  rw [rI_clamp h0 hi9]
  unfold wCh
  rw [rI_of]
def im_swln (l : SmL) (st : List SmV) (S : SmS) (I : SmI) (K : SmK) : Prop := popA st fun a r => ∃ k, isW k ∧ a = smF + (k + 5) ∧ K l (vI (wLen k) :: r) S I
theorem xv_swln (hd : decode (mC M) pc = .ok (.arraylength, 1)) (hk : SmW M (pc + 1) d Rq K) : SmW M pc d Rq (fun l st S I => im_swln l st S I K) := by
  intro l st S I h
  obtain ⟨a, r, rfl, k, hw, rfl, h9⟩ := popA_ex h
  intro G p e R s m args below meth c cap H locs cells slots FQ ls hf hr hl hv hs hc hb9 hq
  have hKK := hf.2.2.2.2.2.2.2.2.2.1
  have q' := hk _ _ _ _ h9 G p e R s m args below meth c cap H locs cells slots FQ ls hf hr hl (okc (show inR (wLen k) by have := wLen_in k; unfold inR; omega) hv (fun _ h => tl1 h)) hs hc hb9 hq
  rw [List.map_cons, rV_R, rR, Option.map_some, rA_Fk]
  rw [List.map_cons, rV_I] at q'
  refine va_tlen hf.1 hf.2.1 (hKK.words hw).2.2.2 hs (v := rI (wLen k)) ?_ hd q'
  rcases hw with rfl | rfl | rfl <;> decide +kernel
def im_i2c (l : SmL) (st : List SmV) (S : SmS) (I : SmI) (K : SmK) : Prop := popI st fun x r => (0 ≤ x ∧ x < 65536) ∧ K l (vI x :: r) S I
theorem xv_i2c (hd : decode (mC M) pc = .ok (.i2c, 1)) (hk : SmW M (pc + 1) d Rq K) : SmW M pc d Rq (fun l st S I => im_i2c l st S I K) := by
  intro l st S I h
  obtain ⟨x, r, rfl, ⟨h0, h1⟩, h9⟩ := popI_ex h
  intro G p e R s m args below meth c cap H locs cells slots FQ ls hf hr hl hv hs hc hb9 hq
  have hx9 : inR x := hv (vI x) List.mem_cons_self
  have q' := hk _ _ _ _ h9 G p e R s m args below meth c cap H locs cells slots FQ ls hf hr hl hv hs hc hb9 hq
  rw [List.map_cons, rV_I] at q' ⊢
  refine lv_i2c hf.1 hf.2.1 hd ?_ q'
  rw [← UInt32.toUInt32_toUInt16]
  exact lg_i2c_small (by rw [rI_toInt hx9]; exact h0) (by rw [rI_toInt hx9]; exact h1)
def im_creturn (Rq : SmQ) (_ : SmL) (st : List SmV) (S : SmS) (I : SmI) : Prop := popI st fun z r => r = [] ∧ (0 ≤ z ∧ z < 65536) ∧ Rq (.inl (some (vI z))) S I
def im_breturn (Rq : SmQ) (_ : SmL) (st : List SmV) (S : SmS) (I : SmI) : Prop := popI st fun z r => r = [] ∧ z = 0 ∧ Rq (.inl (some (vI z))) S I
theorem xv_creturn (hd : decode (mC M) pc = .ok (.ireturn, 1)) (hR : mR M = some .char) : SmW M pc d Rq (fun l st S I => im_creturn Rq l st S I) := by
  intro l st S I h
  obtain ⟨z, r, rfl, rfl, h0, h9⟩ := popI_ex h
  intro G p e R s m args below meth c cap H locs cells slots FQ ls hf hr hl hv hs hc hb hq
  have hz9 : inR z := hv (vI z) List.mem_cons_self
  refine hq (.inl (some (vI z))) S I H locs cells slots pc ls [] h9 hr hs hc hb ⟨⟨.char, hR, ?_⟩, hz9, hd⟩
  have := lg_i2c_small (v := rI z) (by rw [rI_toInt hz9]; exact h0.1) (by rw [rI_toInt hz9]; exact h0.2)
  simp only [narrow]
  first | (rw [this]) | (rw [UInt32.toUInt32_toUInt16] at this; rw [this])
theorem xv_breturn (hd : decode (mC M) pc = .ok (.ireturn, 1)) (hR : mR M = some .byte) : SmW M pc d Rq (fun l st S I => im_breturn Rq l st S I) := by
  intro l st S I h
  obtain ⟨z, r, rfl, rfl, rfl, h9⟩ := popI_ex h
  intro G p e R s m args below meth c cap H locs cells slots FQ ls hf hr hl hv hs hc hb hq
  exact hq (.inl (some (vI 0))) S I H locs cells slots pc ls [] h9 hr hs hc hb ⟨⟨.byte, hR, by decide +kernel⟩, inR_0, hd⟩
/-- a member of String called on a word -/
def im_callW (n : Nat) (M' : SmM) : (d : Nat) → (Kr : List SmV → SmQ) → (st : List SmV) → SmS → SmI → Prop
  | 0, _, _, _, _ => False
  | d + 1, Kr, st, S, I => popA (st.drop n) fun a r => n ≤ st.length ∧ (∃ k, isW k ∧ a = smF + k) ∧ wsum r ≤ 8 ∧ SC M' d (vR (some a) :: (st.take n).reverse) S I (Kr r)
theorem im_callW_eq (n : Nat) (M' : SmM) (d : Nat) (Kr : List SmV → SmQ) (st : List SmV) (S : SmS) (I : SmI) : im_callW n M' (d + 1) Kr st S I = (popA (st.drop n) fun a r => n ≤ st.length ∧ (∃ k, isW k ∧ a = smF + k) ∧ wsum r ≤ 8 ∧ SC M' d (vR (some a) :: (st.take n).reverse) S I (Kr r)) := rfl
theorem xv_callW {idx n : Nat} (hd : decode (mC M) pc = .ok (.invokevirtual idx, 3)) (hok : callOk M' n) (hC : (mN M').cls = "java/lang/String") (hw : GoodIn lw_all (wsV (mN M).cls idx "java/lang/String" (mN M') (ws_ (mN M') (mC M') (mL M') (mR M')))) :
    ∀ l st S I, im_callW n M' d (retK M pc (pc + 3) d Rq l) st S I → SW M pc d Rq l st S I := by
  intro l st S I h
  cases d with
  | zero => cases h
  | succ d =>
    obtain ⟨a, r, hst, hlen, ⟨k, hkw, rfl⟩, hws, hent, mc, ms, hmc, hms, hbody⟩ := popA_ex h
    intro G p e R s m args below meth c cap H locs cells slots FQ ls hf hr hl hv hs hc hb9 hq
    have hx := hf.1
    have hb := hf.2.1
    have hml := hf.2.2.2.1
    have hown := hf.2.2.2.2.2.2.1
    have hts := hf.2.2.2.2.2.2.2.1
    have hKK := hf.2.2.2.2.2.2.2.2.2.1
    have hRf := hf.2.2.2.2.2.2.2.2.2.2.1
    have hRl := hf.2.2.2.2.2.2.2.2.2.2.2
    obtain ⟨k1, k2, k3, k4, k5, k6⟩ := hok
    have hargs : ∀ v ∈ vR (some (smF + k)) :: (st.take n).reverse, okV v := okc trivial (r0 := st) hv (fun v h => List.mem_of_mem_take (List.mem_reverse.mp h))
    have hM := SW_met (G := G) (cap := sZ S + mc) k1 k2 hent hargs (sC_sBud S mc ms) (sB_sBud S mc ms) hbody
    have hrm := rm_ok (mc := mc) (ms := ms) hRf hRl k3
    have hav : rV G (vR (some (smF + k))) = .ref (gF G k) := by rw [rV_R, rR, Option.map_some, rA_Fk]; rfl
    have hsp : st.map (rV G) = ((st.take n).reverse.map (rV G)).reverse ++ .ref (gF G k) :: r.map (rV G) := by
      rw [st_split (n := n), hst, List.map_cons, hav]
    have hPc : ∀ U : State, U.heap = H → s.WarmedH U.vm → smPc G (sZ S + mc) (vR (some (smF + k)) :: (st.take n).reverse) (sBud S mc ms) I (Value.ref (gF G k) :: (st.take n).reverse.map (rV G)).toArray U := fun U hU hW => by
      have := smPre (ms := ms) (args := vR (some (smF + k)) :: (st.take n).reverse) hr hKK hs hmc hU hW
      rw [List.map_cons, hav] at this
      exact this
    obtain ⟨cell, c1, c2, c3, -⟩ := (hKK.words hkw).1.kept hs.2.1
    have hrun := vx_runV (e := e) (below := below) (meth := meth) (locs := locs) (cells := cells) (slots := slots) (mc := mc) (ms := ms) (As := (st.take n).reverse.map (rV G)) (rest := r.map (rV G)) (g := F0 m pc ls (st.map (rV G))) ⟨hx, hb, hml, hown, hts⟩ hM (cwV (C := "java/lang/String") n hts hw rfl rfl rfl ⟨hC, k4, k5, k6⟩ hrm) ⟨smBlind, ⟨cell, c1, c2, c3⟩, hPc⟩ rfl (by rw [List.length_map, List.length_reverse, List.length_take]; omega) hl.1 hsp (by show 2 * 0 + _ ≤ 8; rw [wsum_r]; omega) hd ⟨by omega, by omega⟩
    exact call_run hf hr hl (fun v h => hv v (List.mem_of_mem_drop (by rw [hst]; exact tl1 h))) hs hc hb9 hq hmc hms hrun (fun o S' I' h => h)
end XS
