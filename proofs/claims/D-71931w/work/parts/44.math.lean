/-! ===== Math.max, min, abs of ints ===== -/
set_option maxRecDepth 100000
section XMA
variable {M : SmM} {pc d : Nat} {Rq : SmQ} {K : SmK}
def im_max (l : SmL) (st : List SmV) (S : SmS) (I : SmI) (K : SmK) : Prop := popII st fun y x r => wsum r ≤ 8 ∧ K l (vI (if x < y then y else x) :: r) S I
def im_min (l : SmL) (st : List SmV) (S : SmS) (I : SmI) (K : SmK) : Prop := popII st fun y x r => wsum r ≤ 8 ∧ K l (vI (if y < x then y else x) :: r) S I
def im_abs (l : SmL) (st : List SmV) (S : SmS) (I : SmI) (K : SmK) : Prop := popI st fun x r => wsum r ≤ 8 ∧ K l (vI (w32 (if 0 ≤ x then x else 0 - x)) :: r) S I
theorem xv_max {idx : Nat} (hd : decode (mC M) pc = .ok (.invokestatic idx, 3)) (hlink : Cond.methodLink (mN M).cls idx Lib.Math.max.name ∈ lw_all) (hk : SmW M (pc + 3) d Rq K) : SmW M pc d Rq (fun l st S I => im_max l st S I K) := by
  intro l st S I h
  obtain ⟨y, x, r, rfl, hws, h9⟩ := popII_ex h
  intro G p e R s m args below meth c cap H locs cells slots FQ ls hf hr hl hv hs hc hb9 hq
  have hy9 : inR y := hv (vI y) List.mem_cons_self
  have hx9 : inR x := hv (vI x) (tl1 List.mem_cons_self)
  have q' := hk _ _ _ _ h9 G p e R s m args below meth c cap H locs cells slots FQ ls hf hr hl (okc (show inR (if x < y then y else x) by split <;> assumption) hv (fun _ h => tl1 (tl1 h))) hs hc hb9 hq
  obtain ⟨hx, hb, -, hml, -, -, hown, hts, -, hKK, hRf, hRl⟩ := hf
  rw [List.map_cons, rV_I] at q'
  rw [List.map_cons, List.map_cons, rV_I, rV_I]
  refine va_mmax hx hb (by rw [hml]; exact hl.1.symm) hown (hts _ hlink) (hts _ q474) (hts _ q128) (hts _ q475) (by omega) (by rw [wsum_r]; omega) (by omega) (by omega) hd ?_
  have e : (if rI x < rI y then rI y else rI x) = rI (if x < y then y else x) := by
    simp only [rI_lt hx9 hy9]
    split <;> rfl
  rw [e]
  exact q'
theorem xv_min {idx : Nat} (hd : decode (mC M) pc = .ok (.invokestatic idx, 3)) (hlink : Cond.methodLink (mN M).cls idx Lib.Math.min.name ∈ lw_all) (hk : SmW M (pc + 3) d Rq K) : SmW M pc d Rq (fun l st S I => im_min l st S I K) := by
  intro l st S I h
  obtain ⟨y, x, r, rfl, hws, h9⟩ := popII_ex h
  intro G p e R s m args below meth c cap H locs cells slots FQ ls hf hr hl hv hs hc hb9 hq
  have hy9 : inR y := hv (vI y) List.mem_cons_self
  have hx9 : inR x := hv (vI x) (tl1 List.mem_cons_self)
  have q' := hk _ _ _ _ h9 G p e R s m args below meth c cap H locs cells slots FQ ls hf hr hl (okc (show inR (if y < x then y else x) by split <;> assumption) hv (fun _ h => tl1 (tl1 h))) hs hc hb9 hq
  obtain ⟨hx, hb, -, hml, -, -, hown, hts, -, hKK, hRf, hRl⟩ := hf
  rw [List.map_cons, rV_I] at q'
  rw [List.map_cons, List.map_cons, rV_I, rV_I]
  refine va_mmin hx hb (by rw [hml]; exact hl.1.symm) hown (hts _ hlink) (hts _ q633) (hts _ q128) (hts _ q634) (by omega) (by rw [wsum_r]; omega) (by omega) (by omega) hd ?_
  have e : (if rI y < rI x then rI y else rI x) = rI (if y < x then y else x) := by
    simp only [rI_lt hy9 hx9]
    split <;> rfl
  rw [e]
  exact q'
theorem xv_abs {idx : Nat} (hd : decode (mC M) pc = .ok (.invokestatic idx, 3)) (hlink : Cond.methodLink (mN M).cls idx Lib.Math.abs.name ∈ lw_all) (hk : SmW M (pc + 3) d Rq K) : SmW M pc d Rq (fun l st S I => im_abs l st S I K) := by
  intro l st S I h
  obtain ⟨x, r, rfl, hws, h9⟩ := popI_ex h
  intro G p e R s m args below meth c cap H locs cells slots FQ ls hf hr hl hv hs hc hb9 hq
  have hx9 : inR x := hv (vI x) List.mem_cons_self
  have q' := hk _ _ _ _ h9 G p e R s m args below meth c cap H locs cells slots FQ ls hf hr hl (okc (w32_in _) hv (fun _ h => tl1 h)) hs hc hb9 hq
  obtain ⟨hx, hb, -, hml, -, -, hown, hts, -, hKK, hRf, hRl⟩ := hf
  rw [List.map_cons, rV_I] at q'
  rw [List.map_cons, rV_I]
  refine va_mabs hx hb (by rw [hml]; exact hl.1.symm) hown (hts _ hlink) (hts _ q616) (hts _ q128) (hts _ q617) (by omega) (by rw [wsum_r]; omega) (by omega) (by omega) hd ?_
  have e : (if 0 ≤ rI x then rI x else 0 - rI x) = rI (w32 (if 0 ≤ x then x else 0 - x)) := by
    have h0 : (0 ≤ rI x) ↔ 0 ≤ x := by rw [← rI_0, rI_le inR_0 hx9]
    by_cases h : 0 ≤ x
    · rw [if_pos (h0.mpr h), if_pos h, w32_id hx9]
    · rw [if_neg (fun q => h (h0.mp q)), if_neg h, rI_sub, rI_0]
  rw [e]
  exact q'
end XMA
