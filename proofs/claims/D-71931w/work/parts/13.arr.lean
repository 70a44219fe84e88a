/-! ===== arrays, making of cells, switches: transformers and their laws ===== -/
set_option maxRecDepth 100000
section XA
variable {M : SmM} {pc d : Nat} {Rq : SmQ} {K Kt Kf : SmK}
def im_ald (t : Nat) (l : SmL) (st : List SmV) (S : SmS) (I : SmI) (K : SmK) : Prop := popIA st fun i a r => sT S a = t ∧ chk (0 ≤ i ∧ i < sN S a) ∧ K l (vI (I a i) :: r) S I
theorem toNat_c {i : Int} (h : 0 ≤ i) : ((i.toNat : Nat) : Int) = i := Int.toNat_of_nonneg h
theorem one_P {D : va_G} {cl : List vw_C} {q : Nat × va_E} {H : Heap} (h : va_at D cl q H) : va_P D cl [q] H := fun j z hz => by
  have hj : j < 1 := (List.getElem?_eq_some_iff.mp hz).1
  rw [show j = 0 by omega] at hz
  cases hz
  exact h
theorem RH.n {G : SmG} {cap : Nat} {s : State} {S : SmS} {I : SmI} {H : Heap} (hr : RH G cap s S I H) (v : Nat) : 0 ≤ sN S v ∧ sN S v < 2147483648 := hr.2.2.2.2.2.2.1 v
theorem RH.i {G : SmG} {cap : Nat} {s : State} {S : SmS} {I : SmI} {H : Heap} (hr : RH G cap s S I H) (v : Nat) (k : Int) : inR (I v k) := hr.2.2.2.2.2.2.2.1 v k
theorem xv_iald (hd : decode (mC M) pc = .ok (.iaload, 1)) (hk : SmW M (pc + 1) d Rq K) : SmW M pc d Rq (fun l st S I => im_ald 100 l st S I K) := by
  intro l st S I h
  obtain ⟨i, a, r, rfl, hT, ⟨h0, h1⟩, h⟩ := popIA_ex h
  refine SW_gen ?_ (hk _ _ _ _ h)
  intro G p e R s m args below meth c cap H locs cells slots FQ ls hf hr hl hv hs hc hb9
  obtain ⟨hx, hb, -, -, -, -, hown, hts, -, hKK, -⟩ := hf
  refine ⟨okc (hr.i a i) hv (fun _ h => tl1 (tl1 h)), fun q => ?_⟩
  obtain ⟨hat, hlt, hF⟩ := hr.arrI hT (by omega) (by omega)
  have hi9 : inR i := hv (vI i) List.mem_cons_self
  rw [List.map_cons, List.map_cons, rV_R, rV_I, rR, Option.map_some, rA_lt hF]
  refine va_iald (D := gD G) (cl := smCl) (tys := smTys G) (ws := [(gB G + a, .inl (gY G 100, (sN S a).toNat, .inl fun (j : Nat) => rI (I a (j : Int))))]) hx hb hKK.k (one_P hat) 0 0 rfl rfl (rI_in h0 h1 hi9) hd ?_
  have q' := q H locs cells slots hr hs hc hb9
  rw [List.map_cons, rV_I] at q'
  show W p (gL G) e R s m args below meth c H locs cells slots FQ (F0 m (pc + 1) ls (.int (rI (I a (((rI i).toNatClampNeg : Nat) : Int))) :: _))
  rw [rI_clamp h0 hi9, toNat_c h0]
  exact q'
theorem xv_bald (hd : decode (mC M) pc = .ok (.baload, 1)) (hk : SmW M (pc + 1) d Rq K) : SmW M pc d Rq (fun l st S I => im_ald 101 l st S I K) := by
  intro l st S I h
  obtain ⟨i, a, r, rfl, hT, ⟨h0, h1⟩, h⟩ := popIA_ex h
  refine SW_gen ?_ (hk _ _ _ _ h)
  intro G p e R s m args below meth c cap H locs cells slots FQ ls hf hr hl hv hs hc hb9
  obtain ⟨hx, hb, -, -, -, -, hown, hts, -, hKK, -⟩ := hf
  refine ⟨okc (hr.i a i) hv (fun _ h => tl1 (tl1 h)), fun q => ?_⟩
  obtain ⟨hat, hlt, hF⟩ := hr.arrI hT (by omega) (by omega)
  have hi9 : inR i := hv (vI i) List.mem_cons_self
  rw [List.map_cons, List.map_cons, rV_R, rV_I, rR, Option.map_some, rA_lt hF]
  refine va_bald (D := gD G) (cl := smCl) (tys := smTys G) (ws := [(gB G + a, .inl (gY G 101, (sN S a).toNat, .inl fun (j : Nat) => rI (I a (j : Int))))]) hx hb hKK.k (one_P hat) 0 1 rfl rfl (rI_in h0 h1 hi9) hd ?_
  have q' := q H locs cells slots hr hs hc hb9
  rw [List.map_cons, rV_I] at q'
  show W p (gL G) e R s m args below meth c H locs cells slots FQ (F0 m (pc + 1) ls (.int (rI (I a (((rI i).toNatClampNeg : Nat) : Int))) :: _))
  rw [rI_clamp h0 hi9, toNat_c h0]
  exact q'
theorem xv_zald (hd : decode (mC M) pc = .ok (.baload, 1)) (hk : SmW M (pc + 1) d Rq K) : SmW M pc d Rq (fun l st S I => im_ald 102 l st S I K) := by
  intro l st S I h
  obtain ⟨i, a, r, rfl, hT, ⟨h0, h1⟩, h⟩ := popIA_ex h
  refine SW_gen ?_ (hk _ _ _ _ h)
  intro G p e R s m args below meth c cap H locs cells slots FQ ls hf hr hl hv hs hc hb9
  obtain ⟨hx, hb, -, -, -, -, hown, hts, -, hKK, -⟩ := hf
  refine ⟨okc (hr.i a i) hv (fun _ h => tl1 (tl1 h)), fun q => ?_⟩
  obtain ⟨hat, hlt, hF⟩ := hr.arrI hT (by omega) (by omega)
  have hi9 : inR i := hv (vI i) List.mem_cons_self
  rw [List.map_cons, List.map_cons, rV_R, rV_I, rR, Option.map_some, rA_lt hF]
  refine va_zald (D := gD G) (cl := smCl) (tys := smTys G) (ws := [(gB G + a, .inl (gY G 102, (sN S a).toNat, .inl fun (j : Nat) => rI (I a (j : Int))))]) hx hb hKK.k (one_P hat) 0 2 rfl rfl (rI_in h0 h1 hi9) hd ?_
  have q' := q H locs cells slots hr hs hc hb9
  rw [List.map_cons, rV_I] at q'
  show W p (gL G) e R s m args below meth c H locs cells slots FQ (F0 m (pc + 1) ls (.int (rI (I a (((rI i).toNatClampNeg : Nat) : Int))) :: _))
  rw [rI_clamp h0 hi9, toNat_c h0]
  exact q'
theorem xv_sald (hd : decode (mC M) pc = .ok (.saload, 1)) (hk : SmW M (pc + 1) d Rq K) : SmW M pc d Rq (fun l st S I => im_ald 103 l st S I K) := by
  intro l st S I h
  obtain ⟨i, a, r, rfl, hT, ⟨h0, h1⟩, h⟩ := popIA_ex h
  refine SW_gen ?_ (hk _ _ _ _ h)
  intro G p e R s m args below meth c cap H locs cells slots FQ ls hf hr hl hv hs hc hb9
  obtain ⟨hx, hb, -, -, -, -, hown, hts, -, hKK, -⟩ := hf
  refine ⟨okc (hr.i a i) hv (fun _ h => tl1 (tl1 h)), fun q => ?_⟩
  obtain ⟨hat, hlt, hF⟩ := hr.arrI hT (by omega) (by omega)
  have hi9 : inR i := hv (vI i) List.mem_cons_self
  rw [List.map_cons, List.map_cons, rV_R, rV_I, rR, Option.map_some, rA_lt hF]
  refine va_sald (D := gD G) (cl := smCl) (tys := smTys G) (ws := [(gB G + a, .inl (gY G 103, (sN S a).toNat, .inl fun (j : Nat) => rI (I a (j : Int))))]) hx hb hKK.k (one_P hat) 0 3 rfl rfl (rI_in h0 h1 hi9) hd ?_
  have q' := q H locs cells slots hr hs hc hb9
  rw [List.map_cons, rV_I] at q'
  show W p (gL G) e R s m args below meth c H locs cells slots FQ (F0 m (pc + 1) ls (.int (rI (I a (((rI i).toNatClampNeg : Nat) : Int))) :: _))
  rw [rI_clamp h0 hi9, toNat_c h0]
  exact q'
def im_iast (l : SmL) (st : List SmV) (S : SmS) (I : SmI) (K : SmK) : Prop := popIIA st fun x i a r => sT S a = 100 ∧ chk (0 ≤ i ∧ i < sN S a) ∧ K l r S (iSet I a i (x))
theorem xv_iast (hd : decode (mC M) pc = .ok (.iastore, 1)) (hk : SmW M (pc + 1) d Rq K) : SmW M pc d Rq (fun l st S I => im_iast l st S I K) := by
  intro l st S I h
  obtain ⟨x, i, a, r, rfl, hT, ⟨h0, h1⟩, h⟩ := popIIA_ex h
  refine SW_gen ?_ (hk _ _ _ _ h)
  intro G p e R s m args below meth c cap H locs cells slots FQ ls hf hr hl hv hs hc hb9
  obtain ⟨hx, hb, -, -, -, -, hown, hts, -, hKK, -⟩ := hf
  refine ⟨fun v hv' => hv v (tl1 (tl1 (tl1 hv'))), fun q => ?_⟩
  obtain ⟨hat, hlt, hF⟩ := hr.arrI hT (by omega) (by omega)
  have hi9 : inR i := hv (vI i) (tl1 List.mem_cons_self)
  have hin9 := rI_in h0 h1 hi9
  rw [List.map_cons, List.map_cons, List.map_cons, rV_R, rV_I, rV_I, rR, Option.map_some, rA_lt hF]
  refine W.iast hx hb hat ((hKK.k.2 0 _ rfl).1 (sN S a).toNat (fun (j : Nat) => .int (rI (I a (j : Int))))) (fun q => by cases q) (by show ¬ (rI i < 0 ∨ (arrV _ _ _).slots.size ≤ _); rw [arrV_size]; exact hin9) rfl rfl hd fun H1 e1 e2 e3 => ?_
  refine q H1 _ cells slots (hr.write hlt hF rfl rfl rfl rfl (fun v h => iSet_ne h) (fun v h => rfl) (fun j => iSet_in (hv (vI x) List.mem_cons_self) hr.i j) ?_ e2 e3) (hs.w e2 e3) hc hb9
  unfold sAt
  rw [if_neg (by omega)]
  unfold sE smE
  rw [if_neg (by omega), if_pos (by omega), hT]
  show H1[gB G + a]? = some (vp_cell _ _)
  rw [e1, rI_clamp h0 hi9, vp_cell_i, vp_cell_i, arrV_store]
  congr 2
  funext j
  have hval : Value.int (rI x) = .int (rI (x)) := rfl
  by_cases hj : j = i.toNat
  · subst hj
    rw [iSet_ap, if_pos ⟨rfl, toNat_c h0⟩]
    exact (if_pos rfl).trans hval
  · rw [iSet_ap, if_neg (fun z => hj (by omega))]
    simp only [updV, if_neg hj]
def im_bast (l : SmL) (st : List SmV) (S : SmS) (I : SmI) (K : SmK) : Prop := popIIA st fun x i a r => sT S a = 101 ∧ chk (0 ≤ i ∧ i < sN S a) ∧ K l r S (iSet I a i (w8 x))
theorem xv_bast (hd : decode (mC M) pc = .ok (.bastore, 1)) (hk : SmW M (pc + 1) d Rq K) : SmW M pc d Rq (fun l st S I => im_bast l st S I K) := by
  intro l st S I h
  obtain ⟨x, i, a, r, rfl, hT, ⟨h0, h1⟩, h⟩ := popIIA_ex h
  refine SW_gen ?_ (hk _ _ _ _ h)
  intro G p e R s m args below meth c cap H locs cells slots FQ ls hf hr hl hv hs hc hb9
  obtain ⟨hx, hb, -, -, -, -, hown, hts, -, hKK, -⟩ := hf
  refine ⟨fun v hv' => hv v (tl1 (tl1 (tl1 hv'))), fun q => ?_⟩
  obtain ⟨hat, hlt, hF⟩ := hr.arrI hT (by omega) (by omega)
  have hi9 : inR i := hv (vI i) (tl1 List.mem_cons_self)
  have hin9 := rI_in h0 h1 hi9
  rw [List.map_cons, List.map_cons, List.map_cons, rV_R, rV_I, rV_I, rR, Option.map_some, rA_lt hF]
  refine W.bast hx hb hat ((hKK.k.2 1 _ rfl).1 (sN S a).toNat (fun (j : Nat) => .int (rI (I a (j : Int))))) (fun q => by cases q) (by show ¬ (rI i < 0 ∨ (arrV _ _ _).slots.size ≤ _); rw [arrV_size]; exact hin9) rfl rfl hd fun H1 e1 e2 e3 => ?_
  refine q H1 _ cells slots (hr.write hlt hF rfl rfl rfl rfl (fun v h => iSet_ne h) (fun v h => rfl) (fun j => iSet_in (w8_in x) hr.i j) ?_ e2 e3) (hs.w e2 e3) hc hb9
  unfold sAt
  rw [if_neg (by omega)]
  unfold sE smE
  rw [if_neg (by omega), if_pos (by omega), hT]
  show H1[gB G + a]? = some (vp_cell _ _)
  rw [e1, rI_clamp h0 hi9, vp_cell_i, vp_cell_i, arrV_store]
  congr 2
  funext j
  have hval : narrow .byte (.int (rI x)) = .int (rI (w8 x)) := congrArg Value.int (rI_w8 x).symm
  by_cases hj : j = i.toNat
  · subst hj
    rw [iSet_ap, if_pos ⟨rfl, toNat_c h0⟩]
    exact (if_pos rfl).trans hval
  · rw [iSet_ap, if_neg (fun z => hj (by omega))]
    simp only [updV, if_neg hj]
def im_sast (l : SmL) (st : List SmV) (S : SmS) (I : SmI) (K : SmK) : Prop := popIIA st fun x i a r => sT S a = 103 ∧ chk (0 ≤ i ∧ i < sN S a) ∧ K l r S (iSet I a i (w16 x))
theorem xv_sast (hd : decode (mC M) pc = .ok (.sastore, 1)) (hk : SmW M (pc + 1) d Rq K) : SmW M pc d Rq (fun l st S I => im_sast l st S I K) := by
  intro l st S I h
  obtain ⟨x, i, a, r, rfl, hT, ⟨h0, h1⟩, h⟩ := popIIA_ex h
  refine SW_gen ?_ (hk _ _ _ _ h)
  intro G p e R s m args below meth c cap H locs cells slots FQ ls hf hr hl hv hs hc hb9
  obtain ⟨hx, hb, -, -, -, -, hown, hts, -, hKK, -⟩ := hf
  refine ⟨fun v hv' => hv v (tl1 (tl1 (tl1 hv'))), fun q => ?_⟩
  obtain ⟨hat, hlt, hF⟩ := hr.arrI hT (by omega) (by omega)
  have hi9 : inR i := hv (vI i) (tl1 List.mem_cons_self)
  have hin9 := rI_in h0 h1 hi9
  rw [List.map_cons, List.map_cons, List.map_cons, rV_R, rV_I, rV_I, rR, Option.map_some, rA_lt hF]
  refine W.sast hx hb hat ((hKK.k.2 3 _ rfl).1 (sN S a).toNat (fun (j : Nat) => .int (rI (I a (j : Int))))) (fun q => by cases q) (by show ¬ (rI i < 0 ∨ (arrV _ _ _).slots.size ≤ _); rw [arrV_size]; exact hin9) rfl rfl hd fun H1 e1 e2 e3 => ?_
  refine q H1 _ cells slots (hr.write hlt hF rfl rfl rfl rfl (fun v h => iSet_ne h) (fun v h => rfl) (fun j => iSet_in (w16_in x) hr.i j) ?_ e2 e3) (hs.w e2 e3) hc hb9
  unfold sAt
  rw [if_neg (by omega)]
  unfold sE smE
  rw [if_neg (by omega), if_pos (by omega), hT]
  show H1[gB G + a]? = some (vp_cell _ _)
  rw [e1, rI_clamp h0 hi9, vp_cell_i, vp_cell_i, arrV_store]
  congr 2
  funext j
  have hval : narrow .short (.int (rI x)) = .int (rI (w16 x)) := congrArg Value.int (rI_w16 x).symm
  by_cases hj : j = i.toNat
  · subst hj
    rw [iSet_ap, if_pos ⟨rfl, toNat_c h0⟩]
    exact (if_pos rfl).trans hval
  · rw [iSet_ap, if_neg (fun z => hj (by omega))]
    simp only [updV, if_neg hj]
def im_zast (l : SmL) (st : List SmV) (S : SmS) (I : SmI) (K : SmK) : Prop := popIIA st fun x i a r => sT S a = 102 ∧ chk (0 ≤ i ∧ i < sN S a) ∧ chk (x = 0 ∨ x = 1) ∧ K l r S (iSet I a i (x))
theorem xv_zast (hd : decode (mC M) pc = .ok (.bastore, 1)) (hk : SmW M (pc + 1) d Rq K) : SmW M pc d Rq (fun l st S I => im_zast l st S I K) := by
  intro l st S I h
  obtain ⟨x, i, a, r, rfl, hT, ⟨h0, h1⟩, hz9, h⟩ := popIIA_ex h
  refine SW_gen ?_ (hk _ _ _ _ h)
  intro G p e R s m args below meth c cap H locs cells slots FQ ls hf hr hl hv hs hc hb9
  obtain ⟨hx, hb, -, -, -, -, hown, hts, -, hKK, -⟩ := hf
  refine ⟨fun v hv' => hv v (tl1 (tl1 (tl1 hv'))), fun q => ?_⟩
  obtain ⟨hat, hlt, hF⟩ := hr.arrI hT (by omega) (by omega)
  have hi9 : inR i := hv (vI i) (tl1 List.mem_cons_self)
  have hin9 := rI_in h0 h1 hi9
  rw [List.map_cons, List.map_cons, List.map_cons, rV_R, rV_I, rV_I, rR, Option.map_some, rA_lt hF]
  refine W.zast hx hb hat ((hKK.k.2 2 _ rfl).1 (sN S a).toNat (fun (j : Nat) => .int (rI (I a (j : Int))))) (fun q => by cases q) (by show ¬ (rI i < 0 ∨ (arrV _ _ _).slots.size ≤ _); rw [arrV_size]; exact hin9) rfl rfl hd fun H1 e1 e2 e3 => ?_
  refine q H1 _ cells slots (hr.write hlt hF rfl rfl rfl rfl (fun v h => iSet_ne h) (fun v h => rfl) (fun j => iSet_in (hv (vI x) List.mem_cons_self) hr.i j) ?_ e2 e3) (hs.w e2 e3) hc hb9
  unfold sAt
  rw [if_neg (by omega)]
  unfold sE smE
  rw [if_neg (by omega), if_pos (by omega), hT]
  show H1[gB G + a]? = some (vp_cell _ _)
  rw [e1, rI_clamp h0 hi9, vp_cell_i, vp_cell_i, arrV_store]
  congr 2
  funext j
  have hval : narrow .boolean (.int (rI x)) = .int (rI (x)) := by rcases hz9 with rfl | rfl <;> decide +kernel
  by_cases hj : j = i.toNat
  · subst hj
    rw [iSet_ap, if_pos ⟨rfl, toNat_c h0⟩]
    exact (if_pos rfl).trans hval
  · rw [iSet_ap, if_neg (fun z => hj (by omega))]
    simp only [updV, if_neg hj]
theorem smTys_t {G : SmG} {t : Nat} (h1 : 100 ≤ t) (h2 : t < 108) : (smTys G)[t - 100]? = some (gY G t, smAty t) := smTys_at h1 h2
def im_aald (t : Nat) (l : SmL) (st : List SmV) (S : SmS) (I : SmI) (K : SmK) : Prop := popIA st fun i a r => sT S a = t ∧ chk (0 ≤ i ∧ i < sN S a) ∧ K l (vR (sP S a i) :: r) S I
theorem xv_aald {t : Nat} (hd : decode (mC M) pc = .ok (.aaload, 1)) (ht : 104 ≤ t ∧ t < 108) (hk : SmW M (pc + 1) d Rq K) : SmW M pc d Rq (fun l st S I => im_aald t l st S I K) := by
  intro l st S I h
  obtain ⟨i, a, r, rfl, hT, ⟨h0, h1⟩, h⟩ := popIA_ex h
  refine SW_gen ?_ (hk _ _ _ _ h)
  intro G p e R s m args below meth c cap H locs cells slots FQ ls hf hr hl hv hs hc hb9
  obtain ⟨hx, hb, -, -, -, -, hown, hts, -, hKK, -⟩ := hf
  refine ⟨okc trivial hv (fun _ h => tl1 (tl1 h)), fun q => ?_⟩
  obtain ⟨hat, hlt, hF⟩ := hr.arrR hT ht.1 ht.2
  have hi9 : inR i := hv (vI i) List.mem_cons_self
  have hin9 := rI_in h0 h1 hi9
  have href : (smAty t).isReference = true := by
    have : t = 104 ∨ t = 105 ∨ t = 106 ∨ t = 107 := by omega
    rcases this with rfl | rfl | rfl | rfl <;> rfl
  rw [List.map_cons, List.map_cons, rV_R, rV_I, rR, Option.map_some, rA_lt hF]
  refine W.aald (v := va_rf (rR G (sP S a i))) (ty := smAty t) hx hb hat ((hKK.k.2 (t - 100) _ (smTys_at (by omega) ht.2)).1 (sN S a).toNat (fun (j : Nat) => va_rf (rR G (sP S a (j : Int))))) href (fun q => by cases q) (by show ¬ (rI i < 0 ∨ (arrV _ _ _).slots.size ≤ _); rw [arrV_size]; exact hin9) ?_ rfl rfl hd (q H locs cells slots hr hs hc hb9)
  show (arrV _ _ _).slots[_]? = _
  rw [rI_clamp h0 hi9, arrV_read _ _ (by omega)]
  show some (va_rf (rR G (sP S a ((i.toNat : Nat) : Int)))) = _
  rw [toNat_c h0]
def im_alen (l : SmL) (st : List SmV) (S : SmS) (I : SmI) (K : SmK) : Prop := popA st fun a r => (100 ≤ sT S a ∧ sT S a < 108) ∧ K l (vI (sN S a) :: r) S I
theorem rI_nat {n : Int} (h : 0 ≤ n) : Int32.ofNat n.toNat = rI n := by
  unfold rI
  rw [show n = ((n.toNat : Nat) : Int) from (toNat_c h).symm]
  rfl
theorem xv_alen (hd : decode (mC M) pc = .ok (.arraylength, 1)) (hk : SmW M (pc + 1) d Rq K) : SmW M pc d Rq (fun l st S I => im_alen l st S I K) := by
  intro l st S I h
  obtain ⟨a, r, rfl, ⟨hT1, hT2⟩, h⟩ := popA_ex h
  refine SW_gen ?_ (hk _ _ _ _ h)
  intro G p e R s m args below meth c cap H locs cells slots FQ ls hf hr hl hv hs hc hb9
  obtain ⟨hx, hb, -, -, -, -, hown, hts, -, hKK, -⟩ := hf
  obtain ⟨n0, n1⟩ := hr.n a
  refine ⟨okc (show inR (sN S a) from ⟨by omega, by omega⟩) hv (fun _ => tl1), fun q => ?_⟩
  have q' := q H locs cells slots hr hs hc hb9
  rw [List.map_cons, rV_I, ← rI_nat n0] at q'
  by_cases hc4 : sT S a < 104
  · obtain ⟨hat, hlt, hF⟩ := hr.arrI rfl hT1 hc4
    rw [List.map_cons, rV_R, rR, Option.map_some, rA_lt hF]
    exact va_alen (D := gD G) (cl := smCl) (tys := smTys G) (ws := [(gB G + a, .inl (gY G (sT S a), (sN S a).toNat, .inl fun (j : Nat) => rI (I a (j : Int))))]) hx hb hKK.k (one_P hat) 0 (sT S a - 100) rfl (smTys_at hT1 hT2) rfl hd q'
  · obtain ⟨hat, hlt, hF⟩ := hr.arrR rfl (by omega) hT2
    rw [List.map_cons, rV_R, rR, Option.map_some, rA_lt hF]
    exact va_alen (D := gD G) (cl := smCl) (tys := smTys G) (ws := [(gB G + a, .inl (gY G (sT S a), (sN S a).toNat, .inr (.inr (.inr (.inr fun (j : Nat) => rR G (sP S a (j : Int)))))))]) hx hb hKK.k (one_P hat) 0 (sT S a - 100) rfl (smTys_at hT1 hT2) rfl hd q'
/-! the law's own script: the foreign cell smF, of tag 200 -/
def im_sld (l : SmL) (st : List SmV) (S : SmS) (I : SmI) (K : SmK) : Prop := popIA st fun i a r => a = smF ∧ sT S smF = 200 ∧ chk (0 ≤ i ∧ i < sN S smF) ∧ K l (vI (I smF i) :: r) S I
def im_slen (l : SmL) (st : List SmV) (S : SmS) (I : SmI) (K : SmK) : Prop := popA st fun a r => a = smF ∧ sT S smF = 200 ∧ K l (vI (sN S smF) :: r) S I
theorem rA_F0 {G : SmG} : rA G smF = gF G 0 := by unfold rA; rw [if_neg (Nat.lt_irrefl _), Nat.sub_self]
theorem xv_sld (hd : decode (mC M) pc = .ok (.iaload, 1)) (hk : SmW M (pc + 1) d Rq K) : SmW M pc d Rq (fun l st S I => im_sld l st S I K) := by
  intro l st S I h
  obtain ⟨i, a, r, rfl, rfl, hT, ⟨h0, h1⟩, h⟩ := popIA_ex h
  refine SW_gen ?_ (hk _ _ _ _ h)
  intro G p e R s m args below meth c cap H locs cells slots FQ ls hf hr hl hv hs hc hb9
  obtain ⟨hx, hb, -, -, -, -, hown, hts, -, hKK, -⟩ := hf
  refine ⟨okc (hr.i smF i) hv (fun _ h => tl1 (tl1 h)), fun q => ?_⟩
  obtain ⟨hX, hbl⟩ := hr.2.2.2.2.2.2.2.2 hT
  have hi9 : inR i := hv (vI i) List.mem_cons_self
  rw [List.map_cons, List.map_cons, rV_R, rV_I, rR, Option.map_some, rA_F0]
  refine va_sld (A := gA G) (H0 := H) hx hb hX (by rw [hr.1]; omega) (fun z => by unfold gA at z; omega) ⟨Nat.le_refl _, fun _ _ _ => rfl, fun z hz => hs.2.2 z hz⟩ (rI_in h0 h1 hi9) hd ?_
  rw [rI_clamp h0 hi9]
  have q' := q H locs cells slots hr hs hc hb9
  rw [List.map_cons, rV_I] at q'
  rw [toNat_c h0]
  exact q'
theorem xv_slen (hd : decode (mC M) pc = .ok (.arraylength, 1)) (hk : SmW M (pc + 1) d Rq K) : SmW M pc d Rq (fun l st S I => im_slen l st S I K) := by
  intro l st S I h
  obtain ⟨a, r, rfl, rfl, hT, h⟩ := popA_ex h
  refine SW_gen ?_ (hk _ _ _ _ h)
  intro G p e R s m args below meth c cap H locs cells slots FQ ls hf hr hl hv hs hc hb9
  obtain ⟨hx, hb, -, -, -, -, hown, hts, -, hKK, -⟩ := hf
  obtain ⟨n0, n1⟩ := hr.n smF
  refine ⟨okc (show inR (sN S smF) from ⟨by omega, by omega⟩) hv (fun _ => tl1), fun q => ?_⟩
  obtain ⟨hX, hbl⟩ := hr.2.2.2.2.2.2.2.2 hT
  rw [List.map_cons, rV_R, rR, Option.map_some, rA_F0]
  refine va_slen (A := gA G) (H0 := H) hx hb hX (by rw [hr.1]; omega) (fun z => by unfold gA at z; omega) ⟨Nat.le_refl _, fun _ _ _ => rfl, fun z hz => hs.2.2 z hz⟩ hd ?_
  have q' := q H locs cells slots hr hs hc hb9
  rw [List.map_cons, rV_I, ← rI_nat n0] at q'
  exact q'
/-! making cells -/
theorem sAt.keptA {G : SmG} {S S' : SmS} {I I' : SmI} {v : Nat} {H H1 : Heap} (h : sAt G S I v H) (hT : sT S' v = sT S v) (hN : sN S' v = sN S v) (hI : I' v = I v) (hP : sP S' v = sP S v) (hq : H1[gB G + v]? = H[gB G + v]?) : sAt G S' I' v H1 := h.kept hT hN hI hP hq
theorem iNew_ne {I : SmI} {a v : Nat} (h : v ≠ a) : iNew I a v = I v := by funext j; rw [iNew_ap, if_neg h]
theorem iNew_self {I : SmI} {a : Nat} : iNew I a a = fun _ => 0 := by funext j; rw [iNew_ap, if_pos rfl]
theorem sNewP_self {S : SmS} {t : Nat} {n : Int} {w : Nat} : sP (sNew S t n w) (sZ S) = fun _ => none := by funext j; rw [sP_sNew, if_pos rfl]
theorem RH.make {G : SmG} {cap t w : Nat} {n : Int} {s : State} {S : SmS} {I : SmI} {H H1 : Heap} (hr : RH G cap s S I H) (h1 : 1 ≤ sC S) (ht : okTag t) (hn : 0 ≤ n ∧ n < 2147483648) (hsz : H1.size = H.size + 1) (hq : ∀ q, q < H.size → H1[q]? = H[q]?) (hat : sAt G (sNew S t n w) (iNew I (sZ S)) (sZ S) H1) : RH G cap s (sNew S t n w) (iNew I (sZ S)) H1 := by
  obtain ⟨g1, g2, g3, g4, g5, g6, g7, g8, g9⟩ := hr
  have hzF : sZ S < smF := by omega
  refine ⟨by rw [hsz, sZ_sNew]; omega, by rw [sZ_sNew, sC_sNew]; omega, g3, fun v hv hz => ?_, fun v h9 hF => ?_, fun v hF => ?_, fun v => ?_, fun v k => ?_, fun q => ?_⟩
  · rw [sZ_sNew] at hz
    by_cases hvz : v = sZ S
    · subst hvz
      exact ⟨by rw [sT_sNew, if_pos rfl]; exact ht, hat⟩
    · rw [sT_sNew, if_neg hvz] at hv ⊢
      obtain ⟨q1, q2⟩ := g4 v hv (by omega)
      exact ⟨q1, q2.kept (by rw [sT_sNew, if_neg hvz]) (by rw [sN_sNew, if_neg hvz]) (iNew_ne hvz) (by funext j; rw [sP_sNew, if_neg hvz]) (hq _ (by omega))⟩
  · rw [sZ_sNew] at h9
    rw [sT_sNew, if_neg (by omega)]
    exact g5 v (by omega) hF
  · rw [sT_sNew, if_neg (by omega)]
    exact g6 v hF
  · rw [sN_sNew]
    by_cases hvz : v = sZ S
    · rw [if_pos hvz]; exact hn
    · rw [if_neg hvz]; exact g7 v
  · rw [iNew_ap]
    by_cases hvz : v = sZ S
    · rw [if_pos hvz]; exact inR_0
    · rw [if_neg hvz]; exact g8 v k
  · rw [sT_sNew, if_neg (by omega)] at q
    obtain ⟨x1, x2⟩ := g9 q
    rw [sN_sNew, if_neg (by omega), iNew_ne (by omega)]
    exact ⟨x1.kept (hq _ (by omega)), x2⟩
theorem va_S.mk {G : SmG} {H0 H H1 : Heap} {locs : List Loc} (h : va_S (gA G) H0 H locs) (z : H.size ≤ H1.size) (oq : ∀ q : Nat, q < H.size → H1[q]? = H[q]?) : va_S (gA G) H0 H1 locs := ⟨Nat.le_trans h.1 z, fun x h1 h2 => (oq x (Nat.lt_of_lt_of_le h1 h.1)).trans (h.2.1 x h1 h2), h.2.2⟩
def im_new (t n : Nat) (l : SmL) (st : List SmV) (S : SmS) (I : SmI) (K : SmK) : Prop := chk (1 ≤ sC S ∧ n ≤ sB S) ∧ K l (vR (some (sZ S)) :: st) (sNew S t 0 n) (iNew I (sZ S))
theorem xv_new {t idx n : Nat} {C : String} {T : u_T} {N : Nat} (hd : decode (mC M) pc = .ok (.new idx, 3)) (hcl : smCl[t]? = some (C, T, N)) (ht : 1 ≤ t ∧ t < 50) (hin : ∀ w ∈ u_ws C T N, w ∈ lw_all) (hty : ∀ k, k < N → parseFieldDescriptor (T k).2.2.1 = some (smTy t k)) (hlink : Cond.classLink (mN M).cls idx C ∈ lw_all) (hins : Cond.instantiable C n ∈ lw_all) (hini : Cond.initialized C ∈ lw_all) (hdef : ∀ k, k < N → defaultValue (smTy t k) = if isRefTy (smTy t k) = true then .null else .int 0) (hk : SmW M (pc + 3) d Rq K) : SmW M pc d Rq (fun l st S I => im_new t n l st S I K) := by
  intro l st S I h
  obtain ⟨⟨h1, h2⟩, h⟩ := h
  refine SW_gen ?_ (hk _ _ _ _ h)
  intro G p e R s m args below meth c cap H locs cells slots FQ ls hf hr hl hv hs hc hb9
  obtain ⟨hx, hb, -, -, -, -, hown, hts, -, hKK, -⟩ := hf
  refine ⟨okc trivial hv (fun _ h => h), fun q => ?_⟩
  have hKn := hKK.k.1 t _ hcl
  have hN : smNF t = N := by unfold smNF; rw [hcl]
  have hzF : sZ S < smF := by have := hr.2.1; have := hr.2.2.1; omega
  refine W.newcK hx hb hown (hts _ hlink) (hts _ hins) (hts _ hini) rfl hd (by omega) (by omega) hKn.2.1 hr.1 fun H1 kC hkC e1 z1 o1 => ?_
  have q' := q H1 locs (cells + 1) (slots + n) (hr.make h1 (Or.inl ⟨ht.1, by omega⟩) ⟨by omega, by omega⟩ (by rw [hr.1]; exact z1) (by rw [hr.1]; exact o1) ?_) (hs.mk (by rw [hr.1]; omega) (by rw [hr.1]; exact o1)) (by rw [sC_sNew]; omega) (by rw [sB_sNew]; omega)
  · rw [List.map_cons, rV_R, rR, Option.map_some, rA_lt hzF] at q'
    exact q'
  · unfold sAt
    rw [sT_sNew, if_pos rfl, if_neg (by omega)]
    unfold sE smE
    rw [sT_sNew, if_pos rfl, if_pos (by omega)]
    refine ⟨_, hcl, (u_born (smTy t) hts hin hKn hkC e1 hty).to fun j hj => ?_⟩
    rw [hdef j hj]
    unfold vp_V
    rw [List.getD_eq_getElem?_getD, smFs_get (by omega), sNewP_self, iNew_self]
    cases isRefTy (smTy t j) <;> rfl
def im_newa (t : Nat) (l : SmL) (st : List SmV) (S : SmS) (I : SmI) (K : SmK) : Prop := popI st fun n r => chk (0 ≤ n ∧ n ≤ 100000 ∧ 1 ≤ sC S ∧ n.toNat ≤ sB S) ∧ K l (vR (some (sZ S)) :: r) (sNew S t n n.toNat) (iNew I (sZ S))
theorem xv_newa {t : Nat} {at_ : ArrayType} (hd : decode (mC M) pc = .ok (.newarray at_, 2)) (ht : 100 ≤ t ∧ t < 104) (hty : newarray.typeOf at_ = smAty t) (hw : Cond.arrayClass (newarray.typeOf at_) ∈ lw_all) (hk : SmW M (pc + 2) d Rq K) : SmW M pc d Rq (fun l st S I => im_newa t l st S I K) := by
  intro l st S I h
  obtain ⟨n, r, rfl, ⟨hn0, hn1, h1, h2⟩, h⟩ := popI_ex h
  refine SW_gen ?_ (hk _ _ _ _ h)
  intro G p e R s m args below meth c cap H locs cells slots FQ ls hf hr hl hv hs hc hb9
  obtain ⟨hx, hb, -, -, -, -, hown, hts, -, hKK, -⟩ := hf
  refine ⟨okc trivial hv (fun _ => tl1), fun q => ?_⟩
  have hn9 : inR n := hv (vI n) List.mem_cons_self
  have hzF : sZ S < smF := by have := hr.2.1; have := hr.2.2.1; omega
  have ht4 : t = 100 ∨ t = 101 ∨ t = 102 ∨ t = 103 := by omega
  have hcb : componentBytes (newarray.typeOf at_) ≤ 4 := by rw [hty]; rcases ht4 with rfl | rfl | rfl | rfl <;> decide
  rw [List.map_cons, rV_I]
  refine va_newaK hx hb (hts _ hw) rfl hd rfl (fun z => by rw [← rI_0, rI_lt hn9 inR_0] at z; omega) (rI_clamp hn0 hn9) ?_ (by omega) (by omega) hr.1 fun H1 cA e1 z1 o1 hAr hNm => ?_
  · have : n.toNat * componentBytes (newarray.typeOf at_) ≤ n.toNat * 4 := Nat.mul_le_mul_left _ hcb
    omega
  · have hcA : cA = gY G t := by
      have hz := (hKK.k.2 (t - 100) _ (smTys_at ht.1 (by omega))).2
      rw [hty] at hNm
      rcases ht4 with rfl | rfl | rfl | rfl <;> exact Option.some.inj (hNm.symm.trans hz)
    have q' := q H1 locs (cells + 1) (slots + n.toNat) (hr.make h1 (Or.inr ⟨ht.1, by omega⟩) ⟨hn0, by omega⟩ (by rw [hr.1]; exact z1) (by rw [hr.1]; exact o1) ?_) (hs.mk (by rw [hr.1]; omega) (by rw [hr.1]; exact o1)) (by rw [sC_sNew]; omega) (by rw [sB_sNew]; omega)
    · rw [List.map_cons, rV_R, rR, Option.map_some, rA_lt hzF] at q'
      exact q'
    · unfold sAt
      rw [sT_sNew, if_pos rfl, if_neg (by omega)]
      unfold sE smE
      rw [sT_sNew, if_pos rfl, if_neg (by omega), if_pos (by omega), sN_sNew, if_pos rfl, iNew_self, ← hcA]
      show H1[gB G + sZ S]? = some (vp_cell _ _)
      rw [e1, vp_cell_i]
      congr 2
      funext j
      rw [hty]
      rcases ht4 with rfl | rfl | rfl | rfl <;> rfl
def im_newq (t : Nat) (l : SmL) (st : List SmV) (S : SmS) (I : SmI) (K : SmK) : Prop := popI st fun n r => chk (0 ≤ n ∧ n ≤ 100000 ∧ 1 ≤ sC S ∧ n.toNat ≤ sB S) ∧ K l (vR (some (sZ S)) :: r) (sNew S t n n.toNat) (iNew I (sZ S))
theorem KK.ao {G : SmG} {U : State} {C : String} (h : KK G U) (hw : Cond.arrayOver (.object C) ∈ lw_tbl) : va_AO C U := by
  obtain ⟨s0, b, h1, h2, h3, h4, -⟩ := h
  exact (va_AO.of (h1 _ hw)).moved h4.alike
theorem xv_newq {t idx : Nat} {C : String} (hd : decode (mC M) pc = .ok (.anewarray idx, 3)) (ht : 105 ≤ t ∧ t < 108) (hty : smAty t = .object C) (hlink : Cond.classLink (mN M).cls idx C ∈ lw_all) (hw : Cond.arrayOver (.object C) ∈ lw_tbl) (hk : SmW M (pc + 3) d Rq K) : SmW M pc d Rq (fun l st S I => im_newq t l st S I K) := by
  intro l st S I h
  obtain ⟨n, r, rfl, ⟨hn0, hn1, h1, h2⟩, h⟩ := popI_ex h
  refine SW_gen ?_ (hk _ _ _ _ h)
  intro G p e R s m args below meth c cap H locs cells slots FQ ls hf hr hl hv hs hc hb9
  obtain ⟨hx, hb, -, -, -, -, hown, hts, -, hKK, -⟩ := hf
  refine ⟨okc trivial hv (fun _ => tl1), fun q => ?_⟩
  have hn9 : inR n := hv (vI n) List.mem_cons_self
  have hzF : sZ S < smF := by have := hr.2.1; have := hr.2.2.1; omega
  rw [List.map_cons, rV_I]
  refine W.anew hx hb hown (hts _ hlink) (va_AO.use (hKK.ao hw)) rfl hd rfl (fun z => by rw [← rI_0, rI_lt hn9 inR_0] at z; omega) (by rw [rI_clamp hn0 hn9]; omega) (by omega) (by rw [rI_clamp hn0 hn9]; omega) fun cA kA comp f1 f2 f3 f4 => ?_
  rw [rI_clamp hn0 hn9]
  have hcA : cA = gY G t := by
    have hz := (hKK.k.2 (t - 100) _ (smTys_at (by omega) ht.2)).2
    rw [hty] at hz
    obtain ⟨kA', comp', k1, k2, k3, k4⟩ := hz
    exact Option.some.inj (f1.symm.trans k4)
  generalize hH1 : H.push ({ cls := cA, slots := Array.replicate n.toNat .null, vm := .none } : Cell) = H1
  have z1 : H1.size = H.size + 1 := by rw [← hH1, Array.size_push]
  have e1 : H1[H.size]? = some (arrV cA n.toNat (fun _ => .null)) := by rw [← hH1, Array.getElem?_push_size, ← arrV_new]
  have o1 : ∀ q : Nat, q < H.size → H1[q]? = H[q]? := fun q hq => by rw [← hH1, Array.getElem?_push, if_neg (Nat.ne_of_lt hq)]
  have q' := q H1 locs (cells + 1) (slots + n.toNat) (hr.make h1 (Or.inr ⟨by omega, ht.2⟩) ⟨hn0, by omega⟩ z1 o1 ?_) (hs.mk (by omega) o1) (by rw [sC_sNew]; omega) (by rw [sB_sNew]; omega)
  · rw [List.map_cons, rV_R, rR, Option.map_some, rA_lt hzF, ← hr.1] at q'
    exact q'
  · unfold sAt
    rw [sT_sNew, if_pos rfl, if_neg (by omega)]
    unfold sE smE
    rw [sT_sNew, if_pos rfl, if_neg (by omega), if_neg (by omega), sN_sNew, if_pos rfl, sNewP_self, ← hcA]
    show H1[gB G + sZ S]? = some (vp_cell _ _)
    rw [← hr.1, e1, vp_cell_q]
    rfl
/-! switches -/
def tswA (l : SmL) (r : List SmV) (S : SmS) (I : SmI) (x : Int) : Int → List SmK → Prop
  | _, [] => True
  | lo, K :: Ks => (x = lo → K l r S I) ∧ tswA l r S I x (lo + 1) Ks
def im_tsw (lo hi : Int) (Ks : List SmK) (Kd : SmK) (l : SmL) (st : List SmV) (S : SmS) (I : SmI) : Prop := popI st fun x r => tswA l r S I x lo Ks ∧ ((x < lo ∨ hi < x) → Kd l r S I)
def tswOk (M : SmM) (pc d : Nat) (Rq : SmQ) : List Int → List SmK → Prop
  | [], [] => True
  | off :: offs, K :: Ks => (∃ tgt : Nat, (pc : Int) + off = (tgt : Int) ∧ SmW M tgt d Rq K) ∧ tswOk M pc d Rq offs Ks
  | _, _ => False
theorem tsw_pick {offs : List Int} {Ks : List SmK} {l : SmL} {r : List SmV} {S : SmS} {I : SmI} {x lo : Int} (h : tswA l r S I x lo Ks) (ho : tswOk M pc d Rq offs Ks) (h0 : lo ≤ x) (h1 : x < lo + offs.length) : ∃ (off : Int) (tgt : Nat), offs[(x - lo).toNat]? = some off ∧ (pc : Int) + off = (tgt : Int) ∧ SW M tgt d Rq l r S I := by
  induction offs generalizing Ks lo with
  | nil => simp at h1; omega
  | cons off offs ih =>
    cases Ks with
    | nil => cases ho
    | cons K Ks =>
      obtain ⟨⟨tgt, q1, q2⟩, q3⟩ := ho
      by_cases hx : x = lo
      · subst hx
        exact ⟨off, tgt, by simp, q1, q2 _ _ _ _ (h.1 rfl)⟩
      · obtain ⟨o2, t2, g1, g2, g3⟩ := ih h.2 q3 (by omega) (by simp at h1; omega)
        refine ⟨o2, t2, ?_, g2, g3⟩
        rw [show (x - lo).toNat = (x - (lo + 1)).toNat + 1 by omega, List.getElem?_cons_succ]
        exact g1
theorem xv_tsw {dflt lo hi : Int} {offs : Array Int} {len tgtd : Nat} {Ks : List SmK} {Kd : SmK} (hd : decode (mC M) pc = .ok (.tableswitch dflt lo hi offs, len)) (hlen : hi = lo + (offs.toList.length : Int) - 1) (ho : tswOk M pc d Rq offs.toList Ks) (htd : (pc : Int) + dflt = (tgtd : Int)) (hkd : SmW M tgtd d Rq Kd) : SmW M pc d Rq (fun l st S I => im_tsw lo hi Ks Kd l st S I) := by
  intro l st S I h
  obtain ⟨x, r, rfl, h1, h2⟩ := popI_ex h
  by_cases hx : x < lo ∨ hi < x
  · refine SW_pure ?_ (hkd _ _ _ _ (h2 hx))
    intro G p e R s m args below meth c H locs cells slots FQ ls hf hl hv hI
    obtain ⟨hxx, hb, hf⟩ := hf
    exact ⟨fun v hv' => hv v (tl1 hv'), fun q => lv_tableOut hxx hb hd (by rw [rI_toInt (hv (vI x) List.mem_cons_self)]; exact hx) htd (q ls hl)⟩
  · obtain ⟨off, tgt, g1, g2, g3⟩ := tsw_pick h1 ho (by omega) (by omega)
    refine SW_pure ?_ g3
    intro G p e R s m args below meth c H locs cells slots FQ ls hf hl hv hI
    obtain ⟨hxx, hb, hf⟩ := hf
    have hx9 := rI_toInt (hv (vI x) List.mem_cons_self : inR x)
    exact ⟨fun v hv' => hv v (tl1 hv'), fun q => lv_tableIn hxx hb hd (by rw [hx9]; omega) (by rw [hx9]; omega) (by rw [hx9, ← Array.getElem?_toList]; exact g1) g2 (q ls hl)⟩
def lswA (l : SmL) (r : List SmV) (S : SmS) (I : SmI) (x : Int) (Kd : SmK) : List (Int × SmK) → Prop
  | [] => Kd l r S I
  | (k, K) :: Ks => (x = k → K l r S I) ∧ (¬ x = k → lswA l r S I x Kd Ks)
def im_lsw (Ks : List (Int × SmK)) (Kd : SmK) (l : SmL) (st : List SmV) (S : SmS) (I : SmI) : Prop := popI st fun x r => lswA l r S I x Kd Ks
def lswOk (M : SmM) (pc d : Nat) (Rq : SmQ) : List (Int × Int) → List (Int × SmK) → Prop
  | [], [] => True
  | (k, off) :: offs, (k', K) :: Ks => (k = k' ∧ ∃ tgt : Nat, (pc : Int) + off = (tgt : Int) ∧ SmW M tgt d Rq K) ∧ lswOk M pc d Rq offs Ks
  | _, _ => False
theorem lsw_pick {ps : List (Int × Int)} {Ks : List (Int × SmK)} {Kd : SmK} {l : SmL} {r : List SmV} {S : SmS} {I : SmI} {x dflt : Int} {tgtd : Nat} (h : lswA l r S I x Kd Ks) (ho : lswOk M pc d Rq ps Ks) (htd : (pc : Int) + dflt = (tgtd : Int)) (hkd : SmW M tgtd d Rq Kd) : ∃ (off : Int) (tgt : Nat), Op.lookupswitch.offset ps dflt x = off ∧ (pc : Int) + off = (tgt : Int) ∧ SW M tgt d Rq l r S I := by
  induction ps generalizing Ks with
  | nil =>
    cases Ks with
    | nil => exact ⟨dflt, tgtd, rfl, htd, hkd _ _ _ _ h⟩
    | cons K Ks => cases ho
  | cons p ps ih =>
    cases Ks with
    | nil => cases ho
    | cons K Ks =>
      obtain ⟨k, off⟩ := p
      obtain ⟨k', K⟩ := K
      obtain ⟨⟨rfl, tgt, q1, q2⟩, q3⟩ := ho
      by_cases hx : x = k
      · subst hx
        exact ⟨off, tgt, by simp [Op.lookupswitch.offset], q1, q2 _ _ _ _ (h.1 rfl)⟩
      · obtain ⟨o2, t2, g1, g2, g3⟩ := ih (h.2 hx) q3
        refine ⟨o2, t2, ?_, g2, g3⟩
        rw [← g1]
        have hx' : ¬ k = x := fun z => hx z.symm
        simp [Op.lookupswitch.offset, hx']
theorem xv_lsw {dflt : Int} {ps : Array (Int × Int)} {len tgtd : Nat} {Ks : List (Int × SmK)} {Kd : SmK} (hd : decode (mC M) pc = .ok (.lookupswitch dflt ps, len)) (hp : (ps.toList.zip (ps.toList.drop 1)).all (fun (a, next) => a.1 < next.1) = true) (ho : lswOk M pc d Rq ps.toList Ks) (htd : (pc : Int) + dflt = (tgtd : Int)) (hkd : SmW M tgtd d Rq Kd) : SmW M pc d Rq (fun l st S I => im_lsw Ks Kd l st S I) := by
  intro l st S I h
  obtain ⟨x, r, rfl, h⟩ := popI_ex h
  obtain ⟨off, tgt, g1, g2, g3⟩ := lsw_pick h ho htd hkd
  refine SW_pure ?_ g3
  intro G p e R s m args below meth c H locs cells slots FQ ls hf hl hv hI
  obtain ⟨hxx, hb, hf⟩ := hf
  have hx9 := rI_toInt (hv (vI x) List.mem_cons_self : inR x)
  exact ⟨fun v hv' => hv v (tl1 hv'), fun q => lv_lookup hxx hb hd hp (by rw [hx9]; exact g1) g2 (q ls hl)⟩
/-- a long into a local, of two places -/
def im_lstore (k : Nat) (l : SmL) (st : List SmV) (S : SmS) (I : SmI) (K : SmK) : Prop := popJ st fun z r => nlAt l k ∧ K ((l.set k (some (vJ z))).set (k + 1) none) r S I
theorem lvl_store2 {G : SmG} {nL k : Nat} {l : SmL} {ls' : Array Slot} {v : SmV} (hlen : l.length = nL) (hok : ∀ (i : Nat) (v : SmV), l[i]? = some (some v) → okV v) (hnl : nlAt l k) (hk : k + 1 < nL) (hv : okV v) (h : lv_has ls' nL ((k, rV G v) :: (lvl G l).filter (fun q => !(q.1 == k) && (!(q.1 == k + 1) && !(q.1 + 1 == k && q.2.category == 2))))) : LcS G nL ((l.set k (some v)).set (k + 1) none) ls' := by
  refine ⟨h.1, h.2.1, by rw [List.length_set, List.length_set]; exact hlen, fun i w hw => ?_⟩
  by_cases hi1 : i = k + 1
  · subst hi1
    rw [List.getElem?_set_self (by rw [List.length_set]; omega)] at hw
    cases hw
  · rw [List.getElem?_set_ne (Ne.symm hi1)] at hw
    by_cases hi : i = k
    · subst hi
      rw [List.getElem?_set_self (by omega)] at hw
      cases hw
      exact ⟨h.2.2 (i, rV G v) List.mem_cons_self, hv⟩
    · rw [List.getElem?_set_ne (Ne.symm hi)] at hw
      refine ⟨h.2.2 (i, rV G w) (List.mem_cons_of_mem _ (List.mem_filter.mpr ⟨lvl_mem.mpr ⟨w, hw, rfl⟩, ?_⟩)), hok i w hw⟩
      simp only [Bool.and_eq_true, Bool.not_eq_true', beq_eq_false_iff_ne, ne_eq, hi, hi1, not_false_eq_true, true_and, Bool.and_eq_false_iff]
      by_cases h1 : i + 1 = k
      · right
        intro h2
        obtain ⟨z, rfl⟩ := rV_cat2 h2
        subst h1
        have hnl' : (match lget l i with
          | some (.inr (.inl _)) => False
          | _ => True) := hnl
        rw [get_lget hw] at hnl'
        exact hnl'
      · exact Or.inl h1
theorem xv_lstore {k : Nat} (hd : decode (mC M) pc = .ok (.lstore k, 2)) (hL : k + 1 < mL M) (hk : SmW M (pc + 2) d Rq K) : SmW M pc d Rq (fun l st S I => im_lstore k l st S I K) := by
  intro l st S I h
  obtain ⟨z, r, rfl, hn9, h9⟩ := popJ_ex h
  refine SW_pure ?_ (hk _ _ _ _ h9)
  intro G p e R s m args below meth c H locs cells slots FQ ls hf hl hv hI
  obtain ⟨hx, hb, hf⟩ := hf
  exact ⟨fun v hv' => hv v (List.mem_cons_of_mem _ hv'), fun q => lv_lstore hx hb hd (lvl_has hl) hL rfl fun ls' hl' => q ls' (lvl_store2 hl.2.2.1 (fun i v h => (hl.2.2.2 i v h).2) hn9 hL (hv (vJ z) List.mem_cons_self) hl')⟩
end XA
