/-! ===== reference stores, casts, constants that are objects ===== -/
set_option maxRecDepth 100000
/-- the class whose objects an array of class t holds -/
def aEl (t : Nat) : Nat := if t = 105 then 4 else if t = 106 then 5 else 9
def aOk (t : Nat) (S : SmS) : Option Nat → Prop
  | none => True
  | some v => sT S v = aEl t
theorem aOk_n (t : Nat) (S : SmS) : aOk t S none = True := rfl
theorem aOk_s (t : Nat) (S : SmS) (v : Nat) : aOk t S (some v) = (sT S v = aEl t) := rfl
theorem aEl_105 : aEl 105 = 4 := rfl
theorem aEl_106 : aEl 106 = 5 := rfl
theorem aEl_107 : aEl 107 = 9 := rfl
theorem RH.rcv {G : SmG} {cap : Nat} {s : State} {S : SmS} {I : SmI} {H : Heap} {v t : Nat} {C : String} {T : u_T} {N : Nat} (hr : RH G cap s S I H) (hK : KK G s) (ht : sT S v = t) (h1 : 1 ≤ t) (h2 : t < 50) (hcl : smCl[t]? = some (C, T, N)) : ∃ cell : Cell, H[gB G + v]? = some cell ∧ cell.vm.isStatics = false ∧ s.vm.findClass C = some cell.cls :=
  va_recv (D := gD G) (cl := smCl) (ws := [(gB G + v, .inr (t, smFs G t (I v) (sP S v)))]) (ci := t) (q0 := 0) hK.k (one_P (hr.obj ht h1 h2).1) hcl rfl
section XO
variable {M : SmM} {pc d : Nat} {Rq : SmQ} {K Kt Kf : SmK}
def im_aast (t : Nat) (l : SmL) (st : List SmV) (S : SmS) (I : SmI) (K : SmK) : Prop := popRIA st fun x i a r => sT S a = t ∧ chk (0 ≤ i ∧ i < sN S a) ∧ aOk t S x ∧ K l r (sPut S a i x) I
theorem sm_aast {t : Nat} {C E : String} {T : u_T} {N : Nat} (hd : decode (mC M) pc = .ok (.aastore, 1)) (ht : 105 ≤ t ∧ t < 108) (hcl : smCl[aEl t]? = some (C, T, N)) (hty : smAty t = .object E) (hasg : ∀ (G : SmG) (U : State), KK G U → ∀ comp c0 : ClassId, U.vm.findClass E = some comp → U.vm.findClass C = some c0 → U.vm.assignable c0 comp = true) (hk : SmW M (pc + 1) d Rq K) : SmW M pc d Rq (fun l st S I => im_aast t l st S I K) := by
  intro l st S I h
  obtain ⟨x, i, a, r, rfl, hT, ⟨h0, h1⟩, hok, h⟩ := popRIA_ex h
  refine SW_gen ?_ (hk _ _ _ _ h)
  intro G p e R s m args below meth c cap H locs cells slots FQ ls hf hr hl hv hs hc hb9
  obtain ⟨hx, hb, -, -, -, -, hown, hts, -, hKK, -⟩ := hf
  refine ⟨fun v hv' => hv v (tl1 (tl1 (tl1 hv'))), fun q => ?_⟩
  obtain ⟨hat, hlt, hF⟩ := hr.arrR hT (by omega) ht.2
  have hi9 : inR i := hv (vI i) (tl1 List.mem_cons_self)
  have hin9 := rI_in h0 h1 hi9
  have hK2 := hKK.k.2 (t - 100) _ (smTys_at (G := G) (t := t) (by omega) ht.2)
  rw [List.map_cons, List.map_cons, List.map_cons, rV_R, rV_R, rV_I, show rR G (some a) = some (gB G + a) from congrArg some (rA_lt hF)]
  have fin : ∀ H1 : Heap, H1[gB G + a]? = some ((vp_cell (gY G t) ((sN S a).toNat, .inr (.inr (.inr (.inr fun (j : Nat) => rR G (sP S a (j : Int))))))).setSlot (rI i).toNatClampNeg (va_rf (rR G x))) → H1.size = H.size → (∀ q, q ≠ gB G + a → H1[q]? = H[q]?) → W p (gL G) e R s m args below meth c H1 (locs ++ [⟨gB G + a, (rI i).toNatClampNeg⟩]) cells slots FQ (F0 m (pc + 1) ls (r.map (rV G))) := by
    intro H1 e1 e2 e3
    refine q H1 _ cells slots (hr.write hlt hF rfl rfl rfl rfl (fun v h => rfl) (fun v h => sPut_ne h) (fun j => hr.i a j) ?_ e2 e3) (hs.w e2 e3) hc hb9
    unfold sAt
    rw [sT_sPut, if_neg (by omega)]
    unfold sE smE
    rw [sT_sPut, if_neg (by omega), if_neg (by omega), hT]
    show H1[gB G + a]? = some (vp_cell _ _)
    rw [e1, rI_clamp h0 hi9, vp_cell_q, vp_cell_q, arrV_store]
    congr 2
    funext j
    by_cases hj : j = i.toNat
    · subst hj
      simp only [updV, if_pos]
      rw [sP_sPut, if_pos (show a = a ∧ ((i.toNat : Nat) : Int) = i from ⟨rfl, toNat_c h0⟩)]
    · simp only [updV, if_neg hj]
      rw [sP_sPut, if_neg (fun z => hj (by omega))]
  have hin9' : ¬ (rI i < 0 ∨ (vp_cell (gY G t) ((sN S a).toNat, (.inr (.inr (.inr (.inr fun (j : Nat) => rR G (sP S a (j : Int))))) : (Nat → Int32) ⊕ (Nat → Int64) ⊕ _))).slots.size ≤ (rI i).toNatClampNeg) := by
    rw [vp_cell_q, arrV_size]; exact hin9
  cases x with
  | none =>
    show W p (gL G) e R s m args below meth c H locs cells slots FQ (F0 m pc ls (.null :: .int (rI i) :: .ref (gB G + a) :: _))
    refine va_WaastN (C := E) hx hb hat ?_ (fun h => by rw [vp_cell_q] at h; cases h) hin9' rfl rfl hd fun H1 e1 e2 e3 => fin H1 e1 e2 e3
    rw [vp_cell_q, ← hty]
    exact hK2.1 (sN S a).toNat (fun j => va_rf (rR G (sP S a (j : Int))))
  | some v =>
    have hTv : sT S v = aEl t := hok
    have h1e : 1 ≤ aEl t := by unfold aEl; split <;> (try split) <;> omega
    have h2e : aEl t < 50 := by unfold aEl; split <;> (try split) <;> omega
    obtain ⟨cellV, g1, g3, g2⟩ := hr.rcv hKK hTv h1e h2e hcl
    rw [show rR G (some v) = some (gB G + v) from congrArg some (rA_lt (hr.obj hTv h1e h2e).2.2)]
    rw [show rR G (some v) = some (gB G + v) from congrArg some (rA_lt (hr.obj hTv h1e h2e).2.2)] at fin
    rw [hty] at hK2
    obtain ⟨kA, comp, k1, k2, k3, -⟩ := hK2.2
    obtain ⟨kE, hkE, -⟩ := Vm.findClass_spec k3
    obtain ⟨kC, hkC, -⟩ := Vm.findClass_spec g2
    exact W.aast hx hb hat (fun q h => by rw [vp_cell_q] at h; cases h) (fun h => by rw [vp_cell_q] at h; cases h) k1 k2 rfl hkE ⟨fun q => hin9' (Or.inl q), by
      rw [vp_cell_q, arrV_size]; exact Nat.not_le.mp fun q => hin9 (Or.inr q)⟩ g1 (fun q h => by rw [h] at g3; cases g3) hkC (hasg G s hKK _ _ k3 g2) rfl rfl hd fun H1 e1 e2 e3 => fin H1 e1 e2 e3
theorem xv_aast_105 (hd : decode (mC M) pc = .ok (.aastore, 1)) (hk : SmW M (pc + 1) d Rq K) : SmW M pc d Rq (fun l st S I => im_aast 105 l st S I K) :=
  sm_aast hd ⟨by omega, by omega⟩ (C := RX4) (T := TX4) (N := 3) rfl rfl (fun G U h comp c0 h1 h2 => vb_asgS _ _ h1 h2) hk
theorem xv_aast_106 (hd : decode (mC M) pc = .ok (.aastore, 1)) (hk : SmW M (pc + 1) d Rq K) : SmW M pc d Rq (fun l st S I => im_aast 106 l st S I K) :=
  sm_aast hd ⟨by omega, by omega⟩ (C := RX5) (T := TX5) (N := 2) rfl rfl (fun G U h comp c0 h1 h2 => vb_asgS _ _ h1 h2) hk
theorem KK.cast {G : SmG} {U : State} {C E : String} (h : KK G U) (hw : Cond.castable C E ∈ lw_tbl) : va_Nw (.castable C E) U := h.tbl hw rfl (fun _ hW hZ => va_Nw.warmC hW hZ)
theorem xv_aast_107 (hd : decode (mC M) pc = .ok (.aastore, 1)) (hk : SmW M (pc + 1) d Rq K) : SmW M pc d Rq (fun l st S I => im_aast 107 l st S I K) :=
  sm_aast hd ⟨by omega, by omega⟩ (C := RX9) (T := TX9) (N := 2) rfl rfl (fun G U h comp c0 h1 h2 => vb_asgC (h.cast q2308) _ _ h1 h2) hk
/-! casts: of null, of an object of a class that is castable -/
def cOk (ts : List Nat) (S : SmS) : Option Nat → Prop
  | none => True
  | some v => sT S v ∈ ts
theorem cOk_n (ts : List Nat) (S : SmS) : cOk ts S none = True := rfl
theorem cOk_s (ts : List Nat) (S : SmS) (v : Nat) : cOk ts S (some v) = (sT S v ∈ ts) := rfl
/-- a cast that does not fail: to an object of one of the classes ts -/
def im_castO (ts : List Nat) (l : SmL) (st : List SmV) (S : SmS) (I : SmI) (K : SmK) : Prop := popR st fun x r => cOk ts S x ∧ K l (vR x :: r) S I
theorem xv_castO {ts : List Nat} {idx : Nat} {nm : String} (hd : decode (mC M) pc = .ok (.checkcast idx, 3)) (hlink : Cond.classLink (mN M).cls idx nm ∈ lw_all) (hc9 : ∀ t ∈ ts, ∃ (C : String) (T : u_T) (N : Nat), (1 ≤ t ∧ t < 50) ∧ smCl[t]? = some (C, T, N) ∧ (C = nm ∨ Cond.castable C nm ∈ lw_tbl)) (hk : SmW M (pc + 3) d Rq K) : SmW M pc d Rq (fun l st S I => im_castO ts l st S I K) := by
  intro l st S I h
  obtain ⟨x, r, rfl, hok, h⟩ := popR_ex h
  refine SW_gen ?_ (hk _ _ _ _ h)
  intro G p e R s m args below meth c cap H locs cells slots FQ ls hf hr hl hv hs hc hb9
  obtain ⟨hx, hb, -, -, -, -, hown, hts, -, hKK, -⟩ := hf
  refine ⟨hv, fun q => ?_⟩
  have q' := q H locs cells slots hr hs hc hb9
  rw [List.map_cons, rV_R] at q' ⊢
  cases x with
  | none => exact lv_castN hx hb hd q'
  | some v =>
    obtain ⟨C, T, N, ht, hcl, hor⟩ := hc9 _ hok
    have hrc := hr.rcv hKK (v := v) rfl ht.1 ht.2 hcl
    have e1 : rR G (some v) = some (gB G + v) := congrArg some (rA_lt (hr.obj (v := v) rfl ht.1 ht.2).2.2)
    rw [e1] at q' ⊢
    rcases hor with rfl | hor
    · exact va_castE hx hb hown (hts _ hlink) hrc hd q'
    · exact va_castY hx hb hown (hts _ hlink) (hKK.cast hor) hrc hd q'
def im_instO (ts : List Nat) (l : SmL) (st : List SmV) (S : SmS) (I : SmI) (K : SmK) : Prop := popA st fun a r => sT S a ∈ ts ∧ K l (vI 1 :: r) S I
theorem xv_instO {ts : List Nat} {idx : Nat} {nm : String} (hd : decode (mC M) pc = .ok (.instanceof idx, 3)) (hlink : Cond.classLink (mN M).cls idx nm ∈ lw_all) (hc9 : ∀ t ∈ ts, ∃ (C : String) (T : u_T) (N : Nat), (1 ≤ t ∧ t < 50) ∧ smCl[t]? = some (C, T, N) ∧ (C = nm ∨ Cond.castable C nm ∈ lw_tbl)) (hk : SmW M (pc + 3) d Rq K) : SmW M pc d Rq (fun l st S I => im_instO ts l st S I K) := by
  intro l st S I h
  obtain ⟨v, r, rfl, hok, h⟩ := popA_ex h
  refine SW_gen ?_ (hk _ _ _ _ h)
  intro G p e R s m args below meth c cap H locs cells slots FQ ls hf hr hl hv hs hc hb9
  obtain ⟨hx, hb, -, -, -, -, hown, hts, -, hKK, -⟩ := hf
  refine ⟨okc (show inR 1 by unfold inR; omega) hv (fun _ => tl1), fun q => ?_⟩
  have q' := q H locs cells slots hr hs hc hb9
  rw [List.map_cons, rV_I] at q'
  rw [List.map_cons, rV_R]
  obtain ⟨C, T, N, ht, hcl, hor⟩ := hc9 _ hok
  have hrc := hr.rcv hKK (v := v) rfl ht.1 ht.2 hcl
  have e1 : rR G (some v) = some (gB G + v) := congrArg some (rA_lt (hr.obj (v := v) rfl ht.1 ht.2).2.2)
  rw [e1]
  rcases hor with rfl | hor
  · exact va_instE hx hb hown (hts _ hlink) hrc hd q'
  · exact va_instY hx hb hown (hts _ hlink) (hKK.cast hor) hrc hd q'
/-! constants that are objects -/
theorem KK.pres {G : SmG} {U : State} (h : KK G U) : va_Z "java/util/TreeSet" "PRESENT" "Ljava/lang/Object;" (.ref (gF G 1)) (gA G) U U.heap := by
  obtain ⟨s0, b, h1, h2, h3, h4, h5, h5', h6, h7, h8, h9, -⟩ := h
  exact (h9.1.moved h4.alike).kept fun q hq _ => h6 q (by rw [h5]; exact hq)
def im_present (l : SmL) (st : List SmV) (S : SmS) (I : SmI) (K : SmK) : Prop := K l (vR (some (smF + 1)) :: st) S I
theorem rA_F1 (G : SmG) : rA G (smF + 1) = gF G 1 := by
  unfold rA
  rw [if_neg (by omega)]
  rfl
theorem xv_present {idx : Nat} (hd : decode (mC M) pc = .ok (.getstatic idx, 3)) (hlink : Cond.fieldLink (mN M).cls idx "java/util/TreeSet" "PRESENT" "Ljava/lang/Object;" ∈ lw_all) (hk : SmW M (pc + 3) d Rq K) : SmW M pc d Rq (fun l st S I => im_present l st S I K) := by
  intro l st S I h
  refine SW_gen ?_ (hk _ _ _ _ h)
  intro G p e R s m args below meth c cap H locs cells slots FQ ls hf hr hl hv hs hc hb9
  obtain ⟨hx, hb, -, -, -, -, hown, hts, -, hKK, -⟩ := hf
  refine ⟨okc trivial hv (fun _ h => h), fun q => ?_⟩
  have q' := q H locs cells slots hr hs hc hb9
  rw [List.map_cons, rV_R, rR, Option.map_some, rA_F1] at q'
  exact va_gets hx hb hKK.pres hs hown (hts _ hlink) (fun _ h => h) hd q'
/-- the words of the text -/
theorem KK.str {G : SmG} {U : State} (h : KK G U) : vk_R "LineDispatch$Reader" 114 "place" (gF G 2) U ∧ vk_R "LineDispatch$Reader" 120 "section" (gF G 3) U ∧ vk_R "LineDispatch$Reader" 122 "train" (gF G 4) U := by
  obtain ⟨s0, b, h1, h2, h3, h4, h5, h5', h6, h7, h8, h9, -⟩ := h
  exact ⟨h9.2.1.warm h4, h9.2.2.1.warm h4, h9.2.2.2.1.warm h4⟩
def im_str (k : Nat) (l : SmL) (st : List SmV) (S : SmS) (I : SmI) (K : SmK) : Prop := K l (vR (some (smF + k)) :: st) S I
theorem rA_Fk (G : SmG) (k : Nat) : rA G (smF + k) = gF G k := by
  unfold rA
  rw [if_neg (by omega), Nat.add_sub_cancel_left]
theorem sm_str {k idx : Nat} {tx : String} (hd : decode (mC M) pc = .ok (.ldc idx, 2)) (hz : ∀ (G : SmG) (U : State), KK G U → vk_R (mN M).cls idx tx (gF G k) U) (hk : SmW M (pc + 2) d Rq K) : SmW M pc d Rq (fun l st S I => im_str k l st S I K) := by
  intro l st S I h
  refine SW_gen ?_ (hk _ _ _ _ h)
  intro G p e R s m args below meth c cap H locs cells slots FQ ls hf hr hl hv hs hc hb9
  obtain ⟨hx, hb, -, -, -, -, hown, hts, -, hKK, -⟩ := hf
  refine ⟨okc trivial hv (fun _ h => h), fun q => ?_⟩
  have q' := q H locs cells slots hr hs hc hb9
  rw [List.map_cons, rV_R, rR, Option.map_some, rA_Fk] at q'
  exact va_ldcS hx hb hown (hz G s hKK) hd q'
theorem xv_str2 (hc : (mN M).cls = "LineDispatch$Reader") (hd : decode (mC M) pc = .ok (.ldc 114, 2)) (hk : SmW M (pc + 2) d Rq K) : SmW M pc d Rq (fun l st S I => im_str 2 l st S I K) := sm_str hd (fun G U h => by rw [hc]; exact h.str.1) hk
theorem xv_str3 (hc : (mN M).cls = "LineDispatch$Reader") (hd : decode (mC M) pc = .ok (.ldc 120, 2)) (hk : SmW M (pc + 2) d Rq K) : SmW M pc d Rq (fun l st S I => im_str 3 l st S I K) := sm_str hd (fun G U h => by rw [hc]; exact h.str.2.1) hk
theorem xv_str4 (hc : (mN M).cls = "LineDispatch$Reader") (hd : decode (mC M) pc = .ok (.ldc 122, 2)) (hk : SmW M (pc + 2) d Rq K) : SmW M pc d Rq (fun l st S I => im_str 4 l st S I K) := sm_str hd (fun G U h => by rw [hc]; exact h.str.2.2) hk
/-! throwing -/
def im_athrow (M : SmM) (pc d : Nat) (Rq : SmQ) (l : SmL) (st : List SmV) (S : SmS) (I : SmI) : Prop := popA st fun a _ => (1 ≤ sT S a ∧ sT S a < 22) ∧ EX M pc d Rq l a S I
theorem xv_athrow (hd : decode (mC M) pc = .ok (.athrow, 1)) : SmW M pc d Rq (fun l st S I => im_athrow M pc d Rq l st S I) := by
  intro l st S I h
  obtain ⟨v, r, rfl, ht, h⟩ := popA_ex h
  intro G p e R s m args below meth c cap H locs cells slots FQ ls hf hr hl hv hs hc hb9 hq
  have hlt := hr.lt (v := v) (by omega) (by omega)
  rw [List.map_cons, rV_R, rR, Option.map_some, rA_lt hlt.2]
  exact vx_athrow hf.1 hf.2.1 hd (h G p e R s m args below meth c cap H locs cells slots FQ ls _ hf hr hl hs hc hb9 hq ⟨ht.1, ht.2, hlt.1⟩)
end XO
