/-! ===== instructions at which the machine may throw (printed by gen/mkx.py) ===== -/
set_option maxRecDepth 100000
def popIO : List SmV → (Int → Option Nat → List SmV → Prop) → Prop
  | .inl i :: .inr (.inr x) :: r, f => f i x r
  | _, _ => False
theorem popIO_eq (i : Int) (x : Option Nat) (r : List SmV) (f : Int → Option Nat → List SmV → Prop) : popIO (vI i :: vR x :: r) f = f i x r := rfl
theorem popIO_ex {st : List SmV} {f : Int → Option Nat → List SmV → Prop} (h : popIO st f) : ∃ i x r, st = vI i :: vR x :: r ∧ f i x r := by
  unfold popIO at h
  split at h
  · exact ⟨_, _, _, rfl, h⟩
  · cases h
def popIIO : List SmV → (Int → Int → Option Nat → List SmV → Prop) → Prop
  | .inl x :: .inl i :: .inr (.inr y) :: r, f => f x i y r
  | _, _ => False
theorem popIIO_eq (x i : Int) (y : Option Nat) (r : List SmV) (f : Int → Int → Option Nat → List SmV → Prop) : popIIO (vI x :: vI i :: vR y :: r) f = f x i y r := rfl
theorem popIIO_ex {st : List SmV} {f : Int → Int → Option Nat → List SmV → Prop} (h : popIIO st f) : ∃ x i y r, st = vI x :: vI i :: vR y :: r ∧ f x i y r := by
  unfold popIIO at h
  split at h
  · exact ⟨_, _, _, _, rfl, h⟩
  · cases h
section XI
variable {M : SmM} {pc d : Nat} {Rq : SmQ} {K : SmK}
theorem io_tx {i : Int32} {n : Nat} (hn : n < 2147483648) : ((toString "Index " ++ toString i ++ toString " out of bounds for length " ++ toString n : String) == notModelled) = false ∧ (stringBytes (stringToUtf16 (toString "Index " ++ toString i ++ toString " out of bounds for length " ++ toString n : String))).size ≤ 1000 := ⟨index_text_modelled i n, Nat.le_trans (index_text_bytes i (n := n) (by omega)) (by omega)⟩
def im_aldX (t : Nat) (M : SmM) (pc d : Nat) (Rq : SmQ) (l : SmL) (st : List SmV) (S : SmS) (I : SmI) (K : SmK) : Prop := popIO st fun i y r => wsum r ≤ 8 ∧ (y = none → THN M pc d Rq l S I) ∧ (∀ a, y = some a → sT S a = t ∧ ((0 ≤ i ∧ i < sN S a) → K l (vI (I a i) :: r) S I) ∧ (¬ (0 ≤ i ∧ i < sN S a) → THR M pc d Rq l 19 S I))
def im_astX (t : Nat) (M : SmM) (pc d : Nat) (Rq : SmQ) (f : Int → Int) (l : SmL) (st : List SmV) (S : SmS) (I : SmI) (K : SmK) : Prop := popIIO st fun x i y r => wsum r ≤ 8 ∧ (y = none → THN M pc d Rq l S I) ∧ (∀ a, y = some a → sT S a = t ∧ ((0 ≤ i ∧ i < sN S a) → K l r S (iSet I a i (f x))) ∧ (¬ (0 ≤ i ∧ i < sN S a) → THR M pc d Rq l 19 S I))

theorem xv_ialdX (hd : decode (mC M) pc = .ok (.iaload, 1)) (hk : SmW M (pc + 1) d Rq K) : SmW M pc d Rq (fun l st S I => im_aldX 100 M pc d Rq l st S I K) := by
  intro l st S I h
  obtain ⟨i, y, r, rfl, hws, hn, hs⟩ := popIO_ex h
  cases y with
  | none =>
    intro G p e R s m args below meth c cap H locs cells slots FQ ls hf hr hl hv hs hc hb9 hq
    show W p (gL G) e R s m args below meth c H locs cells slots FQ (F0 m pc ls (.int (rI i) :: .null :: r.map (rV G)))
    exact vx_ialoadN hf.1 hf.2.1 hd (sm_noteN hf hr hl hs hc hb9 hq hws (hn rfl))
  | some a =>
    obtain ⟨hT, h1, h2⟩ := hs a rfl
    by_cases hi : 0 ≤ i ∧ i < sN S a
    · exact xv_iald hd hk l _ S I (show im_ald 100 l (vI i :: vR (some a) :: r) S I K from ⟨hT, hi, h1 hi⟩)
    · intro G p e R s m args below meth c cap H locs cells slots FQ ls hf hr hl hv hs hc hb9 hq
      obtain ⟨hat, hlt, hF⟩ := hr.arrI hT (by omega) (by omega)
      have hKK := hf.2.2.2.2.2.2.2.2.2.1
      have hts := hf.2.2.2.2.2.2.2.1
      have hi9 : inR i := hv (vI i) List.mem_cons_self
      rw [List.map_cons, List.map_cons, rV_R, rV_I, rR, Option.map_some, rA_lt hF]
      exact vx_ialdZ (D := gD G) (cl := smCl) (tys := smTys G) (ws := [(gB G + a, .inl (gY G 100, (sN S a).toNat, .inl fun (j : Nat) => rI (I a (j : Int))))]) hf.1 hf.2.1 hKK.k (one_P hat) 0 0 rfl rfl (fun z => hi (by rw [vp_in_iff, rI_toInt hi9] at z; have := hr.n a; omega)) hd (fun tx htx => by
        rw [htx]
        have hx := io_tx (i := rI i) (n := (sN S a).toNat) (by have := hr.n a; omega)
        exact sm_note (r := r) (T := TJ31) hf hr hl hs hc hb9 hq ⟨by omega, by omega⟩ rfl (by decide +kernel) (by decide +kernel) (by decide) (by decide +kernel) (by decide +kernel) (at_aioobe hts hKK) ag_aioobe hx.1 hx.2 hws (h2 hi))
theorem xv_iastX (hd : decode (mC M) pc = .ok (.iastore, 1)) (hk : SmW M (pc + 1) d Rq K) : SmW M pc d Rq (fun l st S I => im_astX 100 M pc d Rq (fun x => x) l st S I K) := by
  intro l st S I h
  obtain ⟨x, i, y, r, rfl, hws, hn, hs⟩ := popIIO_ex h
  cases y with
  | none =>
    intro G p e R s m args below meth c cap H locs cells slots FQ ls hf hr hl hv hs hc hb9 hq
    show W p (gL G) e R s m args below meth c H locs cells slots FQ (F0 m pc ls (.int (rI x) :: .int (rI i) :: .null :: r.map (rV G)))
    exact vx_iastoreN hf.1 hf.2.1 hd (sm_noteN hf hr hl hs hc hb9 hq hws (hn rfl))
  | some a =>
    obtain ⟨hT, h1, h2⟩ := hs a rfl
    by_cases hi : 0 ≤ i ∧ i < sN S a
    · exact xv_iast hd hk l _ S I (show im_iast l (vI x :: vI i :: vR (some a) :: r) S I K from ⟨hT, hi, h1 hi⟩)
    · intro G p e R s m args below meth c cap H locs cells slots FQ ls hf hr hl hv hs hc hb9 hq
      obtain ⟨hat, hlt, hF⟩ := hr.arrI hT (by omega) (by omega)
      have hKK := hf.2.2.2.2.2.2.2.2.2.1
      have hts := hf.2.2.2.2.2.2.2.1
      have hi9 : inR i := hv (vI i) (tl1 List.mem_cons_self)
      rw [List.map_cons, List.map_cons, List.map_cons, rV_R, rV_I, rV_I, rR, Option.map_some, rA_lt hF]
      exact vx_iastZ (D := gD G) (cl := smCl) (tys := smTys G) (ws := [(gB G + a, .inl (gY G 100, (sN S a).toNat, .inl fun (j : Nat) => rI (I a (j : Int))))]) hf.1 hf.2.1 hKK.k (one_P hat) 0 0 rfl rfl (fun z => hi (by rw [vp_in_iff, rI_toInt hi9] at z; have := hr.n a; omega)) hd (fun tx htx => by
        rw [htx]
        have hx := io_tx (i := rI i) (n := (sN S a).toNat) (by have := hr.n a; omega)
        exact sm_note (r := r) (T := TJ31) hf hr hl hs hc hb9 hq ⟨by omega, by omega⟩ rfl (by decide +kernel) (by decide +kernel) (by decide) (by decide +kernel) (by decide +kernel) (at_aioobe hts hKK) ag_aioobe hx.1 hx.2 hws (h2 hi))
theorem xv_baldX (hd : decode (mC M) pc = .ok (.baload, 1)) (hk : SmW M (pc + 1) d Rq K) : SmW M pc d Rq (fun l st S I => im_aldX 101 M pc d Rq l st S I K) := by
  intro l st S I h
  obtain ⟨i, y, r, rfl, hws, hn, hs⟩ := popIO_ex h
  cases y with
  | none =>
    intro G p e R s m args below meth c cap H locs cells slots FQ ls hf hr hl hv hs hc hb9 hq
    show W p (gL G) e R s m args below meth c H locs cells slots FQ (F0 m pc ls (.int (rI i) :: .null :: r.map (rV G)))
    exact vx_baloadN hf.1 hf.2.1 hd (sm_noteN hf hr hl hs hc hb9 hq hws (hn rfl))
  | some a =>
    obtain ⟨hT, h1, h2⟩ := hs a rfl
    by_cases hi : 0 ≤ i ∧ i < sN S a
    · exact xv_bald hd hk l _ S I (show im_ald 101 l (vI i :: vR (some a) :: r) S I K from ⟨hT, hi, h1 hi⟩)
    · intro G p e R s m args below meth c cap H locs cells slots FQ ls hf hr hl hv hs hc hb9 hq
      obtain ⟨hat, hlt, hF⟩ := hr.arrI hT (by omega) (by omega)
      have hKK := hf.2.2.2.2.2.2.2.2.2.1
      have hts := hf.2.2.2.2.2.2.2.1
      have hi9 : inR i := hv (vI i) List.mem_cons_self
      rw [List.map_cons, List.map_cons, rV_R, rV_I, rR, Option.map_some, rA_lt hF]
      exact vx_baldZ (D := gD G) (cl := smCl) (tys := smTys G) (ws := [(gB G + a, .inl (gY G 101, (sN S a).toNat, .inl fun (j : Nat) => rI (I a (j : Int))))]) hf.1 hf.2.1 hKK.k (one_P hat) 0 1 rfl rfl (fun z => hi (by rw [vp_in_iff, rI_toInt hi9] at z; have := hr.n a; omega)) hd (fun tx htx => by
        rw [htx]
        have hx := io_tx (i := rI i) (n := (sN S a).toNat) (by have := hr.n a; omega)
        exact sm_note (r := r) (T := TJ31) hf hr hl hs hc hb9 hq ⟨by omega, by omega⟩ rfl (by decide +kernel) (by decide +kernel) (by decide) (by decide +kernel) (by decide +kernel) (at_aioobe hts hKK) ag_aioobe hx.1 hx.2 hws (h2 hi))
theorem xv_bastX (hd : decode (mC M) pc = .ok (.bastore, 1)) (hk : SmW M (pc + 1) d Rq K) : SmW M pc d Rq (fun l st S I => im_astX 101 M pc d Rq (fun x => w8 x) l st S I K) := by
  intro l st S I h
  obtain ⟨x, i, y, r, rfl, hws, hn, hs⟩ := popIIO_ex h
  cases y with
  | none =>
    intro G p e R s m args below meth c cap H locs cells slots FQ ls hf hr hl hv hs hc hb9 hq
    show W p (gL G) e R s m args below meth c H locs cells slots FQ (F0 m pc ls (.int (rI x) :: .int (rI i) :: .null :: r.map (rV G)))
    exact vx_bastoreN hf.1 hf.2.1 hd (sm_noteN hf hr hl hs hc hb9 hq hws (hn rfl))
  | some a =>
    obtain ⟨hT, h1, h2⟩ := hs a rfl
    by_cases hi : 0 ≤ i ∧ i < sN S a
    · exact xv_bast hd hk l _ S I (show im_bast l (vI x :: vI i :: vR (some a) :: r) S I K from ⟨hT, hi, h1 hi⟩)
    · intro G p e R s m args below meth c cap H locs cells slots FQ ls hf hr hl hv hs hc hb9 hq
      obtain ⟨hat, hlt, hF⟩ := hr.arrI hT (by omega) (by omega)
      have hKK := hf.2.2.2.2.2.2.2.2.2.1
      have hts := hf.2.2.2.2.2.2.2.1
      have hi9 : inR i := hv (vI i) (tl1 List.mem_cons_self)
      rw [List.map_cons, List.map_cons, List.map_cons, rV_R, rV_I, rV_I, rR, Option.map_some, rA_lt hF]
      exact vx_bastZ (D := gD G) (cl := smCl) (tys := smTys G) (ws := [(gB G + a, .inl (gY G 101, (sN S a).toNat, .inl fun (j : Nat) => rI (I a (j : Int))))]) hf.1 hf.2.1 hKK.k (one_P hat) 0 1 rfl rfl (fun z => hi (by rw [vp_in_iff, rI_toInt hi9] at z; have := hr.n a; omega)) hd (fun tx htx => by
        rw [htx]
        have hx := io_tx (i := rI i) (n := (sN S a).toNat) (by have := hr.n a; omega)
        exact sm_note (r := r) (T := TJ31) hf hr hl hs hc hb9 hq ⟨by omega, by omega⟩ rfl (by decide +kernel) (by decide +kernel) (by decide) (by decide +kernel) (by decide +kernel) (at_aioobe hts hKK) ag_aioobe hx.1 hx.2 hws (h2 hi))
theorem xv_saldX (hd : decode (mC M) pc = .ok (.saload, 1)) (hk : SmW M (pc + 1) d Rq K) : SmW M pc d Rq (fun l st S I => im_aldX 103 M pc d Rq l st S I K) := by
  intro l st S I h
  obtain ⟨i, y, r, rfl, hws, hn, hs⟩ := popIO_ex h
  cases y with
  | none =>
    intro G p e R s m args below meth c cap H locs cells slots FQ ls hf hr hl hv hs hc hb9 hq
    show W p (gL G) e R s m args below meth c H locs cells slots FQ (F0 m pc ls (.int (rI i) :: .null :: r.map (rV G)))
    exact vx_saloadN hf.1 hf.2.1 hd (sm_noteN hf hr hl hs hc hb9 hq hws (hn rfl))
  | some a =>
    obtain ⟨hT, h1, h2⟩ := hs a rfl
    by_cases hi : 0 ≤ i ∧ i < sN S a
    · exact xv_sald hd hk l _ S I (show im_ald 103 l (vI i :: vR (some a) :: r) S I K from ⟨hT, hi, h1 hi⟩)
    · intro G p e R s m args below meth c cap H locs cells slots FQ ls hf hr hl hv hs hc hb9 hq
      obtain ⟨hat, hlt, hF⟩ := hr.arrI hT (by omega) (by omega)
      have hKK := hf.2.2.2.2.2.2.2.2.2.1
      have hts := hf.2.2.2.2.2.2.2.1
      have hi9 : inR i := hv (vI i) List.mem_cons_self
      rw [List.map_cons, List.map_cons, rV_R, rV_I, rR, Option.map_some, rA_lt hF]
      exact vx_saldZ (D := gD G) (cl := smCl) (tys := smTys G) (ws := [(gB G + a, .inl (gY G 103, (sN S a).toNat, .inl fun (j : Nat) => rI (I a (j : Int))))]) hf.1 hf.2.1 hKK.k (one_P hat) 0 3 rfl rfl (fun z => hi (by rw [vp_in_iff, rI_toInt hi9] at z; have := hr.n a; omega)) hd (fun tx htx => by
        rw [htx]
        have hx := io_tx (i := rI i) (n := (sN S a).toNat) (by have := hr.n a; omega)
        exact sm_note (r := r) (T := TJ31) hf hr hl hs hc hb9 hq ⟨by omega, by omega⟩ rfl (by decide +kernel) (by decide +kernel) (by decide) (by decide +kernel) (by decide +kernel) (at_aioobe hts hKK) ag_aioobe hx.1 hx.2 hws (h2 hi))
theorem xv_sastX (hd : decode (mC M) pc = .ok (.sastore, 1)) (hk : SmW M (pc + 1) d Rq K) : SmW M pc d Rq (fun l st S I => im_astX 103 M pc d Rq (fun x => w16 x) l st S I K) := by
  intro l st S I h
  obtain ⟨x, i, y, r, rfl, hws, hn, hs⟩ := popIIO_ex h
  cases y with
  | none =>
    intro G p e R s m args below meth c cap H locs cells slots FQ ls hf hr hl hv hs hc hb9 hq
    show W p (gL G) e R s m args below meth c H locs cells slots FQ (F0 m pc ls (.int (rI x) :: .int (rI i) :: .null :: r.map (rV G)))
    exact vx_sastoreN hf.1 hf.2.1 hd (sm_noteN hf hr hl hs hc hb9 hq hws (hn rfl))
  | some a =>
    obtain ⟨hT, h1, h2⟩ := hs a rfl
    by_cases hi : 0 ≤ i ∧ i < sN S a
    · exact xv_sast hd hk l _ S I (show im_sast l (vI x :: vI i :: vR (some a) :: r) S I K from ⟨hT, hi, h1 hi⟩)
    · intro G p e R s m args below meth c cap H locs cells slots FQ ls hf hr hl hv hs hc hb9 hq
      obtain ⟨hat, hlt, hF⟩ := hr.arrI hT (by omega) (by omega)
      have hKK := hf.2.2.2.2.2.2.2.2.2.1
      have hts := hf.2.2.2.2.2.2.2.1
      have hi9 : inR i := hv (vI i) (tl1 List.mem_cons_self)
      rw [List.map_cons, List.map_cons, List.map_cons, rV_R, rV_I, rV_I, rR, Option.map_some, rA_lt hF]
      exact vx_sastZ (D := gD G) (cl := smCl) (tys := smTys G) (ws := [(gB G + a, .inl (gY G 103, (sN S a).toNat, .inl fun (j : Nat) => rI (I a (j : Int))))]) hf.1 hf.2.1 hKK.k (one_P hat) 0 3 rfl rfl (fun z => hi (by rw [vp_in_iff, rI_toInt hi9] at z; have := hr.n a; omega)) hd (fun tx htx => by
        rw [htx]
        have hx := io_tx (i := rI i) (n := (sN S a).toNat) (by have := hr.n a; omega)
        exact sm_note (r := r) (T := TJ31) hf hr hl hs hc hb9 hq ⟨by omega, by omega⟩ rfl (by decide +kernel) (by decide +kernel) (by decide) (by decide +kernel) (by decide +kernel) (at_aioobe hts hKK) ag_aioobe hx.1 hx.2 hws (h2 hi))
def im_newaX (t : Nat) (M : SmM) (pc d : Nat) (Rq : SmQ) (l : SmL) (st : List SmV) (S : SmS) (I : SmI) (K : SmK) : Prop := popI st fun n r => (0 ≤ n → chk (n ≤ 100000 ∧ 1 ≤ sC S ∧ n.toNat ≤ sB S) ∧ K l (vR (some (sZ S)) :: r) (sNew S t n n.toNat) (iNew I (sZ S))) ∧ (n < 0 → wsum r ≤ 8 ∧ THR M pc d Rq l 21 S I)
theorem xv_newaX {t : Nat} {at_ : ArrayType} (hd : decode (mC M) pc = .ok (.newarray at_, 2)) (ht : 100 ≤ t ∧ t < 104) (hty : newarray.typeOf at_ = smAty t) (hw : Cond.arrayClass (newarray.typeOf at_) ∈ lw_all) (hk : SmW M (pc + 2) d Rq K) : SmW M pc d Rq (fun l st S I => im_newaX t M pc d Rq l st S I K) := by
  intro l st S I h
  obtain ⟨n, r, rfl, h1, h2⟩ := popI_ex h
  rcases Int.lt_or_le n 0 with hn | hn
  · obtain ⟨hws, h3⟩ := h2 hn
    intro G p e R s m args below meth c cap H locs cells slots FQ ls hf hr hl hv hs hc hb9 hq
    have hKK := hf.2.2.2.2.2.2.2.2.2.1
    have hts := hf.2.2.2.2.2.2.2.1
    have n9 : inR n := hv (vI n) List.mem_cons_self
    have hlt : rI n < 0 := by rw [← rI_0, rI_lt n9 inR_0]; exact hn
    rw [List.map_cons, rV_I]
    exact vx_newarrayZ hf.1 hf.2.1 hlt hd (fun tx htx => by
      rw [htx]
      exact sm_note (r := r) (T := TJ29) hf hr hl hs hc hb9 hq ⟨by omega, by omega⟩ rfl (by decide +kernel) (by decide +kernel) (by decide) (by decide +kernel) (by decide +kernel) (at_nase hts hKK) ag_nase (negative_text_modelled hlt) (Nat.le_trans (negative_text_bytes _) (by omega)) hws h3)
  · obtain ⟨⟨a1, a2, a3⟩, h4⟩ := h1 hn
    exact xv_newa hd ht hty hw hk l _ S I (show im_newa t l (vI n :: r) S I K from ⟨⟨hn, a1, a2, a3⟩, h4⟩)
/-! casts to an array of a primitive type, and its test -/
def aNm (t : Nat) : String := if t = 100 then "[I" else if t = 101 then "[B" else "[S"
def is3 (t : Nat) : Prop := t = 100 ∨ t = 101 ∨ t = 103
theorem KK.aCls {G : SmG} {s : State} {t : Nat} (h : KK G s) (ht : is3 t) : s.vm.findClass (aNm t) = some (gY G t) ∧ ∃ k, s.vm.classes[gY G t]? = some k ∧ pArr k (aNm t) := by
  have hz : s.vm.findClass (aNm t) = some (gY G t) := by
    rcases ht with rfl | rfl | rfl
    · exact (h.k.2 0 _ rfl).2
    · exact (h.k.2 1 _ rfl).2
    · exact (h.k.2 3 _ rfl).2
  refine ⟨hz, ?_⟩
  have ha : ∃ k, s.vm.classes[gY G t]? = some k ∧ ∃ comp ty, k.kind = .array comp ty := by
    rcases ht with rfl | rfl | rfl
    · obtain ⟨-, k, hk, comp, hkk⟩ := (h.k.2 0 _ rfl).1 0 (fun _ => .int 0); exact ⟨k, hk, comp, _, hkk⟩
    · obtain ⟨-, k, hk, comp, hkk⟩ := (h.k.2 1 _ rfl).1 0 (fun _ => .int 0); exact ⟨k, hk, comp, _, hkk⟩
    · obtain ⟨-, k, hk, comp, hkk⟩ := (h.k.2 3 _ rfl).1 0 (fun _ => .int 0); exact ⟨k, hk, comp, _, hkk⟩
  obtain ⟨k, hk, comp, ty, hkk⟩ := ha
  refine ⟨k, hk, pArr_of hz hk hkk ?_⟩
  rcases ht with rfl | rfl | rfl <;> decide +kernel
theorem KK.ncA {G : SmG} {s : State} {t u : Nat} (h : KK G s) (ht : is3 t) (hu : is3 u) (hne : t ≠ u) : va_Nc (aNm t) (aNm u) s := by
  rcases ht with rfl | rfl | rfl <;> rcases hu with rfl | rfl | rfl <;> first | exact absurd rfl hne | exact h.nc nc_IB | exact h.nc nc_IS | exact h.nc nc_BS | exact h.nc nc_BI | exact h.nc nc_SB | exact h.nc nc_SI
theorem aNm_mem {t : Nat} (ht : is3 t) : aNm t ∈ ["[B", "[S", "[I"] := by rcases ht with rfl | rfl | rfl <;> decide
def im_castA (t : Nat) (M : SmM) (pc d : Nat) (Rq : SmQ) (l : SmL) (st : List SmV) (S : SmS) (I : SmI) (K : SmK) : Prop := popR st fun y r => (y = none → K l (vR none :: r) S I) ∧ (∀ a, y = some a → is3 (sT S a) ∧ (sT S a = t → K l (vR (some a) :: r) S I) ∧ (¬ sT S a = t → wsum (vR (some a) :: r) ≤ 8 ∧ THR M pc d Rq l 20 S I))
def im_instA (t : Nat) (l : SmL) (st : List SmV) (S : SmS) (I : SmI) (K : SmK) : Prop := popR st fun y r => (y = none → K l (vI 0 :: r) S I) ∧ (∀ a, y = some a → is3 (sT S a) ∧ (sT S a = t → K l (vI 1 :: r) S I) ∧ (¬ sT S a = t → K l (vI 0 :: r) S I))
theorem RH.aCell {G : SmG} {cap a : Nat} {s : State} {S : SmS} {I : SmI} {H : Heap} (hr : RH G cap s S I H) (ht : is3 (sT S a)) : ∃ cell : Cell, H[gB G + a]? = some cell ∧ cell.vm.isStatics = false ∧ cell.cls = gY G (sT S a) ∧ rR G (some a) = some (gB G + a) := by
  obtain ⟨hat, hlt, hF⟩ := hr.arrI (v := a) rfl (by rcases ht with h | h | h <;> omega) (by rcases ht with h | h | h <;> omega)
  exact ⟨_, hat, rfl, rfl, congrArg some (rA_lt hF)⟩
theorem xv_castA {t idx : Nat} (hd : decode (mC M) pc = .ok (.checkcast idx, 3)) (ht : is3 t) (hlink : Cond.classLink (mN M).cls idx (aNm t) ∈ lw_all) (hk : SmW M (pc + 3) d Rq K) : SmW M pc d Rq (fun l st S I => im_castA t M pc d Rq l st S I K) := by
  intro l st S I h
  obtain ⟨y, r, rfl, h0, h1⟩ := popR_ex h
  cases y with
  | none =>
    refine SW_gen ?_ (hk _ _ _ _ (h0 rfl))
    intro G p e R s m args below meth c cap H locs cells slots FQ ls hf hr hl hv hs hc hb9
    exact ⟨hv, fun q => lv_castN hf.1 hf.2.1 hd (q H locs cells slots hr hs hc hb9)⟩
  | some a =>
    obtain ⟨h3, h4, h5⟩ := h1 a rfl
    by_cases hT : sT S a = t
    · refine SW_gen ?_ (hk _ _ _ _ (h4 hT))
      intro G p e R s m args below meth c cap H locs cells slots FQ ls hf hr hl hv hs hc hb9
      refine ⟨hv, fun q => ?_⟩
      obtain ⟨hx, hb, -, -, -, -, hown, hts, -, hKK, -⟩ := hf
      obtain ⟨cell, c1, c2, c3, c4⟩ := hr.aCell h3
      have q' := q H locs cells slots hr hs hc hb9
      rw [List.map_cons, rV_R, c4] at q' ⊢
      exact va_castE hx hb hown (hts _ hlink) ⟨cell, c1, c2, by rw [c3, hT]; exact (hKK.aCls ht).1⟩ hd q'
    · obtain ⟨hws, h6⟩ := h5 hT
      intro G p e R s m args below meth c cap H locs cells slots FQ ls hf hr hl hv hs hc hb9 hq
      have hf0 := hf
      obtain ⟨hx, hb, -, -, -, -, hown, hts, -, hKK, -⟩ := hf0
      obtain ⟨cell, c1, c2, c3, c4⟩ := hr.aCell h3
      obtain ⟨k1, g1, g2⟩ := (hKK.aCls h3).2
      obtain ⟨k2, g3, g4⟩ := (hKK.aCls ht).2
      have hst : (vR (some a) :: r).map (rV G) = .ref (gB G + a) :: r.map (rV G) := by rw [List.map_cons, rV_R, c4]; rfl
      have fin : ∀ tx : String, castOk tx = true → vx_Note p (gL G) e R s m args below meth c H locs cells slots FQ (F0 m pc ls ((vR (some a) :: r).map (rV G))) "java/lang/ClassCastException" tx := fun tx htx => by
        obtain ⟨z1, z2⟩ := castOk_of htx
        exact sm_note (r := vR (some a) :: r) (T := TJ32) hf hr hl hs hc hb9 hq ⟨by omega, by omega⟩ rfl (by decide +kernel) (by decide +kernel) (by decide) (by decide +kernel) (by decide +kernel) (at_cce hts hKK) ag_cce z1 z2 hws h6
      rw [hst] at fin ⊢
      exact sm_castNo hx hb hown (hts _ hlink) (hKK.ncA h3 ht hT) c1 c2 (by rw [c3]; exact (hKK.aCls h3).1) (by rw [c3]; exact g1) g2 (hKK.aCls ht).1 g3 g4 hd (aNm_mem h3) (aNm_mem ht) fin
theorem xv_instA {t idx : Nat} (hd : decode (mC M) pc = .ok (.instanceof idx, 3)) (ht : is3 t) (hlink : Cond.classLink (mN M).cls idx (aNm t) ∈ lw_all) (hk : SmW M (pc + 3) d Rq K) : SmW M pc d Rq (fun l st S I => im_instA t l st S I K) := by
  intro l st S I h
  obtain ⟨y, r, rfl, h0, h1⟩ := popR_ex h
  cases y with
  | none =>
    refine SW_gen ?_ (hk _ _ _ _ (h0 rfl))
    intro G p e R s m args below meth c cap H locs cells slots FQ ls hf hr hl hv hs hc hb9
    refine ⟨okc (show inR 0 from inR_0) hv (fun _ => tl1), fun q => ?_⟩
    exact lv_instN hf.1 hf.2.1 hd (q H locs cells slots hr hs hc hb9)
  | some a =>
    obtain ⟨h3, h4, h5⟩ := h1 a rfl
    by_cases hT : sT S a = t
    · refine SW_gen ?_ (hk _ _ _ _ (h4 hT))
      intro G p e R s m args below meth c cap H locs cells slots FQ ls hf hr hl hv hs hc hb9
      refine ⟨okc (show inR 1 by unfold inR; omega) hv (fun _ => tl1), fun q => ?_⟩
      obtain ⟨hx, hb, -, -, -, -, hown, hts, -, hKK, -⟩ := hf
      obtain ⟨cell, c1, c2, c3, c4⟩ := hr.aCell h3
      have q' := q H locs cells slots hr hs hc hb9
      rw [List.map_cons, rV_I] at q'
      rw [List.map_cons, rV_R, c4]
      exact va_instE hx hb hown (hts _ hlink) ⟨cell, c1, c2, by rw [c3, hT]; exact (hKK.aCls ht).1⟩ hd q'
    · refine SW_gen ?_ (hk _ _ _ _ (h5 hT))
      intro G p e R s m args below meth c cap H locs cells slots FQ ls hf hr hl hv hs hc hb9
      refine ⟨okc (show inR 0 from inR_0) hv (fun _ => tl1), fun q => ?_⟩
      obtain ⟨hx, hb, -, -, -, -, hown, hts, -, hKK, -⟩ := hf
      obtain ⟨cell, c1, c2, c3, c4⟩ := hr.aCell h3
      have q' := q H locs cells slots hr hs hc hb9
      rw [List.map_cons, rV_I] at q'
      rw [List.map_cons, rV_R, c4]
      exact va_instNo hx hb hown (hts _ hlink) (hKK.ncA h3 ht hT) ⟨cell, c1, c2, by rw [c3]; exact (hKK.aCls h3).1⟩ hd q'
end XI
