/-! ===== fields, arrays: transformers and their laws ===== -/
set_option maxRecDepth 100000
def popA : List SmV → (Nat → List SmV → Prop) → Prop
  | .inr (.inr (some a)) :: r, f => f a r
  | _, _ => False
theorem popA_eq (a : Nat) (r : List SmV) (f : Nat → List SmV → Prop) : popA (vR (some a) :: r) f = f a r := rfl
theorem popA_ex {st : List SmV} {f : Nat → List SmV → Prop} (h : popA st f) : ∃ a r, st = vR (some a) :: r ∧ f a r := by
  unfold popA at h
  split at h
  · exact ⟨_, _, rfl, h⟩
  · cases h
def popIA : List SmV → (Int → Nat → List SmV → Prop) → Prop
  | .inl i :: .inr (.inr (some a)) :: r, f => f i a r
  | _, _ => False
theorem popIA_eq (i : Int) (a : Nat) (r : List SmV) (f : Int → Nat → List SmV → Prop) : popIA (vI i :: vR (some a) :: r) f = f i a r := rfl
theorem popIA_ex {st : List SmV} {f : Int → Nat → List SmV → Prop} (h : popIA st f) : ∃ i a r, st = vI i :: vR (some a) :: r ∧ f i a r := by
  unfold popIA at h
  split at h
  · exact ⟨_, _, _, rfl, h⟩
  · cases h
def popIIA : List SmV → (Int → Int → Nat → List SmV → Prop) → Prop
  | .inl x :: .inl i :: .inr (.inr (some a)) :: r, f => f x i a r
  | _, _ => False
theorem popIIA_eq (x i : Int) (a : Nat) (r : List SmV) (f : Int → Int → Nat → List SmV → Prop) : popIIA (vI x :: vI i :: vR (some a) :: r) f = f x i a r := rfl
theorem popIIA_ex {st : List SmV} {f : Int → Int → Nat → List SmV → Prop} (h : popIIA st f) : ∃ x i a r, st = vI x :: vI i :: vR (some a) :: r ∧ f x i a r := by
  unfold popIIA at h
  split at h
  · exact ⟨_, _, _, _, rfl, h⟩
  · cases h
def popRA : List SmV → (Option Nat → Nat → List SmV → Prop) → Prop
  | .inr (.inr x) :: .inr (.inr (some a)) :: r, f => f x a r
  | _, _ => False
theorem popRA_eq (x : Option Nat) (a : Nat) (r : List SmV) (f : Option Nat → Nat → List SmV → Prop) : popRA (vR x :: vR (some a) :: r) f = f x a r := rfl
theorem popRA_ex {st : List SmV} {f : Option Nat → Nat → List SmV → Prop} (h : popRA st f) : ∃ x a r, st = vR x :: vR (some a) :: r ∧ f x a r := by
  unfold popRA at h
  split at h
  · exact ⟨_, _, _, rfl, h⟩
  · cases h
def popRIA : List SmV → (Option Nat → Int → Nat → List SmV → Prop) → Prop
  | .inr (.inr x) :: .inl i :: .inr (.inr (some a)) :: r, f => f x i a r
  | _, _ => False
theorem popRIA_eq (x : Option Nat) (i : Int) (a : Nat) (r : List SmV) (f : Option Nat → Int → Nat → List SmV → Prop) : popRIA (vR x :: vI i :: vR (some a) :: r) f = f x i a r := rfl
theorem popRIA_ex {st : List SmV} {f : Option Nat → Int → Nat → List SmV → Prop} (h : popRIA st f) : ∃ x i a r, st = vR x :: vI i :: vR (some a) :: r ∧ f x i a r := by
  unfold popRIA at h
  split at h
  · exact ⟨_, _, _, _, rfl, h⟩
  · cases h
theorem RH.lt {G : SmG} {cap : Nat} {s : State} {S : SmS} {I : SmI} {H : Heap} {v : Nat} (hr : RH G cap s S I H) (h1 : sT S v ≠ 0) (h2 : sT S v < 200) : v < sZ S ∧ v < smF := by
  have hF : v < smF := by
    rcases Nat.lt_or_ge v smF with h | h
    · exact h
    · rcases hr.2.2.2.2.2.1 v h with z | z
      · exact absurd z h1
      · omega
  refine ⟨?_, hF⟩
  rcases Nat.lt_or_ge v (sZ S) with h | h
  · exact h
  · exact absurd (hr.2.2.2.2.1 v h hF) h1
theorem rA_lt {G : SmG} {v : Nat} (h : v < smF) : rA G v = gB G + v := if_pos h
theorem RH.obj {G : SmG} {cap : Nat} {s : State} {S : SmS} {I : SmI} {H : Heap} {v t : Nat} (hr : RH G cap s S I H) (ht : sT S v = t) (h1 : 1 ≤ t) (h2 : t < 50) : va_at (gD G) smCl (gB G + v, .inr (t, smFs G t (I v) (sP S v))) H ∧ v < sZ S ∧ v < smF := by
  obtain ⟨q1, q2⟩ := hr.lt (v := v) (by omega) (by omega)
  have h := (hr.2.2.2.1 v (by omega) q1).2
  unfold sAt at h
  rw [if_neg (by omega)] at h
  unfold sE smE at h
  rw [if_pos (by omega), ht] at h
  exact ⟨h, q1, q2⟩
theorem RH.arrI {G : SmG} {cap : Nat} {s : State} {S : SmS} {I : SmI} {H : Heap} {v t : Nat} (hr : RH G cap s S I H) (ht : sT S v = t) (h1 : 100 ≤ t) (h2 : t < 104) : H[gB G + v]? = some (vp_cell (gY G t) ((sN S v).toNat, .inl fun (j : Nat) => rI (I v (j : Int)))) ∧ v < sZ S ∧ v < smF := by
  obtain ⟨q1, q2⟩ := hr.lt (v := v) (by omega) (by omega)
  have h := (hr.2.2.2.1 v (by omega) q1).2
  unfold sAt at h
  rw [if_neg (by omega)] at h
  unfold sE smE at h
  rw [if_neg (by omega), if_pos (by omega), ht] at h
  exact ⟨h, q1, q2⟩
theorem RH.arrR {G : SmG} {cap : Nat} {s : State} {S : SmS} {I : SmI} {H : Heap} {v t : Nat} (hr : RH G cap s S I H) (ht : sT S v = t) (h1 : 104 ≤ t) (h2 : t < 108) : H[gB G + v]? = some (vp_cell (gY G t) ((sN S v).toNat, .inr (.inr (.inr (.inr fun (j : Nat) => rR G (sP S v (j : Int))))))) ∧ v < sZ S ∧ v < smF := by
  obtain ⟨q1, q2⟩ := hr.lt (v := v) (by omega) (by omega)
  have h := (hr.2.2.2.1 v (by omega) q1).2
  unfold sAt at h
  rw [if_neg (by omega)] at h
  unfold sE smE at h
  rw [if_neg (by omega), if_neg (by omega), ht] at h
  exact ⟨h, q1, q2⟩
theorem smFs_get {G : SmG} {t k : Nat} {Ir : Int → Int} {Pr : Int → Option Nat} (h : k < smNF t) : (smFs G t Ir Pr)[k]? = some (if isRefTy (smTy t k) = true then va_rf (rR G (Pr (k : Int))) else .int (rI (Ir (k : Int)))) := by
  unfold smFs
  rw [List.getElem?_map, List.getElem?_range h]
  rfl
theorem smFs_len {G : SmG} {t : Nat} {Ir : Int → Int} {Pr : Int → Option Nat} : (smFs G t Ir Pr).length = smNF t := by simp [smFs]
theorem smTys_at {G : SmG} {t : Nat} (h1 : 100 ≤ t) (h2 : t < 108) : (smTys G)[t - 100]? = some (gY G t, smAty t) := by
  have : t = 100 ∨ t = 101 ∨ t = 102 ∨ t = 103 ∨ t = 104 ∨ t = 105 ∨ t = 106 ∨ t = 107 := by omega
  rcases this with rfl | rfl | rfl | rfl | rfl | rfl | rfl | rfl <;> rfl
section XH
variable {M : SmM} {pc d : Nat} {Rq : SmQ} {K Kt Kf : SmK}
/-- the general step: another heap, other counts, what is left of the budgets -/
theorem SW_gen {pc' : Nat} {l : SmL} {st st' : List SmV} {S S' : SmS} {I I' : SmI}
    (hw : ∀ (G : SmG) (p : Program) (e : Env) (R : Room) (s : State) (m : MethodId) (args : Array Value) (below : List Frame) (meth : Method) (c : Code) (cap : Nat) (H : Heap) (locs : List Loc) (cells slots : Nat) (FQ : State → Prop) (ls : Array Slot),
      FX G M d p R s m args meth c → RH G cap s S I H → LcS G (mL M) l ls → (∀ v ∈ st, okV v) → va_S (gA G) s.heap H locs → cells + sC S ≤ R.cells → slots + sB S ≤ R.slots →
      (∀ v ∈ st', okV v) ∧ ((∀ (H' : Heap) (locs' : List Loc) (cells' slots' : Nat), RH G cap s S' I' H' → va_S (gA G) s.heap H' locs' → cells' + sC S' ≤ R.cells → slots' + sB S' ≤ R.slots → W p (gL G) e R s m args below meth c H' locs' cells' slots' FQ (F0 m pc' ls (st'.map (rV G)))) → W p (gL G) e R s m args below meth c H locs cells slots FQ (F0 m pc ls (st.map (rV G)))))
    (k : SW M pc' d Rq l st' S' I') : SW M pc d Rq l st S I := by
  intro G p e R s m args below meth c cap H locs cells slots FQ ls hf hr hl hv hs hc hb hq
  obtain ⟨h1, h2⟩ := hw G p e R s m args below meth c cap H locs cells slots FQ ls hf hr hl hv hs hc hb
  exact h2 fun H' locs' cells' slots' hr' hs' hc' hb' => k G p e R s m args below meth c cap H' locs' cells' slots' FQ ls hf hr' hl h1 hs' hc' hb' hq
theorem tl1 {v : SmV} {x : SmV} {r : List SmV} (h : v ∈ r) : v ∈ x :: r := List.mem_cons_of_mem _ h
theorem okc {x : SmV} {r r0 : List SmV} (hx : okV x) (hv : ∀ v ∈ r0, okV v) (h : ∀ v ∈ r, v ∈ r0) : ∀ v ∈ x :: r, okV v := fun v hv' => (List.mem_cons.mp hv').elim (fun e => by rw [e]; exact hx) (fun e => hv v (h v e))
/-- the field k of class t, int -/
def im_getI (t : Nat) (k : Int) (l : SmL) (st : List SmV) (S : SmS) (I : SmI) (K : SmK) : Prop := popA st fun a r => sT S a = t ∧ K l (vI (I a k) :: r) S I
def im_getR (t : Nat) (k : Int) (l : SmL) (st : List SmV) (S : SmS) (I : SmI) (K : SmK) : Prop := popA st fun a r => sT S a = t ∧ K l (vR (sP S a k) :: r) S I
theorem xv_getI {t k idx : Nat} {C : String} {T : u_T} {N : Nat} (hd : decode (mC M) pc = .ok (.getfield idx, 3)) (hcl : smCl[t]? = some (C, T, N)) (ht : 1 ≤ t ∧ t < 50) (hin : ∀ w ∈ u_ws C T N, w ∈ lw_all) (hkN : k < N) (hty : isRefTy (smTy t k) = false) (hlink : Cond.fieldLink (mN M).cls idx (T k).1 (T k).2.1 (T k).2.2.1 ∈ lw_all) (hk : SmW M (pc + 3) d Rq K) : SmW M pc d Rq (fun l st S I => im_getI t (k : Int) l st S I K) := by
  intro l st S I h
  obtain ⟨a, r, rfl, hT, h⟩ := popA_ex h
  refine SW_gen ?_ (hk _ _ _ _ h)
  intro G p e R s m args below meth c cap H locs cells slots FQ ls hf hr hl hv hs hc hb9
  obtain ⟨hx, hb, -, -, -, -, hown, hts, -, hKK, -⟩ := hf
  refine ⟨okc (hr.2.2.2.2.2.2.2.1 a k) hv (fun _ => tl1), fun q => ?_⟩
  obtain ⟨hat, hlt, hF⟩ := hr.obj hT ht.1 ht.2
  have hN : smNF t = N := by unfold smNF; rw [hcl]
  have hg : (smFs G t (I a) (sP S a))[k]? = some (.int (rI (I a k))) := by rw [smFs_get (by omega), hty]; rfl
  rw [List.map_cons, rV_R, rR, Option.map_some, rA_lt hF]
  exact va_get (D := gD G) (cl := smCl) (ws := [(gB G + a, .inr (t, smFs G t (I a) (sP S a)))]) (ci := t) (C := C) (T := T) (N := N) hx hb hts hin hown hKK.k (fun j z hz => by
    have hj : j < 1 := (List.getElem?_eq_some_iff.mp hz).1
    rw [show j = 0 by omega] at hz
    cases hz
    exact hat) 0 rfl hcl k hkN (hts _ hlink) (fun _ h => h) hg hd (q H locs cells slots hr hs hc hb9)
theorem xv_getR {t k idx : Nat} {C : String} {T : u_T} {N : Nat} (hd : decode (mC M) pc = .ok (.getfield idx, 3)) (hcl : smCl[t]? = some (C, T, N)) (ht : 1 ≤ t ∧ t < 50) (hin : ∀ w ∈ u_ws C T N, w ∈ lw_all) (hkN : k < N) (hty : isRefTy (smTy t k) = true) (hlink : Cond.fieldLink (mN M).cls idx (T k).1 (T k).2.1 (T k).2.2.1 ∈ lw_all) (hk : SmW M (pc + 3) d Rq K) : SmW M pc d Rq (fun l st S I => im_getR t (k : Int) l st S I K) := by
  intro l st S I h
  obtain ⟨a, r, rfl, hT, h⟩ := popA_ex h
  refine SW_gen ?_ (hk _ _ _ _ h)
  intro G p e R s m args below meth c cap H locs cells slots FQ ls hf hr hl hv hs hc hb9
  obtain ⟨hx, hb, -, -, -, -, hown, hts, -, hKK, -⟩ := hf
  refine ⟨okc trivial hv (fun _ => tl1), fun q => ?_⟩
  obtain ⟨hat, hlt, hF⟩ := hr.obj hT ht.1 ht.2
  have hN : smNF t = N := by unfold smNF; rw [hcl]
  have hg : (smFs G t (I a) (sP S a))[k]? = some (va_rf (rR G (sP S a k))) := by rw [smFs_get (by omega), hty]; rfl
  rw [List.map_cons, rV_R, rR, Option.map_some, rA_lt hF]
  exact va_get (D := gD G) (cl := smCl) (ws := [(gB G + a, .inr (t, smFs G t (I a) (sP S a)))]) (ci := t) (C := C) (T := T) (N := N) hx hb hts hin hown hKK.k (fun j z hz => by
    have hj : j < 1 := (List.getElem?_eq_some_iff.mp hz).1
    rw [show j = 0 by omega] at hz
    cases hz
    exact hat) 0 rfl hcl k hkN (hts _ hlink) (fun _ h => h) hg hd (q H locs cells slots hr hs hc hb9)
/-- a word of the tables, here -/
theorem KK.tbl {G : SmG} {U : State} (h : KK G U) {w : Cond} (hw : w ∈ lw_tbl) (ho : w.onTables = true) (hm : ∀ (s : State), s.WarmedH U.vm → va_Nw w s → va_Nw w U) : va_Nw w U := by
  obtain ⟨s0, b, h1, h2, h3, h4, -⟩ := h
  exact hm s0 h4 (va_Nw.of ho (h1 w hw))
theorem xv_getIN {t k idx : Nat} {C host : String} {T : u_T} {N : Nat} (hd : decode (mC M) pc = .ok (.getfield idx, 3)) (hcl : smCl[t]? = some (C, T, N)) (ht : 1 ≤ t ∧ t < 50) (hin : ∀ w ∈ u_ws C T N, w ∈ lw_all) (hkN : k < N) (hty : isRefTy (smTy t k) = false) (hlink : Cond.fieldLinkNest (mN M).cls idx (T k).1 (T k).2.1 (T k).2.2.1 host ∈ lw_tbl) (hk : SmW M (pc + 3) d Rq K) : SmW M pc d Rq (fun l st S I => im_getI t (k : Int) l st S I K) := by
  intro l st S I h
  obtain ⟨a, r, rfl, hT, h⟩ := popA_ex h
  refine SW_gen ?_ (hk _ _ _ _ h)
  intro G p e R s m args below meth c cap H locs cells slots FQ ls hf hr hl hv hs hc hb9
  obtain ⟨hx, hb, -, -, -, -, hown, hts, -, hKK, -⟩ := hf
  refine ⟨okc (hr.2.2.2.2.2.2.2.1 a k) hv (fun _ => tl1), fun q => ?_⟩
  obtain ⟨hat, hlt, hF⟩ := hr.obj hT ht.1 ht.2
  have hN : smNF t = N := by unfold smNF; rw [hcl]
  have hg : (smFs G t (I a) (sP S a))[k]? = some (.int (rI (I a k))) := by rw [smFs_get (by omega), hty]; rfl
  rw [List.map_cons, rV_R, rR, Option.map_some, rA_lt hF]
  exact va_getN (D := gD G) (cl := smCl) (ws := [(gB G + a, .inr (t, smFs G t (I a) (sP S a)))]) (ci := t) (C := C) (T := T) (N := N) hx hb hts hin hown hKK.k (fun j z hz => by
    have hj : j < 1 := (List.getElem?_eq_some_iff.mp hz).1
    rw [show j = 0 by omega] at hz
    cases hz
    exact hat) 0 rfl hcl k hkN (va_Nw.use rfl (hKK.tbl hlink rfl (fun _ hW hZ => va_Nw.warmF hW hZ))) (fun _ h => h) hg hd (q H locs cells slots hr hs hc hb9)
theorem xv_getRN {t k idx : Nat} {C host : String} {T : u_T} {N : Nat} (hd : decode (mC M) pc = .ok (.getfield idx, 3)) (hcl : smCl[t]? = some (C, T, N)) (ht : 1 ≤ t ∧ t < 50) (hin : ∀ w ∈ u_ws C T N, w ∈ lw_all) (hkN : k < N) (hty : isRefTy (smTy t k) = true) (hlink : Cond.fieldLinkNest (mN M).cls idx (T k).1 (T k).2.1 (T k).2.2.1 host ∈ lw_tbl) (hk : SmW M (pc + 3) d Rq K) : SmW M pc d Rq (fun l st S I => im_getR t (k : Int) l st S I K) := by
  intro l st S I h
  obtain ⟨a, r, rfl, hT, h⟩ := popA_ex h
  refine SW_gen ?_ (hk _ _ _ _ h)
  intro G p e R s m args below meth c cap H locs cells slots FQ ls hf hr hl hv hs hc hb9
  obtain ⟨hx, hb, -, -, -, -, hown, hts, -, hKK, -⟩ := hf
  refine ⟨okc trivial hv (fun _ => tl1), fun q => ?_⟩
  obtain ⟨hat, hlt, hF⟩ := hr.obj hT ht.1 ht.2
  have hN : smNF t = N := by unfold smNF; rw [hcl]
  have hg : (smFs G t (I a) (sP S a))[k]? = some (va_rf (rR G (sP S a k))) := by rw [smFs_get (by omega), hty]; rfl
  rw [List.map_cons, rV_R, rR, Option.map_some, rA_lt hF]
  exact va_getN (D := gD G) (cl := smCl) (ws := [(gB G + a, .inr (t, smFs G t (I a) (sP S a)))]) (ci := t) (C := C) (T := T) (N := N) hx hb hts hin hown hKK.k (fun j z hz => by
    have hj : j < 1 := (List.getElem?_eq_some_iff.mp hz).1
    rw [show j = 0 by omega] at hz
    cases hz
    exact hat) 0 rfl hcl k hkN (va_Nw.use rfl (hKK.tbl hlink rfl (fun _ hW hZ => va_Nw.warmF hW hZ))) (fun _ h => h) hg hd (q H locs cells slots hr hs hc hb9)
/-! writing a cell -/
theorem sAt.kept {G : SmG} {S S' : SmS} {I I' : SmI} {v : Nat} {H H1 : Heap} (h : sAt G S I v H) (hT : sT S' v = sT S v) (hN : sN S' v = sN S v) (hI : I' v = I v) (hP : sP S' v = sP S v) (hq : H1[gB G + v]? = H[gB G + v]?) : sAt G S' I' v H1 := by
  unfold sAt sE at h ⊢
  rw [hT, hN, hI, hP]
  by_cases c : 50 ≤ sT S v ∧ sT S v < 58
  · rw [if_pos c] at h ⊢
    rw [hq]; exact h
  · rw [if_neg c] at h ⊢
    exact h.kept hq
theorem RH.write {G : SmG} {cap a : Nat} {s : State} {S S' : SmS} {I I' : SmI} {H H1 : Heap} (hr : RH G cap s S I H) (ha : a < sZ S) (haF : a < smF) (hT : sT S' = sT S) (hN : sN S' = sN S) (hZ : sZ S' = sZ S) (hC : sC S' = sC S) (hI : ∀ v, v ≠ a → I' v = I v) (hP : ∀ v, v ≠ a → sP S' v = sP S v) (hR : ∀ k, inR (I' a k)) (hat : sAt G S' I' a H1) (hsz : H1.size = H.size) (hq : ∀ q, q ≠ gB G + a → H1[q]? = H[q]?) : RH G cap s S' I' H1 := by
  obtain ⟨h1, h2, h3, h4, h5, h6, h7, h8, h9⟩ := hr
  refine ⟨by rw [hsz, hZ]; exact h1, by rw [hZ, hC]; exact h2, h3, fun v hv hz => ?_, by rw [hZ, hT]; exact h5, by rw [hT]; exact h6, by rw [hN]; exact h7, fun v k => ?_, fun q => ?_⟩
  · rw [hT] at hv ⊢
    rw [hZ] at hz
    obtain ⟨q1, q2⟩ := h4 v hv hz
    refine ⟨q1, ?_⟩
    by_cases hva : v = a
    · subst hva; exact hat
    · exact q2.kept (by rw [hT]) (by rw [hN]) (hI v hva) (hP v hva) (hq _ (fun z => hva (by omega)))
  · by_cases hva : v = a
    · subst hva; exact hR k
    · rw [hI v hva]; exact h8 v k
  · rw [hT] at q
    obtain ⟨x1, x2⟩ := h9 q
    rw [hN, hI smF (fun z => absurd haF (by rw [z]; exact Nat.lt_irrefl _))]
    exact ⟨x1.kept (hq _ (fun z => by omega)), x2⟩
theorem va_S.w {G : SmG} {H0 H H1 : Heap} {locs : List Loc} {a k : Nat} (h : va_S (gA G) H0 H locs) (z : H1.size = H.size) (oq : ∀ q : Nat, q ≠ gB G + a → H1[q]? = H[q]?) : va_S (gA G) H0 H1 (locs ++ [⟨gB G + a, k⟩]) := h.put z oq (Nat.le_add_right _ _)
theorem smFs_put {G : SmG} {t k : Nat} {Ir Ir' : Int → Int} {Pr Pr' : Int → Option Nat} {w : Value} (hk : k < smNF t) (hI : ∀ j : Nat, j ≠ k → Ir' j = Ir j) (hP : ∀ j : Nat, j ≠ k → Pr' j = Pr j) (hw : w = if isRefTy (smTy t k) = true then va_rf (rR G (Pr' (k : Int))) else .int (rI (Ir' (k : Int)))) : (smFs G t Ir Pr).set k w = smFs G t Ir' Pr' := by
  apply List.ext_getElem?
  intro j
  by_cases hj : j = k
  · subst hj
    rw [List.getElem?_set_self (by rw [smFs_len]; exact hk), smFs_get hk, hw]
  · rw [List.getElem?_set_ne (Ne.symm hj)]
    by_cases hlt : j < smNF t
    · rw [smFs_get hlt, smFs_get hlt, hI j hj, hP j hj]
    · rw [List.getElem?_eq_none (by rw [smFs_len]; omega), List.getElem?_eq_none (by rw [smFs_len]; omega)]
/-- what a field of class t may be given: Bool fin: a final field, in its constructor -/
theorem sm_putW {G : SmG} {p : Program} {e : Env} {R : Room} {s : State} {m : MethodId} {args : Array Value} {below : List Frame} {meth : Method} {c : Code} {H : Heap} {locs : List Loc} {cells slots : Nat} {FQ : State → Prop} {ls : Array Slot} {rest : List Value}
    (hx : p.tables.exec = Jvm.exec) (hb : c.code = mC M) (hts : ∀ w ∈ lw_all, w.before args s = true) (hown : s.vm.findClass (mN M).cls = some m.cls) (hname : meth.name = (mN M).name) (hK : va_K (gD G) smCl (smTys G) s)
    {t k idx a : Nat} {C : String} {T : u_T} {N : Nat} {fs : List Value} {v : Value} {ty : Nat → FieldType} (hcl : smCl[t]? = some (C, T, N)) (hin : ∀ w ∈ u_ws C T N, w ∈ lw_all) (hty : ∀ k, k < N → parseFieldDescriptor (T k).2.2.1 = some (ty k)) (hnm : ∀ a, a < N → ∀ b, b < N → a ≠ b → (T a).2.1 ≠ (T b).2.1) (hkN : k < N)
    (hlink : (Cond.fieldLink (mN M).cls idx (T k).1 (T k).2.1 (T k).2.2.1 ∈ lw_all) ∨ ((T k).2.2.2 = false ∧ ∃ host, Cond.fieldLinkNest (mN M).cls idx (T k).1 (T k).2.1 (T k).2.2.1 host ∈ lw_tbl ∧ KK G s)) (hfin : (T k).2.2.2 = false ∨ ((T k).2.2.2 = true ∧ (mN M).name = "<init>" ∧ (T k).1 = (mN M).cls)) (hn : narrow (ty k) v = v) (hfit : fits (ty k) v = true) (hl : k < fs.length)
    (hat : va_at (gD G) smCl (gB G + a, .inr (t, fs)) H) (hd : decode (mC M) pc = .ok (.putfield idx, 3))
    (kk : ∀ (H1 : Heap) (z : Nat), va_at (gD G) smCl (gB G + a, .inr (t, fs.set k v)) H1 → H1.size = H.size → (∀ q, q ≠ gB G + a → H1[q]? = H[q]?) → W p (gL G) e R s m args below meth c H1 (locs ++ [⟨gB G + a, z⟩]) cells slots FQ (F0 m (pc + 3) ls rest)) :
    W p (gL G) e R s m args below meth c H locs cells slots FQ (F0 m pc ls (v :: .ref (gB G + a) :: rest)) := by
  have hap := va_apart (own := (mN M).cls) hts hin ty hty hnm hK hcl
  obtain ⟨r, h1, cell, q1, q2, q3, q4⟩ := hat
  have hr : r = (C, T, N) := Option.some.inj (h1.symm.trans hcl)
  subst hr
  obtain ⟨hS, hfc, kC, hkC, hkind⟩ := hK.1 t _ hcl
  obtain ⟨cf, kf, fi, f, hi, hsl⟩ := hS k hkN
  have hlay := hts _ (hin _ (u_in_lay hkN))
  have hst := (u_facts hfc hkC (u_lays hts hin hkN) hi).1
  have kk' : ∀ H1 : Heap, H1[gB G + a]? = some (cell.setSlot f.slot v) → H1.size = H.size → (∀ q, q ≠ gB G + a → H1[q]? = H[q]?) → W p (gL G) e R s m args below meth c H1 (locs ++ [⟨gB G + a, f.slot⟩]) cells slots FQ (F0 m (pc + 3) ls rest) := fun H' e1 e2 e3 => by
    rw [hsl] at e1 ⊢
    exact kk H' _ ⟨_, hcl, t_OB.to (V := updV (vp_V fs) k v) ⟨_, e1, q2, q3, t_set q4 hap hkN v⟩ (fun j _ => vp_updV_set hl v j)⟩ e2 e3
  rcases hfin with hfin | ⟨hfin, hin2, hdecl⟩
  · unfold u_lay at hlay
    rw [if_neg (by rw [hfin]; decide)] at hlay
    have h6 := u_store hfc hkC hkind hlay hi (hty k hkN) hn hfit
    rcases hlink with hlink | ⟨-, host, hlink, hKK⟩
    · exact W.putK hx hb (f := f) ⟨hown, hts _ hlink, ⟨_, _, _, hi⟩, hst⟩ (by rw [q2]; exact h6) q1 q3 (by rw [hsl]; exact k2_hasslot (q4 k hkN)) rfl rfl hd kk'
    · exact va_WputK hx hb (f := f) hown (va_Nw.use rfl (hKK.tbl hlink rfl (fun _ hW hZ => va_Nw.warmF hW hZ))) hi hst (by rw [q2]; exact h6) q1 q3 (by rw [hsl]; exact k2_hasslot (q4 k hkN)) rfl rfl hd kk'
  · unfold u_lay at hlay
    rw [if_pos hfin] at hlay
    have hcf : m.cls = cf := by
      obtain ⟨_, _, c', _, _, _, -, -, hf', -, -, -, hown2, -⟩ := Cond.laysFinal_spec hlay
      have e1 : c' = cf := by have := hi.symm.trans hf'; simp at this; exact this.1.symm
      rw [hdecl] at hown2
      rw [← e1]; exact Option.some.inj (hown.symm.trans hown2)
    have h6 := u_fits hfc hkC hkind (Or.inr hlay) hi (hty k hkN) hn hfit
    rcases hlink with hlink | ⟨hz, -⟩
    · exact W.putFinK hx hb hown (hts _ hlink) hi hst hcf (by rw [hname]; exact hin2) (by rw [q2]; exact h6) q1 q3 (by rw [hsl]; exact k2_hasslot (q4 k hkN)) rfl rfl hd kk'
    · rw [hfin] at hz; cases hz
def im_putI (t : Nat) (k : Int) (l : SmL) (st : List SmV) (S : SmS) (I : SmI) (K : SmK) : Prop := popIA st fun x a r => sT S a = t ∧ K l r S (iSet I a k x)
/-- a boolean field -/
def im_putZ (t : Nat) (k : Int) (l : SmL) (st : List SmV) (S : SmS) (I : SmI) (K : SmK) : Prop := popIA st fun x a r => sT S a = t ∧ chk (x = 0 ∨ x = 1) ∧ K l r S (iSet I a k x)
def im_putR (t : Nat) (k : Int) (l : SmL) (st : List SmV) (S : SmS) (I : SmI) (K : SmK) : Prop := popRA st fun x a r => sT S a = t ∧ K l r (sPut S a k x) I
theorem iSet_ne {I : SmI} {a v : Nat} {k x : Int} (h : v ≠ a) : iSet I a k x v = I v := by funext j; rw [iSet_ap, if_neg (fun z => h z.1)]
theorem sPut_ne {S : SmS} {a v : Nat} {k : Int} {x : Option Nat} (h : v ≠ a) : sP (sPut S a k x) v = sP S v := by funext j; rw [sP_sPut, if_neg (fun z => h z.1)]
theorem iSet_in {I : SmI} {a : Nat} {k x : Int} (hx : inR x) (hI : ∀ v k, inR (I v k)) (j : Int) : inR (iSet I a k x a j) := by
  rw [iSet_ap]
  by_cases h : a = a ∧ j = k
  · rw [if_pos h]; exact hx
  · rw [if_neg h]; exact hI a j
/-- the ways to put: an own link, a nest mate's; a plain field, a final one in its constructor -/
def putOk (M : SmM) (T : u_T) (k idx : Nat) : Prop := ((Cond.fieldLink (mN M).cls idx (T k).1 (T k).2.1 (T k).2.2.1 ∈ lw_all) ∨ ((T k).2.2.2 = false ∧ ∃ host, Cond.fieldLinkNest (mN M).cls idx (T k).1 (T k).2.1 (T k).2.2.1 host ∈ lw_tbl)) ∧ ((T k).2.2.2 = false ∨ ((T k).2.2.2 = true ∧ (mN M).name = "<init>" ∧ (T k).1 = (mN M).cls))
theorem sm_putIX {t k idx : Nat} {C : String} {T : u_T} {N : Nat} {l : SmL} {S : SmS} {I : SmI} {x : Int} {a : Nat} {r : List SmV} (hd : decode (mC M) pc = .ok (.putfield idx, 3)) (hcl : smCl[t]? = some (C, T, N)) (ht : 1 ≤ t ∧ t < 50) (hin : ∀ w ∈ u_ws C T N, w ∈ lw_all) (hty : ∀ k, k < N → parseFieldDescriptor (T k).2.2.1 = some (smTy t k)) (hnm : ∀ a, a < N → ∀ b, b < N → a ≠ b → (T a).2.1 ≠ (T b).2.1) (hkN : k < N) (hnr : isRefTy (smTy t k) = false) (hn : narrow (smTy t k) (.int (rI x)) = .int (rI x)) (hfit : fits (smTy t k) (.int (rI x)) = true) (hlink : putOk M T k idx)
    (hT : sT S a = t) (hk : SW M (pc + 3) d Rq l r S (iSet I a k x)) : SW M pc d Rq l (vI x :: vR (some a) :: r) S I := by
  refine SW_gen ?_ hk
  intro G p e R s m args below meth c cap H locs cells slots FQ ls hf hr hl hv hs hc hb9
  obtain ⟨hx, hb, -, -, -, hname, hown, hts, -, hKK, -⟩ := hf
  refine ⟨fun v hv' => hv v (tl1 (tl1 hv')), fun q => ?_⟩
  obtain ⟨hat, hlt, hF⟩ := hr.obj hT ht.1 ht.2
  have hN : smNF t = N := by unfold smNF; rw [hcl]
  have hx9 : inR x := hv (vI x) List.mem_cons_self
  rw [List.map_cons, List.map_cons, rV_R, rV_I, rR, Option.map_some, rA_lt hF]
  refine sm_putW (ty := smTy t) hx hb hts hown hname hKK.k hcl hin hty hnm hkN (hlink.1.elim Or.inl (fun z => Or.inr ⟨z.1, z.2.elim fun host z2 => ⟨host, z2, hKK⟩⟩)) hlink.2 hn hfit (by rw [smFs_len]; omega) hat hd fun H1 z e1 e2 e3 => ?_
  refine q H1 _ cells slots (hr.write hlt hF rfl rfl rfl rfl (fun v h => iSet_ne h) (fun v h => rfl) (fun j => iSet_in hx9 hr.2.2.2.2.2.2.2.1 j) ?_ e2 e3) (hs.w e2 e3) hc hb9
  unfold sAt
  rw [if_neg (by omega)]
  unfold sE smE
  rw [if_pos (by omega), hT, ← smFs_put (k := k) (Ir := I a) (Pr := sP S a) (w := .int (rI x)) (by omega) (fun j hj => by rw [iSet_ap, if_neg (fun z => hj (by omega))]) (fun j hj => rfl) (by rw [hnr, iSet_ap]; simp)]
  exact e1
theorem xv_putI {t k idx : Nat} {C : String} {T : u_T} {N : Nat} (hd : decode (mC M) pc = .ok (.putfield idx, 3)) (hcl : smCl[t]? = some (C, T, N)) (ht : 1 ≤ t ∧ t < 50) (hin : ∀ w ∈ u_ws C T N, w ∈ lw_all) (hty : ∀ k, k < N → parseFieldDescriptor (T k).2.2.1 = some (smTy t k)) (hnm : ∀ a, a < N → ∀ b, b < N → a ≠ b → (T a).2.1 ≠ (T b).2.1) (hkN : k < N) (hi : smTy t k = .int) (hlink : putOk M T k idx) (hk : SmW M (pc + 3) d Rq K) : SmW M pc d Rq (fun l st S I => im_putI t (k : Int) l st S I K) := by
  intro l st S I h
  obtain ⟨x, a, r, rfl, hT, h⟩ := popIA_ex h
  exact sm_putIX hd hcl ht hin hty hnm hkN (by rw [hi]; rfl) (by rw [hi]; rfl) (by rw [hi]; rfl) hlink hT (hk _ _ _ _ h)
theorem xv_putZ {t k idx : Nat} {C : String} {T : u_T} {N : Nat} (hd : decode (mC M) pc = .ok (.putfield idx, 3)) (hcl : smCl[t]? = some (C, T, N)) (ht : 1 ≤ t ∧ t < 50) (hin : ∀ w ∈ u_ws C T N, w ∈ lw_all) (hty : ∀ k, k < N → parseFieldDescriptor (T k).2.2.1 = some (smTy t k)) (hnm : ∀ a, a < N → ∀ b, b < N → a ≠ b → (T a).2.1 ≠ (T b).2.1) (hkN : k < N) (hi : smTy t k = .boolean) (hlink : putOk M T k idx) (hk : SmW M (pc + 3) d Rq K) : SmW M pc d Rq (fun l st S I => im_putZ t (k : Int) l st S I K) := by
  intro l st S I h
  obtain ⟨x, a, r, rfl, hT, hb, h⟩ := popIA_ex h
  refine sm_putIX hd hcl ht hin hty hnm hkN (by rw [hi]; rfl) ?_ ?_ hlink hT (hk _ _ _ _ h)
  · rw [hi]; rcases hb with rfl | rfl <;> decide +kernel
  · rw [hi]; rcases hb with rfl | rfl <;> decide +kernel
theorem xv_putR {t k idx : Nat} {C : String} {T : u_T} {N : Nat} (hd : decode (mC M) pc = .ok (.putfield idx, 3)) (hcl : smCl[t]? = some (C, T, N)) (ht : 1 ≤ t ∧ t < 50) (hin : ∀ w ∈ u_ws C T N, w ∈ lw_all) (hty : ∀ k, k < N → parseFieldDescriptor (T k).2.2.1 = some (smTy t k)) (hnm : ∀ a, a < N → ∀ b, b < N → a ≠ b → (T a).2.1 ≠ (T b).2.1) (hkN : k < N) (hi : isRefTy (smTy t k) = true) (hlink : putOk M T k idx) (hk : SmW M (pc + 3) d Rq K) : SmW M pc d Rq (fun l st S I => im_putR t (k : Int) l st S I K) := by
  intro l st S I h
  obtain ⟨x, a, r, rfl, hT, h⟩ := popRA_ex h
  refine SW_gen ?_ (hk _ _ _ _ h)
  intro G p e R s m args below meth c cap H locs cells slots FQ ls hf hr hl hv hs hc hb9
  obtain ⟨hx, hb, -, -, -, hname, hown, hts, -, hKK, -⟩ := hf
  refine ⟨fun v hv' => hv v (tl1 (tl1 hv')), fun q => ?_⟩
  obtain ⟨hat, hlt, hF⟩ := hr.obj hT ht.1 ht.2
  have hN : smNF t = N := by unfold smNF; rw [hcl]
  rw [List.map_cons, List.map_cons, rV_R, rV_R]
  rw [show rR G (some a) = some (gB G + a) from congrArg some (rA_lt hF)]
  have hnar : narrow (smTy t k) (va_rf (rR G x)) = va_rf (rR G x) := by
    cases rR G x <;> cases hz : smTy t k <;> first | rfl | (rw [hz] at hi; cases hi)
  have hfit : fits (smTy t k) (va_rf (rR G x)) = true := by
    cases rR G x <;> cases hz : smTy t k <;> first | rfl | (rw [hz] at hi; cases hi)
  refine sm_putW (ty := smTy t) hx hb hts hown hname hKK.k hcl hin hty hnm hkN (hlink.1.elim Or.inl (fun z => Or.inr ⟨z.1, z.2.elim fun host z2 => ⟨host, z2, hKK⟩⟩)) hlink.2 hnar hfit (by rw [smFs_len]; omega) hat hd fun H1 z e1 e2 e3 => ?_
  refine q H1 _ cells slots (hr.write hlt hF rfl rfl rfl rfl (fun v h => rfl) (fun v h => sPut_ne h) (fun j => hr.2.2.2.2.2.2.2.1 a j) ?_ e2 e3) (hs.w e2 e3) hc hb9
  unfold sAt
  rw [sT_sPut, if_neg (by omega)]
  unfold sE smE
  rw [sT_sPut, if_pos (by omega), hT, ← smFs_put (k := k) (Ir := I a) (Pr := sP S a) (w := va_rf (rR G x)) (by omega) (fun j hj => rfl) (fun j hj => by rw [sP_sPut, if_neg (fun z => hj (by omega))]) (by rw [hi, sP_sPut]; simp)]
  exact e1
end XH
