/-! ===== invokedynamic: a lambda is made ===== -/
set_option maxRecDepth 100000
theorem sh_inv15 {α : Type} {x : Array Nat} {f : Nat → Nat → Nat → Option α} {r : α} (h : Lambda.shapeOf?.match_15 (fun _ => Option α) x f (fun _ => none) = some r) : ∃ a0 a1 a2, f a0 a1 a2 = some r := by
  rcases x with ⟨L⟩
  match L, h with
  | [], h => cases h
  | [_], h => cases h
  | [_, _], h => cases h
  | [a, b, c], h => exact ⟨a, b, c, h⟩
  | _ :: _ :: _ :: _ :: _, h => cases h
theorem shape_site {cf : ClassFile} {index : Nat} {σ : Lambda.Shape} (h : Lambda.shapeOf? cf index = some σ) :
    ∃ (b nt : Nat) (desc : String) (site : MethodDescriptor), cf.constantPool[index]? = some (.invokeDynamic b nt) ∧ cf.constantPool.nameAndType? nt = some (σ.name, desc) ∧ parseMethodDescriptor desc = some site ∧ site.parameters = σ.captured := by
  unfold Lambda.shapeOf? at h
  split at h
  case h_2 => cases h
  case h_1 b nt hc =>
  obtain ⟨entries, -, h⟩ := Option.bind_eq_some_iff.mp h
  obtain ⟨bm, -, h⟩ := Option.bind_eq_some_iff.mp h
  split at h
  case h_2 => cases h
  case h_1 r _ =>
  obtain ⟨_, -, h⟩ := Option.bind_eq_some_iff.mp h
  obtain ⟨a0, a1, a2, h⟩ := sh_inv15 h
  split at h
  case h_2 => cases h
  case h_1 d0 _ =>
  split at h
  case h_2 => cases h
  case h_1 kind r1 _ =>
  split at h
  case h_2 => cases h
  case h_1 d2 _ =>
  obtain ⟨⟨name, desc⟩, hnt, h⟩ := Option.bind_eq_some_iff.mp h
  obtain ⟨site, hsite, h⟩ := Option.bind_eq_some_iff.mp h
  dsimp only at h
  split at h
  case h_2 => cases h
  case h_1 iface _ =>
  obtain ⟨⟨implClass, implName, implDesc, implItf⟩, -, h⟩ := Option.bind_eq_some_iff.mp h
  obtain ⟨x1, -, h⟩ := Option.bind_eq_some_iff.mp h
  obtain ⟨x2, -, h⟩ := Option.bind_eq_some_iff.mp h
  obtain ⟨x3, -, h⟩ := Option.bind_eq_some_iff.mp h
  obtain ⟨x4, -, h⟩ := Option.bind_eq_some_iff.mp h
  obtain ⟨x5, -, h⟩ := Option.bind_eq_some_iff.mp h
  cases h
  exact ⟨b, nt, desc, site, hc, hnt, hsite, rfl⟩
/-- the site, as the tables have it here -/
theorem KK.site {G : SmG} {s : State} {x : MethodName} {pc idx : Nat} {σ : Lambda.Shape} {w : Cond} {t : Nat} (h : KK G s) (hw : w = .lambdaSite x pc idx σ) (hl : ∀ s0, LamG G s0 → smLam w s0 (gY G t)) :
    ∃ (m : MethodId) (k : Class) (cf : ClassFile) (i0 p0 : Nat), s.methodNamed? x = some m ∧ s.vm.classes[m.cls]? = some k ∧ k.cf = some cf ∧ Lambda.shapeOf? cf idx = some σ ∧ (k.callSites.find? fun y => y.1 == m.idx && y.2.1 == pc) = some (i0, p0, .makes (gY G t)) ∧ Lambda.isMade { classPath := fun _ => none } s.vm m.cls σ (gY G t) = true ∧ s.lambdaCallable σ (gY G t) = true := by
  obtain ⟨s0, b, h1, h2, h3, h4, h5, h5', h6, h7, h8, h9, h10⟩ := h
  have hq : s0.lambdaAt? x pc idx σ = some (gY G t, none) := by
    have := hl s0 h10
    rw [hw] at this
    exact this
  obtain ⟨m, kc, cf, i0, p0, l, hm, hk, hcf, hsh, hin, hfind, hmade, hcall, hz⟩ := State.lambdaAt?_spec hq
  have hA := h4.alike
  have hcall' : s.lambdaCallable σ (gY G t) = true := by
    simp only [State.lambdaCallable, hA.findClass, hA.assignable, hA.superclasses, hA.declaredIn] at hcall ⊢
    exact hcall
  obtain ⟨kc', hk', he⟩ := hA.2.2 _ _ hk
  have hm' : s.methodNamed? x = some m := by
    have := State.methodNamed?_setVm (s := s0) hA x
    rw [hm] at this
    exact this
  have hl' : l = .makes (gY G t) := by
    rcases hz with ⟨a, cell, z1, z2, -⟩ | ⟨z1, -⟩
    · cases z2
    · exact z1
  exact ⟨m, kc', cf, i0, p0, hm', hk', by rw [he]; exact hcf, hsh, by rw [he, ← hl']; exact hfind, Lambda.isMade_warmer h4 hmade, hcall'⟩
theorem KK.obj0 {G : SmG} {s : State} {args : Array Value} (hts : ∀ w ∈ lw_all, w.before args s = true) : ∀ o ok, s.vm.findClass "java/lang/Object" = some o → s.vm.classes[o]? = some ok → ok.instanceTypes.size = 0 := by
  intro o ok h1 h2
  obtain ⟨cO, kO, hfO, hkO, -, -, -, hsz⟩ := Cond.instantiable_spec (hts _ q2338)
  cases h1.symm.trans hfO
  cases h2.symm.trans hkO
  exact hsz
/-- a new cell, whatever it holds -/
theorem RH.make2 {G : SmG} {cap : Nat} {s : State} {S S' : SmS} {I I' : SmI} {H H1 : Heap} (hr : RH G cap s S I H) (h1 : 1 ≤ sC S) (hZ : sZ S' = sZ S + 1) (hC : sC S' = sC S - 1) (hT : ∀ v, v ≠ sZ S → sT S' v = sT S v) (hN : ∀ v, v ≠ sZ S → sN S' v = sN S v) (hP : ∀ v, v ≠ sZ S → sP S' v = sP S v) (hI : ∀ v, v ≠ sZ S → I' v = I v) (hNr : 0 ≤ sN S' (sZ S) ∧ sN S' (sZ S) < 2147483648) (hIr : ∀ k, inR (I' (sZ S) k)) (ht : okTag (sT S' (sZ S))) (hsz : H1.size = H.size + 1) (hq : ∀ q, q < H.size → H1[q]? = H[q]?) (hat : sAt G S' I' (sZ S) H1) : RH G cap s S' I' H1 := by
  obtain ⟨g1, g2, g3, g4, g5, g6, g7, g8, g9⟩ := hr
  have hzF : sZ S < smF := by omega
  refine ⟨by rw [hsz, hZ]; omega, by rw [hZ, hC]; omega, g3, fun v hv hz => ?_, fun v h9 hF => ?_, fun v hF => ?_, fun v => ?_, fun v k => ?_, fun q => ?_⟩
  · rw [hZ] at hz
    by_cases hvz : v = sZ S
    · subst hvz
      exact ⟨ht, hat⟩
    · rw [hT v hvz] at hv ⊢
      obtain ⟨q1, q2⟩ := g4 v hv (by omega)
      exact ⟨q1, q2.kept (hT v hvz) (hN v hvz) (hI v hvz) (hP v hvz) (hq _ (by omega))⟩
  · rw [hZ] at h9
    rw [hT v (by omega)]
    exact g5 v (by omega) hF
  · rw [hT v (by omega)]
    exact g6 v hF
  · by_cases hvz : v = sZ S
    · subst hvz; exact hNr
    · rw [hN v hvz]; exact g7 v
  · by_cases hvz : v = sZ S
    · subst hvz; exact hIr k
    · rw [hI v hvz]; exact g8 v k
  · rw [hT _ (by omega)] at q
    obtain ⟨x1, x2⟩ := g9 q
    rw [hN _ (by omega), hI _ (by omega)]
    exact ⟨x1.kept (hq _ (by omega)), x2⟩
section XDY
variable {M : SmM} {pc d : Nat} {Rq : SmQ} {K : SmK}
/-- a lambda that captures a reference -/
def im_dyn (t : Nat) (l : SmL) (st : List SmV) (S : SmS) (I : SmI) (K : SmK) : Prop := popA st fun a r => wsum (vR (some a) :: r) ≤ 8 ∧ chk (1 ≤ sC S ∧ 2 ≤ sB S) ∧ K l (vR (some (sZ S)) :: r) (sPut (sNew S t 0 2) (sZ S) 0 (some a)) (iNew I (sZ S))
theorem sm_dyn {t idx : Nat} {x : MethodName} {σ : Lambda.Shape} {w : Cond} {ty : FieldType} (hd : decode (mC M) pc = .ok (.invokedynamic idx, 5)) (ht : 50 ≤ t ∧ t < 58 ∧ t ≠ 54) (hx : mN M = x) (hw : w = .lambdaSite x pc idx σ) (hl : ∀ G s0, LamG G s0 → smLam w s0 (gY G t)) (hty : isRefTy ty = true) (hcap : σ.captured = [ty])
    (hmd : ∀ (vm : Vm) (d c : ClassId) (dk : Class), vm.classes[d]? = some dk → dk.name = "LineDispatch" → Lambda.isMade { classPath := fun _ => none } vm d σ c = true → (∀ o ok, vm.findClass "java/lang/Object" = some o → vm.classes[o]? = some ok → ok.instanceTypes.size = 0) → ∃ k, vm.classes[c]? = some k ∧ k.instanceTypes = #[ty] ∧ k.kind = .ordinary)
    (hc : x.cls = "LineDispatch") (hk : SmW M (pc + 5) d Rq K) : SmW M pc d Rq (fun l st S I => im_dyn t l st S I K) := by
  intro l st S I h
  obtain ⟨a, r, rfl, hws, ⟨h1, h2⟩, h9⟩ := popA_ex h
  refine SW_gen ?_ (hk _ _ _ _ h9)
  intro G p e R s m args below meth c cap H locs cells slots FQ ls hf hr hl9 hv hs hc9 hb9
  obtain ⟨hx9, hb, -, hml, -, -, hown, hts, htn, hKK, hRf, hRl⟩ := hf
  refine ⟨okc trivial (r0 := vR (some a) :: r) hv (fun _ => tl1), fun q => ?_⟩
  obtain ⟨m9, k, cf, i0, p0, hm, hk9, hcf, hsh, hfind, hmade, hcall⟩ := hKK.site hw (hl G)
  obtain ⟨b, nt, desc, site, hcp, hnt, hsite, hcapt⟩ := shape_site hsh
  have hmm : m9 = m := by
    rw [← hx] at hm
    exact Option.some.inj (hm.symm.trans htn.2)
  subst hmm
  have hdn : k.name = "LineDispatch" := by
    obtain ⟨k2, hk2, hn2⟩ := className_of_methodNamed hm
    cases hk9.symm.trans hk2
    rw [hn2, hc]
  obtain ⟨kc, hkc, hkt, hkk⟩ := hmd _ _ _ _ hk9 hdn hmade (KK.obj0 (G := G) hts)
  have hzF : sZ S < smF := by have := hr.2.1; have := hr.2.2.1; omega
  have hsl : ((kc.instanceTypes.toList.zip [va_rf (rR G (some a))]).map fun (t, v) => narrow t v) = [va_rf (rR G (some a))] := by
    rw [hkt]
    show [narrow ty (va_rf (rR G (some a)))] = _
    cases hz : rR G (some a) with
    | none => cases ty <;> first | rfl | cases hty
    | some z => cases ty <;> first | rfl | cases hty
  intro T hT X
  obtain ⟨X1, st9⟩ := X.lambdaMakes hx9 (g := F0 m9 pc ls ((vR (some a) :: r).map (rV G))) rfl (by rw [hml]; exact hl9.1) (by rw [hb]; exact hd) hk9 hfind hcf hcp hnt (parseLong_of_parse hsite) (vals := [va_rf (rR G (some a))]) (rest := r.map (rV G)) (by rw [hcapt, hcap]; rfl) (by rw [List.map_cons, rV_R]; rfl) hkc
    (by
      have hpl : e.platform.lambdaLinkWords = 3072 := by rw [X.admits.platform]
      rw [hpl]
      show 2 * 0 + _ + 3072 ≤ _
      rw [wsum_r]
      omega) (by omega) (by rw [hsl]; show slots + 1 ≤ _; omega) (fun i v hv9 => by
      rw [hsl] at hv9
      match i, hv9 with
      | 0, hv9 =>
        simp at hv9
        subst hv9
        simp [State.fitsSlot, State.slotType?, hkc, hkk, hkt]
        cases hz : rR G (some a) with
        | none => cases ty <;> first | rfl | cases hty
        | some z => cases ty <;> first | rfl | cases hty
      | i + 1, hv9 => simp at hv9)
  rw [hsl] at X1 st9
  have hsz : (T.pushCell { cls := gY G t, slots := [va_rf (rR G (some a))].toArray, vm := .none }).heap.size = H.size + 1 := by rw [State.heap_size_pushCell, hT]
  have ho : ∀ q9, q9 < H.size → (T.pushCell { cls := gY G t, slots := [va_rf (rR G (some a))].toArray, vm := .none }).heap[q9]? = H[q9]? := fun q9 h => by rw [State.heap_pushCell_of_lt _ _ (by rw [hT]; exact h), hT]
  have hnew : (T.pushCell { cls := gY G t, slots := [va_rf (rR G (some a))].toArray, vm := .none }).heap[H.size]? = some { cls := gY G t, slots := [va_rf (rR G (some a))].toArray, vm := .none } := by
    rw [← hT]
    show (T.heap.push _)[T.heap.size]? = _
    rw [Array.getElem?_push_size]
  have hRH := hr.make2 (S' := sPut (sNew S t 0 2) (sZ S) 0 (some a)) (I' := iNew I (sZ S)) h1 rfl rfl (fun v hv => by rw [sT_sPut, sT_sNew, if_neg hv]) (fun v hv => by rw [sN_sPut, sN_sNew, if_neg hv]) (fun v hv => by rw [sPut_ne hv]; funext j; rw [sP_sNew, if_neg hv]) (fun v hv => iNew_ne hv) (by rw [sN_sPut, sN_sNew, if_pos rfl]; omega) (fun k => by rw [iNew_self]; exact inR_0) (by rw [sT_sPut, sT_sNew, if_pos rfl]; exact Or.inl ⟨by omega, by omega⟩) hsz ho (by
    unfold sAt
    rw [sT_sPut, sT_sNew, if_pos rfl, if_pos ⟨by omega, by omega⟩, ← hr.1, hnew]
    unfold lamCell
    rw [if_neg ht.2.2, sP_sPut, if_pos ⟨rfl, rfl⟩])
  have q' := q _ locs (cells + 1) (slots + 1) hRH (hs.mk (by rw [hsz]; omega) ho) (by rw [sC_sPut, sC_sNew]; omega) (by rw [sB_sPut, sB_sNew]; omega)
  have e9 : rV G (vR (some (sZ S))) = .ref H.size := by rw [rV_R, rR, Option.map_some, rA_lt hzF, hr.1]; rfl
  rw [List.map_cons, e9] at q'
  obtain ⟨t9, a1, b1⟩ := q' _ rfl X1
  exact ⟨t9, st9 t9 (by rw [hT]; exact a1), b1⟩
/-- the lambda that captures a reference and an int -/
def im_dyn4 (l : SmL) (st : List SmV) (S : SmS) (I : SmI) (K : SmK) : Prop := popIA st fun i a r => wsum (vI i :: vR (some a) :: r) ≤ 8 ∧ chk (1 ≤ sC S ∧ 2 ≤ sB S) ∧ K l (vR (some (sZ S)) :: r) (sPut (sNew S 54 0 2) (sZ S) 0 (some a)) (iSet (iNew I (sZ S)) (sZ S) 1 i)
theorem sm_dyn4 {idx : Nat} {x : MethodName} {σ : Lambda.Shape} {w : Cond} {ty : FieldType} (hd : decode (mC M) pc = .ok (.invokedynamic idx, 5)) (hx : mN M = x) (hw : w = .lambdaSite x pc idx σ) (hl : ∀ G s0, LamG G s0 → smLam w s0 (gY G 54)) (hty : isRefTy ty = true) (hcap : σ.captured = [ty, .int])
    (hmd : ∀ (vm : Vm) (d c : ClassId) (dk : Class), vm.classes[d]? = some dk → dk.name = "LineDispatch" → Lambda.isMade { classPath := fun _ => none } vm d σ c = true → (∀ o ok, vm.findClass "java/lang/Object" = some o → vm.classes[o]? = some ok → ok.instanceTypes.size = 0) → ∃ k, vm.classes[c]? = some k ∧ k.instanceTypes = #[ty, .int] ∧ k.kind = .ordinary)
    (hc : x.cls = "LineDispatch") (hk : SmW M (pc + 5) d Rq K) : SmW M pc d Rq (fun l st S I => im_dyn4 l st S I K) := by
  intro l st S I h
  obtain ⟨i9, a, r, rfl, hws, ⟨h1, h2⟩, h9⟩ := popIA_ex h
  refine SW_gen ?_ (hk _ _ _ _ h9)
  intro G p e R s m args below meth c cap H locs cells slots FQ ls hf hr hl9 hv hs hc9 hb9
  obtain ⟨hx9, hb, -, hml, -, -, hown, hts, htn, hKK, hRf, hRl⟩ := hf
  refine ⟨okc trivial (r0 := vI i9 :: vR (some a) :: r) hv (fun _ h => tl1 (tl1 h)), fun q => ?_⟩
  have hi9 : inR i9 := hv (vI i9) List.mem_cons_self
  obtain ⟨m9, k, cf, i0, p0, hm, hk9, hcf, hsh, hfind, hmade, hcall⟩ := hKK.site hw (hl G)
  obtain ⟨b, nt, desc, site, hcp, hnt, hsite, hcapt⟩ := shape_site hsh
  have hmm : m9 = m := by
    rw [← hx] at hm
    exact Option.some.inj (hm.symm.trans htn.2)
  subst hmm
  have hdn : k.name = "LineDispatch" := by
    obtain ⟨k2, hk2, hn2⟩ := className_of_methodNamed hm
    cases hk9.symm.trans hk2
    rw [hn2, hc]
  obtain ⟨kc, hkc, hkt, hkk⟩ := hmd _ _ _ _ hk9 hdn hmade (KK.obj0 (G := G) hts)
  have hzF : sZ S < smF := by have := hr.2.1; have := hr.2.2.1; omega
  have hsl : ((kc.instanceTypes.toList.zip [va_rf (rR G (some a)), .int (rI i9)]).map fun (t, v) => narrow t v) = [va_rf (rR G (some a)), .int (rI i9)] := by
    rw [hkt]
    show [narrow ty (va_rf (rR G (some a))), .int (rI i9)] = _
    cases hz : rR G (some a) with
    | none => cases ty <;> first | rfl | cases hty
    | some z => cases ty <;> first | rfl | cases hty
  intro T hT X
  obtain ⟨X1, st9⟩ := X.lambdaMakes hx9 (g := F0 m9 pc ls ((vI i9 :: vR (some a) :: r).map (rV G))) rfl (by rw [hml]; exact hl9.1) (by rw [hb]; exact hd) hk9 hfind hcf hcp hnt (parseLong_of_parse hsite) (vals := [va_rf (rR G (some a)), .int (rI i9)]) (rest := r.map (rV G)) (by rw [hcapt, hcap]; rfl) (by rw [List.map_cons, List.map_cons, rV_R, rV_I]; rfl) hkc
    (by
      have hpl : e.platform.lambdaLinkWords = 3072 := by rw [X.admits.platform]
      rw [hpl]
      show 2 * 0 + _ + 3072 ≤ _
      rw [wsum_r]
      omega) (by omega) (by rw [hsl]; show slots + 2 ≤ _; omega) (fun i v hv9 => by
      rw [hsl] at hv9
      match i, hv9 with
      | 0, hv9 =>
        simp at hv9
        subst hv9
        simp [State.fitsSlot, State.slotType?, hkc, hkk, hkt]
        cases hz : rR G (some a) with
        | none => cases ty <;> first | rfl | cases hty
        | some z => cases ty <;> first | rfl | cases hty
      | 1, hv9 =>
        simp at hv9
        subst hv9
        simp [State.fitsSlot, State.slotType?, hkc, hkk, hkt]
        rfl
      | i + 2, hv9 => simp at hv9)
  rw [hsl] at X1 st9
  have hsz : (T.pushCell { cls := gY G 54, slots := [va_rf (rR G (some a)), .int (rI i9)].toArray, vm := .none }).heap.size = H.size + 1 := by rw [State.heap_size_pushCell, hT]
  have ho : ∀ q9, q9 < H.size → (T.pushCell { cls := gY G 54, slots := [va_rf (rR G (some a)), .int (rI i9)].toArray, vm := .none }).heap[q9]? = H[q9]? := fun q9 h => by rw [State.heap_pushCell_of_lt _ _ (by rw [hT]; exact h), hT]
  have hnew : (T.pushCell { cls := gY G 54, slots := [va_rf (rR G (some a)), .int (rI i9)].toArray, vm := .none }).heap[H.size]? = some { cls := gY G 54, slots := [va_rf (rR G (some a)), .int (rI i9)].toArray, vm := .none } := by
    rw [← hT]
    show (T.heap.push _)[T.heap.size]? = _
    rw [Array.getElem?_push_size]
  have hRH := hr.make2 (S' := sPut (sNew S 54 0 2) (sZ S) 0 (some a)) (I' := iSet (iNew I (sZ S)) (sZ S) 1 i9) h1 rfl rfl (fun v hv => by rw [sT_sPut, sT_sNew, if_neg hv]) (fun v hv => by rw [sN_sPut, sN_sNew, if_neg hv]) (fun v hv => by rw [sPut_ne hv]; funext j; rw [sP_sNew, if_neg hv]) (fun v hv => (iSet_ne hv).trans (iNew_ne hv)) (by rw [sN_sPut, sN_sNew, if_pos rfl]; omega) (fun k => iSet_in hi9 (fun v k => by rw [iNew_ap]; split; exact inR_0; exact hr.i v k) k) (by rw [sT_sPut, sT_sNew, if_pos rfl]; exact Or.inl ⟨by omega, by omega⟩) hsz ho (by
    unfold sAt
    rw [sT_sPut, sT_sNew, if_pos rfl, if_pos ⟨by omega, by omega⟩, ← hr.1, hnew]
    unfold lamCell
    rw [if_pos rfl, sP_sPut, if_pos ⟨rfl, rfl⟩, iSet_ap, if_pos ⟨rfl, rfl⟩])
  have q' := q _ locs (cells + 1) (slots + 2) hRH (hs.mk (by rw [hsz]; omega) ho) (by rw [sC_sPut, sC_sNew]; omega) (by rw [sB_sPut, sB_sNew]; omega)
  have e9 : rV G (vR (some (sZ S))) = .ref H.size := by rw [rV_R, rR, Option.map_some, rA_lt hzF, hr.1]; rfl
  rw [List.map_cons, e9] at q'
  obtain ⟨t9, a1, b1⟩ := q' _ rfl X1
  exact ⟨t9, st9 t9 (by rw [hT]; exact a1), b1⟩
theorem xv_dyn_rule_78 (hx : mN M = yX0_rule) (hd : decode (mC M) 78 = .ok (.invokedynamic 162, 5)) (hk : SmW M (78 + 5) d Rq K) : SmW M 78 d Rq (fun l st S I => im_dyn 51 l st S I K) :=
  sm_dyn hd ⟨by omega, by omega, by omega⟩ hx sg1_is (fun G s0 h => h.1) rfl rfl (ty := .object "LineDispatch") (fun vm d c dk h1 h2 h3 h4 => by
    obtain ⟨k, tk, file, methk, ck, toy, t, g0, q1, -, -, -, -, -, -, -, -, -, -, -, -, -, -, -, -, -, -, -, q2, q3⟩ := made1 h1 h2 h3 h4
    exact ⟨k, q1, q2, q3⟩) rfl hk
theorem xv_dyn_rule_89 (hx : mN M = yX0_rule) (hd : decode (mC M) 89 = .ok (.invokedynamic 169, 5)) (hk : SmW M (89 + 5) d Rq K) : SmW M 89 d Rq (fun l st S I => im_dyn 52 l st S I K) :=
  sm_dyn hd ⟨by omega, by omega, by omega⟩ hx sg2_is (fun G s0 h => h.2.1) rfl rfl (ty := .object "LineDispatch") (fun vm d c dk h1 h2 h3 h4 => by
    obtain ⟨k, tk, file, methk, ck, toy, t, g0, q1, -, -, -, -, -, -, -, -, -, -, -, -, -, -, -, -, -, -, -, q2, q3⟩ := made2 h1 h2 h3 h4
    exact ⟨k, q1, q2, q3⟩) rfl hk
theorem xv_dyn_rule_128 (hx : mN M = yX0_rule) (hd : decode (mC M) 128 = .ok (.invokedynamic 179, 5)) (hk : SmW M (128 + 5) d Rq K) : SmW M 128 d Rq (fun l st S I => im_dyn 53 l st S I K) :=
  sm_dyn hd ⟨by omega, by omega, by omega⟩ hx sg3_is (fun G s0 h => h.2.2.1) rfl rfl (ty := .object "LineDispatch") (fun vm d c dk h1 h2 h3 h4 => by
    obtain ⟨k, tk, file, methk, ck, toy, t, g0, q1, -, -, -, -, -, -, -, -, -, -, -, -, -, -, -, -, -, -, -, q2, q3⟩ := made3 h1 h2 h3 h4
    exact ⟨k, q1, q2, q3⟩) rfl hk
theorem xv_dyn_beforeBy_29 (hx : mN M = yX0_beforeBy) (hd : decode (mC M) 29 = .ok (.invokedynamic 228, 5)) (hk : SmW M (29 + 5) d Rq K) : SmW M 29 d Rq (fun l st S I => im_dyn 55 l st S I K) :=
  sm_dyn hd ⟨by omega, by omega, by omega⟩ hx sg5_is (fun G s0 h => h.2.2.2.2.1) rfl rfl (ty := .object "LineDispatch") (fun vm d c dk h1 h2 h3 h4 => by
    obtain ⟨k, tk, file, methk, ck, toy, t, g0, q1, -, -, -, -, -, -, -, -, -, -, -, -, -, -, -, -, -, -, -, q2, q3⟩ := made5 h1 h2 h3 h4
    exact ⟨k, q1, q2, q3⟩) rfl hk
theorem xv_dyn_beforeBy_36 (hx : mN M = yX0_beforeBy) (hd : decode (mC M) 36 = .ok (.invokedynamic 229, 5)) (hk : SmW M (36 + 5) d Rq K) : SmW M 36 d Rq (fun l st S I => im_dyn 56 l st S I K) :=
  sm_dyn hd ⟨by omega, by omega, by omega⟩ hx sg6_is (fun G s0 h => h.2.2.2.2.2.1) rfl rfl (ty := .object "LineDispatch$Line") (fun vm d c dk h1 h2 h3 h4 => by
    obtain ⟨k, tk, file, methk, ck, toy, t, g0, q1, -, -, -, -, -, -, -, -, -, -, -, -, -, -, -, -, -, -, -, q2, q3⟩ := made6 h1 h2 h3 h4
    exact ⟨k, q1, q2, q3⟩) rfl hk
theorem xv_dyn_beforeBy_43 (hx : mN M = yX0_beforeBy) (hd : decode (mC M) 43 = .ok (.invokedynamic 232, 5)) (hk : SmW M (43 + 5) d Rq K) : SmW M 43 d Rq (fun l st S I => im_dyn 57 l st S I K) :=
  sm_dyn hd ⟨by omega, by omega, by omega⟩ hx sg7_is (fun G s0 h => h.2.2.2.2.2.2) rfl rfl (ty := .object "LineDispatch$Line") (fun vm d c dk h1 h2 h3 h4 => by
    obtain ⟨k, tk, file, methk, ck, toy, t, g0, q1, -, -, -, -, -, -, -, -, -, -, -, -, -, -, -, -, -, -, -, q2, q3⟩ := made7 h1 h2 h3 h4
    exact ⟨k, q1, q2, q3⟩) rfl hk
theorem xv_dyn_place_93 (hx : mN M = yX0_place) (hd : decode (mC M) 93 = .ok (.invokedynamic 190, 5)) (hk : SmW M (93 + 5) d Rq K) : SmW M 93 d Rq (fun l st S I => im_dyn4 l st S I K) :=
  sm_dyn4 hd hx sg4_is (fun G s0 h => h.2.2.2.1) rfl rfl (ty := .object "LineDispatch") (fun vm d c dk h1 h2 h3 h4 => by
    obtain ⟨k, tk, file, methk, ck, toy, t, g0, g1, q1, -, -, -, -, -, -, -, -, -, -, -, -, -, -, -, -, -, -, -, -, -, -, q2, q3⟩ := made4 h1 h2 h3 h4
    exact ⟨k, q1, q2, q3⟩) rfl hk
end XDY
