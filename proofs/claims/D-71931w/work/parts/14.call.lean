/-! ===== contracts and calls ===== -/
set_option maxRecDepth 100000
/-- the locals with which a method begins -/
def entA : List SmV → SmL
  | [] => []
  | .inr (.inl z) :: r => some (vJ z) :: none :: entA r
  | .inl z :: r => some (vI z) :: entA r
  | .inr (.inr x) :: r => some (vR x) :: entA r
def entL (n : Nat) (args : List SmV) : SmL := entA args ++ List.replicate (n - (entA args).length) none
/-- THE CONTRACT: called with args at the heap (S, I), at most d calls deep, the method M ends so that Q -/
def SC (M : SmM) (d : Nat) (args : List SmV) (S : SmS) (I : SmI) (Q : SmQ) : Prop :=
  (entA args).length ≤ mL M ∧ ∃ mc ms, mc ≤ sC S ∧ ms ≤ sB S ∧ SW M 0 d (fun o S' I' => Q o (sBud S' (sC S - mc) (sB S - ms)) I') (entL (mL M) args) [] (sBud S mc ms) I
theorem SC_of {M : SmM} {d : Nat} {args : List SmV} {S : SmS} {I : SmI} {Q : SmQ} (hn : (entA args).length ≤ mL M) (mc ms : Nat) (h1 : mc ≤ sC S) (h2 : ms ≤ sB S) (h : SW M 0 d (fun o S' I' => Q o (sBud S' (sC S - mc) (sB S - ms)) I') (entL (mL M) args) [] (sBud S mc ms) I) : SC M d args S I Q := ⟨hn, mc, ms, h1, h2, h⟩
/-- a method that makes no cells -/
theorem SC_of0 {M : SmM} {d : Nat} {args : List SmV} {S : SmS} {I : SmI} {Q : SmQ} (hn : (entA args).length ≤ mL M) (h : SW M 0 d (fun o S' I' => Q o (sBud S' (sC S) (sB S)) I') (entL (mL M) args) [] (sBud S 0 0) I) : SC M d args S I Q := ⟨hn, 0, 0, Nat.zero_le _, Nat.zero_le _, h⟩
theorem SW_mono {M : SmM} {pc d : Nat} {Rq Rq' : SmQ} {l : SmL} {st : List SmV} {S : SmS} {I : SmI} (h : SW M pc d Rq l st S I) (hm : ∀ o S I, Rq o S I → Rq' o S I) : SW M pc d Rq' l st S I := by
  intro G p e R s m args below meth c cap H locs cells slots FQ ls hf hr hl hv hs hc hb hq
  exact h G p e R s m args below meth c cap H locs cells slots FQ ls hf hr hl hv hs hc hb (fun o S I H locs cells slots pc ls rest hR => hq o S I H locs cells slots pc ls rest (hm o S I hR))
theorem SC_mono {M : SmM} {d : Nat} {args : List SmV} {S : SmS} {I : SmI} {Q Q' : SmQ} (h : SC M d args S I Q) (hm : ∀ o S I, Q o S I → Q' o S I) : SC M d args S I Q' := by
  obtain ⟨hn, mc, ms, h1, h2, h3⟩ := h
  exact ⟨hn, mc, ms, h1, h2, SW_mono h3 (fun o S I => hm _ _ _)⟩
/-- fewer locals are known -/
theorem SW_loc {M : SmM} {pc d : Nat} {Rq : SmQ} {l l' : SmL} {st : List SmV} {S : SmS} {I : SmI} (h : SW M pc d Rq l' st S I) (hlen : l'.length = l.length) (hl : ∀ (i : Nat) (v : SmV), l'[i]? = some (some v) → l[i]? = some (some v)) : SW M pc d Rq l st S I := by
  intro G p e R s m args below meth c cap H locs cells slots FQ ls hf hr hl9 hv hs hc hb hq
  exact h G p e R s m args below meth c cap H locs cells slots FQ ls hf hr ⟨hl9.1, hl9.2.1, hlen.trans hl9.2.2.1, fun i v h => hl9.2.2.2 i v (hl i v h)⟩ hv hs hc hb hq
/-- q is thrown at pc -/
def EX (M : SmM) (pc d : Nat) (Rq : SmQ) (l : SmL) (q : Nat) (S : SmS) (I : SmI) : Prop :=
  ∀ (G : SmG) (p : Program) (e : Env) (R : Room) (s : State) (m : MethodId) (args : Array Value) (below : List Frame) (meth : Method) (c : Code) (cap : Nat) (H : Heap) (locs : List Loc) (cells slots : Nat) (FQ : State → Prop) (ls : Array Slot) (rest : List Value),
    FX G M d p R s m args meth c → RH G cap s S I H → LcS G (mL M) l ls → va_S (gA G) s.heap H locs → cells + sC S ≤ R.cells → slots + sB S ≤ R.slots → RT G M Rq p e R s m args below meth c cap FQ → (1 ≤ sT S q ∧ sT S q < 22 ∧ q < sZ S) →
    vx_W p (gL G) e R s m args below meth c H locs cells slots FQ (F0 m pc ls rest) (gB G + q)
/-- behind a call: the answer on the stack, or what it has thrown -/
def retK (M : SmM) (pc pc' d : Nat) (Rq : SmQ) (l : SmL) (rest : List SmV) : SmQ := fun o S I => match o with
  | .inl none => SW M pc' d Rq l rest S I
  | .inl (some v) => SW M pc' d Rq l (v :: rest) S I
  | .inr q => EX M pc d Rq l q S I
theorem retK_n (M : SmM) (pc pc' d : Nat) (Rq : SmQ) (l : SmL) (rest : List SmV) (S : SmS) (I : SmI) : retK M pc pc' d Rq l rest (.inl none) S I = SW M pc' d Rq l rest S I := rfl
theorem retK_v (M : SmM) (pc pc' d : Nat) (Rq : SmQ) (l : SmL) (rest : List SmV) (v : SmV) (S : SmS) (I : SmI) : retK M pc pc' d Rq l rest (.inl (some v)) S I = SW M pc' d Rq l (v :: rest) S I := rfl
theorem retK_x (M : SmM) (pc pc' d : Nat) (Rq : SmQ) (l : SmL) (rest : List SmV) (q : Nat) (S : SmS) (I : SmI) : retK M pc pc' d Rq l rest (.inr q) S I = EX M pc d Rq l q S I := rfl
theorem entA_len {G : SmG} (args : List SmV) : (entA args).length = (lg_sl (args.map (rV G))).length := by
  induction args with
  | nil => rfl
  | cons v r ih =>
    match v with
    | .inl z => simp only [entA, List.map_cons, lg_sl, List.flatMap_cons, List.length_append, List.length_cons]; rw [ih]; simp [lg_sl, rV, Value.category, Nat.add_comm]
    | .inr (.inl z) =>
      have e : lg_sl ((vJ z :: r).map (rV G)) = Slot.val (.long (rJ z)) :: .second :: lg_sl (r.map (rV G)) := rfl
      have e2 : entA (vJ z :: r) = some (vJ z) :: none :: entA r := rfl
      rw [e, e2, List.length_cons, List.length_cons, List.length_cons, List.length_cons, ih]
    | .inr (.inr none) => simp only [entA, List.map_cons, lg_sl, List.flatMap_cons, List.length_append, List.length_cons]; rw [ih]; simp [lg_sl, rV, rR, va_rf, Value.category, Nat.add_comm]
    | .inr (.inr (some a)) => simp only [entA, List.map_cons, lg_sl, List.flatMap_cons, List.length_append, List.length_cons]; rw [ih]; simp [lg_sl, rV, rR, va_rf, Value.category, Nat.add_comm]
theorem entA_at {G : SmG} (args : List SmV) : ∀ (k i : Nat) (v : SmV), (entA args)[i]? = some (some v) → (k + i, rV G v) ∈ lv_args k (args.map (rV G)) ∧ v ∈ args := by
  induction args with
  | nil => intro k i v h; cases h
  | cons w r ih =>
    intro k i v h
    match w, h with
    | .inl z, h =>
      cases i with
      | zero => cases h; exact ⟨List.mem_cons_self, List.mem_cons_self⟩
      | succ i =>
        obtain ⟨h1, h2⟩ := ih (k + 1) i v h
        exact ⟨List.mem_cons_of_mem _ (by rw [show k + (i + 1) = k + 1 + i by omega]; exact h1), List.mem_cons_of_mem _ h2⟩
    | .inr (.inl z), h =>
      cases i with
      | zero => cases h; exact ⟨List.mem_cons_self, List.mem_cons_self⟩
      | succ i =>
        cases i with
        | zero => cases h
        | succ i =>
          obtain ⟨h1, h2⟩ := ih (k + 2) i v h
          exact ⟨List.mem_cons_of_mem _ (by rw [show k + (i + 1 + 1) = k + 2 + i by omega]; exact h1), List.mem_cons_of_mem _ h2⟩
    | .inr (.inr none), h =>
      cases i with
      | zero => cases h; exact ⟨List.mem_cons_self, List.mem_cons_self⟩
      | succ i =>
        obtain ⟨h1, h2⟩ := ih (k + 1) i v h
        exact ⟨List.mem_cons_of_mem _ (by rw [show k + (i + 1) = k + 1 + i by omega]; exact h1), List.mem_cons_of_mem _ h2⟩
    | .inr (.inr (some a)), h =>
      cases i with
      | zero => cases h; exact ⟨List.mem_cons_self, List.mem_cons_self⟩
      | succ i =>
        obtain ⟨h1, h2⟩ := ih (k + 1) i v h
        exact ⟨List.mem_cons_of_mem _ (by rw [show k + (i + 1) = k + 1 + i by omega]; exact h1), List.mem_cons_of_mem _ h2⟩
theorem entL_ls {G : SmG} {n : Nat} {args : List SmV} (hn : (entA args).length ≤ n) (hok : ∀ v ∈ args, okV v) : LcS G n (entL n args) ((lg_sl (args.map (rV G)) ++ List.replicate (n - (lg_sl (args.map (rV G))).length) Slot.unset).toArray) := by
  have h := lv_entry (args.map (rV G)) (n := n) (by rw [← entA_len]; exact hn)
  refine ⟨h.1, h.2.1, by unfold entL; rw [List.length_append, List.length_replicate]; omega, fun i v hv => ?_⟩
  unfold entL at hv
  by_cases hi : i < (entA args).length
  · rw [List.getElem?_append_left hi] at hv
    obtain ⟨h1, h2⟩ := entA_at (G := G) args 0 i v hv
    rw [Nat.zero_add] at h1
    exact ⟨h.2.2 _ h1, hok v h2⟩
  · rw [List.getElem?_append_right (by omega)] at hv
    have := List.mem_of_getElem? hv
    rw [List.mem_replicate] at this
    cases this.2
def smRm (d mc ms : Nat) : Room := { frames := d + 20, cells := mc, slots := ms, locals := 64 * d + 12000 }
def smPc (G : SmG) (cap : Nat) (args : List SmV) (S : SmS) (I : SmI) : Array Value → State → Prop := fun a U => a = (args.map (rV G)).toArray ∧ RH G cap U S I U.heap ∧ KK G U
def smQc (G : SmG) (cap : Nat) (Q : SmQ) : Array Value → State → Outcome → State → Prop := fun _ st o t => ∃ (v : Option SmV) (S : SmS) (I : SmI), o = .returned (v.map (rV G)) ∧ (∀ x, v = some x → okV x) ∧ Q (.inl v) S I ∧ RH G cap t S I t.heap ∧ va_S (gA G) st.heap t.heap []
def smXC (G : SmG) (cap : Nat) (Q : SmQ) : Addr → String → State → State → Prop := fun q _ st t => ∃ (v : Nat) (S : SmS) (I : SmI), q = gB G + v ∧ (1 ≤ sT S v ∧ sT S v < 22 ∧ v < sZ S) ∧ Q (.inr v) S I ∧ RH G cap t S I t.heap ∧ va_S (gA G) st.heap t.heap []
theorem va_S.nil {A : Nat → Prop} {H0 H : Heap} {locs : List Loc} (h : va_S A H0 H locs) : va_S A H0 H [] := ⟨h.1, h.2.1, fun _ h => by cases h⟩
theorem smRT {G : SmG} {M : SmM} {Q : SmQ} {cap mc ms d : Nat} {p : Program} {e : Env} {R : Room} {s : State} {m : MethodId} {args : Array Value} {below : List Frame} {meth : Method} {c : Code}
    (hf : FX G M d p R s m args meth c) (hRc : R.cells = mc) (hRs : R.slots = ms) : RT G M Q p e R s m args below meth c cap (vx_MQ below (smQc G cap Q) (smXC G cap Q) args s mc ms (gA G)) := by
  obtain ⟨hx, hb, hret, hml, hlocks, hname, hown, hts, htab, hKK, hfr, hlo⟩ := hf
  intro o S I H locs cells slots pc ls rest hQ hr hs hc hb9
  match o, hQ with
  | .inl none, hQ =>
    intro ⟨h1, h2⟩
    refine W.widen (k := mc) (n := ms) (by omega) (by omega) (vx_ret ?_)
    exact W.vret hx hb (hret.trans h1) (fun t ht hW => ⟨none, S, I, rfl, fun _ h => (by cases h), hQ, by rw [ht]; exact hr.moved hW.alike, by rw [ht]; exact hs.nil⟩) hs.2.2 h2 hlocks
  | .inl (some (.inl z)), hQ =>
    intro ⟨⟨ty, h1, h3⟩, h4, h2⟩
    refine W.widen (k := mc) (n := ms) (by omega) (by omega) (vx_ret ?_)
    exact W.zret hx hb (hret.trans h1) h3 (fun t ht hW => ⟨some (vI z), S, I, rfl, fun _ h => (by cases h; exact h4), hQ, by rw [ht]; exact hr.moved hW.alike, by rw [ht]; exact hs.nil⟩) hs.2.2 h2 hlocks
  | .inl (some (.inr (.inl z))), hQ => intro h; cases h
  | .inl (some (.inr (.inr z))), hQ =>
    intro ⟨⟨rt, h1, h3⟩, h2⟩
    refine W.widen (k := mc) (n := ms) (by omega) (by omega) (vx_ret ?_)
    refine W.aret (v := va_rf (rR G z)) hx hb (hret.trans h1) ?_ (va_rf_or _) (fun t ht hW => ⟨some (vR z), S, I, rfl, fun _ h => (by cases h; exact trivial), hQ, by rw [ht]; exact hr.moved hW.alike, by rw [ht]; exact hs.nil⟩) hs.2.2 h2 hlocks
    cases rt with
    | object n => exact Or.inl ⟨n, rfl⟩
    | array t => exact Or.inr ⟨t, rfl⟩
    | _ => cases h3
  | .inr q, hQ =>
    intro h1 h2 h3 h4
    obtain ⟨hcell, hlt, hF⟩ := hr.obj (v := q) rfl h1 (by omega)
    obtain ⟨r, g1, cell, g2, g3, g4, -⟩ := hcell
    exact vx_out (E := r.1) h4 hlocks g2 g4 (by rw [g3]; exact (hKK.k.1 _ _ g1).2.1) (fun t ht hA => ⟨q, S, I, rfl, ⟨h1, h2, h3⟩, hQ, by rw [ht]; exact hr.moved hA, by rw [ht]; exact hs.nil⟩) hs.2.2 (by omega) (by omega)
/-- a body's walk gives the kit's contract -/
theorem SW_met {G : SmG} {M : SmM} {d mc ms cap : Nat} {args : List SmV} {S : SmS} {I : SmI} {Q : SmQ} (hH : mH M = []) (hpl : plainName (mN M).cls = true) (hn : (entA args).length ≤ mL M) (hok : ∀ v ∈ args, okV v) (hC : sC S = mc) (hB : sB S = ms)
    (body : SW M 0 d Q (entL (mL M) args) [] S I) : vx_Met (gL G) (mN M) (ws_ (mN M) (mC M) (mL M) (mR M)) (smRm d mc ms) (smPc G cap args S I) (smQc G cap Q) (smXC G cap Q) mc ms (gA G) := by
  refine vx_ofW (cc := mC M) (maxL := mL M) (ret := mR M) hpl rfl ?_
  intro p e s m args' below meth c s₁ B hml htab hP
  obtain ⟨rfl, hr, hKK⟩ := hP
  have hts := atoms_spec (ws := ws_ (mN M) (mC M) (mL M) (mR M)) B.pre
  have htab' : c.exceptionTable.toList = tableOf (mH M) := by
    rw [hH]
    exact List.eq_nil_iff_forall_not_mem.mpr (fun x hx => htab x hx)
  have hf : FX G M d p (smRm d mc ms) s m (args.map (rV G)).toArray meth c := ⟨B.exec, B.bytes, B.returns, hml, B.notSynchronized, (name_of_methodNamed B.named B.method).1, findClass_of_methodNamed B.named, fun w h => hts w (List.mem_cons_of_mem _ h), ⟨htab', B.named⟩, hKK, Nat.le_refl _, Nat.le_refl _⟩
  rw [lg_entry_eq]
  exact body G p e (smRm d mc ms) s m _ below meth c cap s.heap [] 0 0 _ _ hf hr (entL_ls hn hok) (fun v h => by cases h) va_S.rf (by show 0 + sC S ≤ mc; omega) (by show 0 + sB S ≤ ms; omega) (smRT hf rfl rfl)
theorem SW_metH {G : SmG} {M : SmM} {d mc ms cap : Nat} {args : List SmV} {S : SmS} {I : SmI} {Q : SmQ} (hpl : plainName (mN M).cls = true) (hn : (entA args).length ≤ mL M) (hok : ∀ v ∈ args, okV v) (hC : sC S = mc) (hB : sB S = ms)
    (body : SW M 0 d Q (entL (mL M) args) [] S I) : vx_Met (gL G) (mN M) (wsW_ (mN M) (mC M) (mL M) (mR M) (mH M)) (smRm d mc ms) (smPc G cap args S I) (smQc G cap Q) (smXC G cap Q) mc ms (gA G) := by
  refine vx_ofWH (cc := mC M) (maxL := mL M) (ret := mR M) (hh := mH M) hpl rfl ?_
  intro p e s m args' below meth c s₁ B hml hP
  obtain ⟨rfl, hr, hKK⟩ := hP
  have hts := atoms_spec (ws := wsW_ (mN M) (mC M) (mL M) (mR M) (mH M)) B.pre
  have hf : FX G M d p (smRm d mc ms) s m (args.map (rV G)).toArray meth c := ⟨B.exec, B.bytes, B.returns, hml, B.notSynchronized, (name_of_methodNamed B.named B.method).1, findClass_of_methodNamed B.named, fun w h => hts w (List.mem_cons_of_mem _ h), ⟨vx_table (x := mN M) (y := mN M) B (hts _ List.mem_cons_self), B.named⟩, hKK, Nat.le_refl _, Nat.le_refl _⟩
  rw [lg_entry_eq]
  exact body G p e (smRm d mc ms) s m _ below meth c cap s.heap [] 0 0 _ _ hf hr (entL_ls hn hok) (fun v h => by cases h) va_S.rf (by show 0 + sC S ≤ mc; omega) (by show 0 + sB S ≤ ms; omega) (smRT hf rfl rfl)
theorem smBlind {G : SmG} {cap : Nat} {args : List SmV} {S : SmS} {I : SmI} : FrameBlind (smPc G cap args S I) := fun a U g mk h => ⟨h.1, h.2.1.moved (Vm.Alike.refl U.vm), h.2.2.same rfl rfl⟩
/-- at the call the callee's start holds -/
theorem smPre {G : SmG} {cap mc ms : Nat} {args : List SmV} {s U : State} {S : SmS} {I : SmI} {H : Heap} {locs : List Loc} (hr : RH G cap s S I H) (hKK : KK G s) (hs : va_S (gA G) s.heap H locs) (hmc : mc ≤ sC S) (hU : U.heap = H) (hW : s.WarmedH U.vm) : smPc G (sZ S + mc) args (sBud S mc ms) I (args.map (rV G)).toArray U := by
  refine ⟨rfl, ?_, hKK.moved hW (locs := locs) (by rw [hU]; exact hs)⟩
  rw [hU]
  obtain ⟨h1, h2, h3, h4, h5, h6, h7, h8, h9⟩ := hr.moved hW.alike
  exact ⟨h1, Nat.le_refl _, by omega, h4, h5, h6, h7, h8, h9⟩
theorem RH.bud {G : SmG} {cap cap' k n : Nat} {s : State} {S : SmS} {I : SmI} {H : Heap} (h : RH G cap s S I H) (hk : sZ S + k ≤ cap') (hc : cap' ≤ smF) : RH G cap' s (sBud S k n) I H := by
  obtain ⟨h1, h2, h3, h4, h5, h6, h7, h8, h9⟩ := h
  exact ⟨h1, hk, hc, h4, h5, h6, h7, h8, h9⟩
section CALLS
variable {M M' : SmM} {pc d : Nat} {Rq : SmQ}
/-- behind a call's run -/
theorem call_run {G : SmG} {p : Program} {e : Env} {R : Room} {s : State} {m : MethodId} {args a' : Array Value} {below : List Frame} {meth : Method} {c : Code} {cap len : Nat} {H : Heap} {locs : List Loc} {cells slots mc ms : Nat} {FQ : State → Prop} {ls : Array Slot} {l : SmL} {rest : List SmV} {st0 : List Value} {S : SmS} {I : SmI} {Q : SmQ}
    (hf : FX G M d p R s m args meth c) (hr : RH G cap s S I H) (hl : LcS G (mL M) l ls) (hok : ∀ v ∈ rest, okV v) (hs : va_S (gA G) s.heap H locs) (hc : cells + sC S ≤ R.cells) (hb : slots + sB S ≤ R.slots) (hq : RT G M Rq p e R s m args below meth c cap FQ) (hmc : mc ≤ sC S) (hms : ms ≤ sB S)
    (hrun : ∀ T : State, T.heap = H → Stand p (gL G) e R s m args below meth c T locs cells slots →
      (∃ (v : Option Value) (st₀ t T' : State) (L : List Loc), st₀.heap = H ∧ Stand p (gL G) e R s m args below meth c T' (locs ++ L) (cells + mc) (slots + ms) ∧ (∀ q ∈ L, (gA G) q.base) ∧ T'.heap = t.heap ∧ T'.vm = t.vm ∧ smQc G (sZ S + mc) (fun o S' I' => Q o (sBud S' (sC S - mc) (sB S - ms)) I') a' st₀ (.returned v) t ∧
        Goes p e below T (F0 m pc ls st0) T' (F0 m (pc + len) ls (v.toList ++ rest.map (rV G)))) ∨
      (∃ (q : Addr) (st₀ t T' : State) (L : List Loc) (E : String) (ce : Cell), st₀.heap = H ∧ Stand p (gL G) e R s m args below meth c T' (locs ++ L) (cells + mc) (slots + ms) ∧ (∀ z ∈ L, (gA G) z.base) ∧ T'.heap = t.heap ∧ T'.vm = t.vm ∧ smXC G (sZ S + mc) (fun o S' I' => Q o (sBud S' (sC S - mc) (sB S - ms)) I') q E st₀ t ∧ t.heap[q]? = some ce ∧ ce.vm = .none ∧ s.vm.findClass E = some ce.cls ∧
        Steps p.tables e below (T.setTop (F0 m pc ls st0)) ((T'.setTop (F0 m pc ls (rest.map (rV G)))).pushFrame (.throwing q))))
    (hQ : ∀ o S' I', Q o S' I' → retK M pc (pc + len) d Rq l rest o S' I') : W p (gL G) e R s m args below meth c H locs cells slots FQ (F0 m pc ls st0) := by
  have hcap : cap ≤ smF := hr.2.2.1
  have hzc : sZ S + sC S ≤ cap := hr.2.1
  have key : ∀ (S' : SmS) (I' : SmI) (t T' : State), RH G (sZ S + mc) t S' I' t.heap → T'.heap = t.heap → s.vm.Alike T'.vm → T'.vm = t.vm → RH G cap s (sBud S' (sC S - mc) (sB S - ms)) I' T'.heap := by
    intro S' I' t T' h1 e1 hA e2
    rw [e1]
    have h2 : RH G (sZ S + mc) s S' I' t.heap := h1.moved (by rw [← e2]; exact hA.symm)
    exact h2.bud (by have := h2.2.1; omega) hcap
  intro T hT X
  rcases hrun T hT X with ⟨v, st₀, t, T', L, h0, X', hL, e1, e2, ⟨vv, S', I', hv, hvo, hQ', hr', hs'⟩, st⟩ | ⟨q, st₀, t, T', L, E, ce, h0, X', hL, e1, e2, ⟨vq, S', I', hqv, hq3, hQ', hr', hs'⟩, hce, hcv, hcl, st⟩
  · cases hv
    have hr2 := key S' I' t T' hr' e1 X'.warmed.alike e2
    have hs2 : va_S (gA G) s.heap T'.heap (locs ++ L) := by
      rw [h0] at hs'
      rw [e1]
      exact ⟨Nat.le_trans hs.1 hs'.1, fun q h1 h2 => (hs'.2.1 q (Nat.lt_of_lt_of_le h1 hs.1) h2).trans (hs.2.1 q h1 h2), fun q hq => (List.mem_append.mp hq).elim (hs.2.2 q) (hL q)⟩
    have hk := hQ _ _ _ hQ'
    have hgo : ∃ t2, Steps p.tables e below (T'.setTop (F0 m (pc + len) ls ((Option.map (rV G) vv).toList ++ rest.map (rV G)))) t2 ∧ FQ t2 := by
      cases vv with
      | none => exact hk G p e R s m args below meth c cap T'.heap (locs ++ L) (cells + mc) (slots + ms) FQ ls hf hr2 hl hok hs2 (by rw [sC_sBud]; omega) (by rw [sB_sBud]; omega) hq T' rfl X'
      | some x => exact hk G p e R s m args below meth c cap T'.heap (locs ++ L) (cells + mc) (slots + ms) FQ ls hf hr2 hl (okc (hvo x rfl) hok (fun _ h => h)) hs2 (by rw [sC_sBud]; omega) (by rw [sB_sBud]; omega) hq T' rfl X'
    obtain ⟨t2, a1, b1⟩ := hgo
    exact ⟨t2, st t2 a1, b1⟩
  · subst hqv
    have hr2 := key S' I' t T' hr' e1 X'.warmed.alike e2
    have hs2 : va_S (gA G) s.heap T'.heap (locs ++ L) := by
      rw [h0] at hs'
      rw [e1]
      exact ⟨Nat.le_trans hs.1 hs'.1, fun q h1 h2 => (hs'.2.1 q (Nat.lt_of_lt_of_le h1 hs.1) h2).trans (hs.2.1 q h1 h2), fun q hq => (List.mem_append.mp hq).elim (hs.2.2 q) (hL q)⟩
    have hk : EX M pc d Rq l vq (sBud S' (sC S - mc) (sB S - ms)) I' := hQ _ _ _ hQ'
    obtain ⟨t2, a1, b1⟩ := hk G p e R s m args below meth c cap T'.heap (locs ++ L) (cells + mc) (slots + ms) FQ ls (rest.map (rV G)) hf hr2 hl hs2 (by rw [sC_sBud]; omega) (by rw [sB_sBud]; omega) hq hq3 T' rfl X'
    exact ⟨t2, st.trans a1, b1⟩
/-- not caught here -/
theorem EX_out {l : SmL} {q : Nat} {S : SmS} {I : SmI} (hH : (tableOf (mH M)).all (fun x => !(covers x pc)) = true) (h : Rq (.inr q) S I) : EX M pc d Rq l q S I := by
  intro G p e R s m args below meth c cap H locs cells slots FQ ls rest hf hr hl hs hc hb hq h3
  refine hq (.inr q) S I H locs cells slots pc ls rest h hr hs hc hb h3.1 h3.2.1 h3.2.2 (fun x hx => ?_)
  rw [hf.2.2.2.2.2.2.2.2.1.1] at hx
  have := List.all_eq_true.mp hH x hx
  cases hcv : covers x pc with
  | false => rfl
  | true => rw [hcv] at this; cases this
def wsum : List SmV → Nat
  | [] => 0
  | .inr (.inl _) :: r => 2 + wsum r
  | _ :: r => 1 + wsum r
theorem wsum_r {G : SmG} (r : List SmV) : ((r.map (rV G)).map fun v => v.category).sum = wsum r := by
  induction r with
  | nil => rfl
  | cons v r ih =>
    rw [List.map_cons, List.map_cons, List.sum_cons, ih]
    match v with
    | .inl z => rfl
    | .inr (.inl z) => rfl
    | .inr (.inr none) => rfl
    | .inr (.inr (some a)) => rfl
def im_callS (n : Nat) (M' : SmM) : (d : Nat) → (Kr : List SmV → SmQ) → (st : List SmV) → SmS → SmI → Prop
  | 0, _, _, _, _ => False
  | d + 1, Kr, st, S, I => n ≤ st.length ∧ wsum (st.drop n) ≤ 8 ∧ SC M' d (st.take n).reverse S I (Kr (st.drop n))
def im_callV (n t : Nat) (M' : SmM) : (d : Nat) → (Kr : List SmV → SmQ) → (st : List SmV) → SmS → SmI → Prop
  | 0, _, _, _, _ => False
  | d + 1, Kr, st, S, I => popA (st.drop n) fun a r => n ≤ st.length ∧ sT S a = t ∧ wsum r ≤ 8 ∧ SC M' d (vR (some a) :: (st.take n).reverse) S I (Kr r)
theorem im_callS_eq (n : Nat) (M' : SmM) (d : Nat) (Kr : List SmV → SmQ) (st : List SmV) (S : SmS) (I : SmI) : im_callS n M' (d + 1) Kr st S I = (n ≤ st.length ∧ wsum (st.drop n) ≤ 8 ∧ SC M' d (st.take n).reverse S I (Kr (st.drop n))) := rfl
theorem im_callV_eq (n t : Nat) (M' : SmM) (d : Nat) (Kr : List SmV → SmQ) (st : List SmV) (S : SmS) (I : SmI) : im_callV n t M' (d + 1) Kr st S I = (popA (st.drop n) fun a r => n ≤ st.length ∧ sT S a = t ∧ wsum r ≤ 8 ∧ SC M' d (vR (some a) :: (st.take n).reverse) S I (Kr r)) := rfl
/-- what is the same of every callee: an ordinary class, no handlers, few locals, n words of arguments at the most -/
def callOk (M' : SmM) (n : Nat) : Prop := mH M' = [] ∧ plainName (mN M').cls = true ∧ mL M' ≤ 40 ∧ (mN M').cls ≠ "java/lang/invoke/MethodHandle" ∧ (mN M').cls ≠ "java/lang/invoke/VarHandle" ∧ (parseMethodDescriptor (mN M').desc).map (fun d => d.parameters.length) = some n
theorem rm_ok {R : Room} {d L mc ms : Nat} (h1 : d + 1 + 20 ≤ R.frames) (h2 : 64 * (d + 1) + 12000 ≤ R.locals) (hL : L ≤ 40) : (smRm d mc ms).frames + 1 ≤ R.frames ∧ 8 + (L + 11) + (smRm d mc ms).locals ≤ R.locals := by
  unfold smRm
  dsimp only
  omega
theorem st_split {G : SmG} {n : Nat} {st : List SmV} : st.map (rV G) = ((st.take n).reverse.map (rV G)).reverse ++ (st.drop n).map (rV G) := by
  rw [List.map_reverse, List.reverse_reverse, ← List.map_append, List.take_append_drop]
theorem xv_callS {idx n : Nat} (hd : decode (mC M) pc = .ok (.invokestatic idx, 3)) (hok : callOk M' n) (hw : GoodIn lw_all (va_wsS (mN M).cls idx (mN M') (ws_ (mN M') (mC M') (mL M') (mR M')))) :
    ∀ l st S I, im_callS n M' d (retK M pc (pc + 3) d Rq l) st S I → SW M pc d Rq l st S I := by
  intro l st S I h
  cases d with
  | zero => cases h
  | succ d =>
    obtain ⟨hlen, hws, hent, mc, ms, hmc, hms, hbody⟩ := h
    intro G p e R s m args below meth c cap H locs cells slots FQ ls hf hr hl hv hs hc hb9 hq
    have hx := hf.1
    have hb := hf.2.1
    have hml := hf.2.2.2.1
    have hown := hf.2.2.2.2.2.2.1
    have hts := hf.2.2.2.2.2.2.2.1
    have hKK := hf.2.2.2.2.2.2.2.2.2.1
    have hRf := hf.2.2.2.2.2.2.2.2.2.2.1
    have hRl := hf.2.2.2.2.2.2.2.2.2.2.2
    obtain ⟨k1, k2, k3, k4, k5, k6⟩ := hok
    have hargs : ∀ v ∈ (st.take n).reverse, okV v := fun v h => hv v (List.mem_of_mem_take (List.mem_reverse.mp h))
    have hM := SW_met (G := G) (cap := sZ S + mc) k1 k2 hent hargs (sC_sBud S mc ms) (sB_sBud S mc ms) hbody
    have hrm := rm_ok (mc := mc) (ms := ms) hRf hRl k3
    have hrun := vx_runS (e := e) (below := below) (meth := meth) (locs := locs) (cells := cells) (slots := slots) (mc := mc) (ms := ms) (As := (st.take n).reverse.map (rV G)) (rest := (st.drop n).map (rV G)) (g := F0 m pc ls (st.map (rV G))) ⟨hx, hb, hml, hown, hts⟩ hM (va_cwS n hts hw rfl rfl rfl ⟨k4, k5, k6⟩ hrm) ⟨smBlind, fun U hU hW => smPre hr hKK hs hmc hU hW⟩ rfl (by rw [List.length_map, List.length_reverse, List.length_take]; omega) hl.1 st_split (by show 2 * 0 + _ ≤ 8; rw [wsum_r]; omega) hd ⟨by omega, by omega⟩
    exact call_run hf hr hl (fun v h => hv v (List.mem_of_mem_drop h)) hs hc hb9 hq hmc hms hrun (fun o S' I' h => h)
theorem xv_callV {idx n t : Nat} {C : String} {T : u_T} {N : Nat} (hd : decode (mC M) pc = .ok (.invokevirtual idx, 3)) (hcl : smCl[t]? = some (C, T, N)) (ht : 1 ≤ t ∧ t < 50) (hok : callOk M' n) (hC : (mN M').cls = C) (hw : GoodIn lw_all (wsV (mN M).cls idx C (mN M') (ws_ (mN M') (mC M') (mL M') (mR M')))) :
    ∀ l st S I, im_callV n t M' d (retK M pc (pc + 3) d Rq l) st S I → SW M pc d Rq l st S I := by
  intro l st S I h
  cases d with
  | zero => cases h
  | succ d =>
    obtain ⟨a, r, hst, hlen, hT, hws, hent, mc, ms, hmc, hms, hbody⟩ := popA_ex h
    intro G p e R s m args below meth c cap H locs cells slots FQ ls hf hr hl hv hs hc hb9 hq
    have hx := hf.1
    have hb := hf.2.1
    have hml := hf.2.2.2.1
    have hown := hf.2.2.2.2.2.2.1
    have hts := hf.2.2.2.2.2.2.2.1
    have hKK := hf.2.2.2.2.2.2.2.2.2.1
    have hRf := hf.2.2.2.2.2.2.2.2.2.2.1
    have hRl := hf.2.2.2.2.2.2.2.2.2.2.2
    obtain ⟨k1, k2, k3, k4, k5, k6⟩ := hok
    obtain ⟨hat, hlt, hF⟩ := hr.obj hT ht.1 ht.2
    have hargs : ∀ v ∈ vR (some a) :: (st.take n).reverse, okV v := okc trivial (r0 := st) hv (fun v h => List.mem_of_mem_take (List.mem_reverse.mp h))
    have hM := SW_met (G := G) (cap := sZ S + mc) k1 k2 hent hargs (sC_sBud S mc ms) (sB_sBud S mc ms) hbody
    have hrm := rm_ok (mc := mc) (ms := ms) hRf hRl k3
    have hav : rV G (vR (some a)) = .ref (gB G + a) := by rw [rV_R, rR, Option.map_some, rA_lt hF]; rfl
    have hsp : st.map (rV G) = ((st.take n).reverse.map (rV G)).reverse ++ .ref (gB G + a) :: r.map (rV G) := by
      rw [st_split (n := n), hst, List.map_cons, hav]
    have hPc : ∀ U : State, U.heap = H → s.WarmedH U.vm → smPc G (sZ S + mc) (vR (some a) :: (st.take n).reverse) (sBud S mc ms) I (Value.ref (gB G + a) :: (st.take n).reverse.map (rV G)).toArray U := fun U hU hW => by
      have := smPre (ms := ms) (args := vR (some a) :: (st.take n).reverse) hr hKK hs hmc hU hW
      rw [List.map_cons, hav] at this
      exact this
    have hrecv := va_recv (D := gD G) (cl := smCl) (ws := [(gB G + a, .inr (t, smFs G t (I a) (sP S a)))]) (ci := t) (q0 := 0) hKK.k (one_P hat) hcl rfl
    have hrun := vx_runV (e := e) (below := below) (meth := meth) (locs := locs) (cells := cells) (slots := slots) (mc := mc) (ms := ms) (As := (st.take n).reverse.map (rV G)) (rest := r.map (rV G)) (g := F0 m pc ls (st.map (rV G))) ⟨hx, hb, hml, hown, hts⟩ hM (cwV (C := C) n hts hw rfl rfl rfl ⟨hC, k4, k5, k6⟩ hrm) ⟨smBlind, hrecv, hPc⟩ rfl (by rw [List.length_map, List.length_reverse, List.length_take]; omega) hl.1 hsp (by show 2 * 0 + _ ≤ 8; rw [wsum_r]; omega) hd ⟨by omega, by omega⟩
    exact call_run hf hr hl (fun v h => hv v (List.mem_of_mem_drop (by rw [hst]; exact tl1 h))) hs hc hb9 hq hmc hms hrun (fun o S' I' h => h)
end CALLS
