/-! ===== the machine's throws, in the virtual heap ===== -/
set_option maxRecDepth 100000
/-- behind a throw of the machine: k cells for its message, then the thrown object -/
def sXn (S : SmS) (t k w : Nat) : SmS := (fun v => if v = sZ S + k then t else sT S v, sN S, sP S, sZ S + (k + 1), sC S - (k + 1), sB S - w)
theorem sT_sXn (S : SmS) (t k w v : Nat) : sT (sXn S t k w) v = if v = sZ S + k then t else sT S v := rfl
theorem sN_sXn (S : SmS) (t k w : Nat) : sN (sXn S t k w) = sN S := rfl
theorem sP_sXn (S : SmS) (t k w : Nat) : sP (sXn S t k w) = sP S := rfl
theorem sZ_sXn (S : SmS) (t k w : Nat) : sZ (sXn S t k w) = sZ S + (k + 1) := rfl
theorem sC_sXn (S : SmS) (t k w : Nat) : sC (sXn S t k w) = sC S - (k + 1) := rfl
theorem sB_sXn (S : SmS) (t k w : Nat) : sB (sXn S t k w) = sB S - w := rfl
theorem RH.exn {G : SmG} {cap t k w : Nat} {C : String} {T : u_T} {s : State} {S : SmS} {I : SmI} {H H1 : Heap} {ce : Cell} (hr : RH G cap s S I H) (hK : KK G s) (h1 : k + 1 ≤ sC S) (ht : 1 ≤ t ∧ t < 50) (hcl : smCl[t]? = some (C, T, 0)) (hsz : H1.size = H.size + (k + 1)) (hq : ∀ q, q < H.size → H1[q]? = H[q]?) (hat : H1[H.size + k]? = some ce) (hv : ce.vm = .none) (hc : s.vm.findClass C = some ce.cls) : RH G cap s (sXn S t k w) I H1 := by
  obtain ⟨g1, g2, g3, g4, g5, g6, g7, g8, g9⟩ := hr
  have hzF : sZ S + k < smF := by omega
  refine ⟨by rw [hsz, sZ_sXn]; omega, by rw [sZ_sXn, sC_sXn]; omega, g3, fun v hv9 hz => ?_, fun v h9 hF => ?_, fun v hF => ?_, g7, g8, fun q => ?_⟩
  · rw [sZ_sXn] at hz
    by_cases hvz : v = sZ S + k
    · subst hvz
      refine ⟨by rw [sT_sXn, if_pos rfl]; exact Or.inl ⟨ht.1, by omega⟩, ?_⟩
      unfold sAt
      rw [sT_sXn, if_pos rfl, if_neg (by omega)]
      unfold sE smE
      rw [sT_sXn, if_pos rfl, if_pos (by omega)]
      have e9 := (hK.k.1 _ _ hcl).2.1
      exact ⟨_, hcl, ce, by rw [show gB G + (sZ S + k) = H.size + k by omega]; exact hat, Option.some.inj (hc.symm.trans e9), hv, fun j hj => absurd hj (Nat.not_lt_zero _)⟩
    · rw [sT_sXn, if_neg hvz] at hv9 ⊢
      have hzz : v < sZ S := by
        rcases Nat.lt_or_ge v (sZ S) with h | h
        · exact h
        · exact absurd (g5 v h (by omega)) hv9
      obtain ⟨q1, q2⟩ := g4 v hv9 hzz
      exact ⟨q1, q2.kept (by rw [sT_sXn, if_neg hvz]) rfl rfl rfl (hq _ (by omega))⟩
  · rw [sZ_sXn] at h9
    rw [sT_sXn, if_neg (by omega)]
    exact g5 v (by omega) hF
  · rw [sT_sXn, if_neg (by omega)]
    exact g6 v hF
  · rw [sT_sXn, if_neg (by omega)] at q
    obtain ⟨x1, x2⟩ := g9 q
    exact ⟨x1.kept (hq _ (by omega)), x2⟩
def THR (M : SmM) (pc d : Nat) (Rq : SmQ) (l : SmL) (t : Nat) (S : SmS) (I : SmI) : Prop := chk (3 ≤ sC S ∧ 1010 ≤ sB S) ∧ EX M pc d Rq l (sZ S + 2) (sXn S t 2 1010) I
def THN (M : SmM) (pc d : Nat) (Rq : SmQ) (l : SmL) (S : SmS) (I : SmI) : Prop := chk (1 ≤ sC S ∧ 8 ≤ sB S) ∧ EX M pc d Rq l (sZ S) (sXn S 18 0 8) I
theorem KK.sent {G : SmG} {U : State} (h : KK G U) : vx_Zq Bundle.tN "UNASSIGNED_STACK" Bundle.steD (gA G) U U.heap ∧ vx_Zq Bundle.tN "SUPPRESSED_SENTINEL" Bundle.listD (gA G) U U.heap := by
  obtain ⟨s0, b, h1, h2, h3, h4, h5, h5', h6, h7, h8, h9, -⟩ := h
  obtain ⟨a1, a2⟩ := h9.2.2.2.2.2.1
  exact ⟨(a1.moved h4.alike).kept fun q hq _ => h6 q (by rw [h5]; exact hq), (a2.moved h4.alike).kept fun q hq _ => h6 q (by rw [h5]; exact hq)⟩
theorem KK.noTr {G : SmG} {U : State} (h : KK G U) : (gL G).stackTraces = false := by
  obtain ⟨s0, b, h1, h2, h3, h4, h5, h5', h6, h7, h8, h9, -⟩ := h
  unfold Launch.stackTraces
  rw [h8]
  decide +kernel
section XT
variable {M : SmM} {pc d : Nat} {Rq : SmQ}
theorem sm_note {G : SmG} {p : Program} {e : Env} {R : Room} {s : State} {m : MethodId} {args : Array Value} {below : List Frame} {meth : Method} {c : Code} {cap : Nat} {H : Heap} {locs : List Loc} {cells slots : Nat} {FQ : State → Prop} {ls : Array Slot} {l : SmL} {r : List SmV} {S : SmS} {I : SmI} {t : Nat} {cls text : String} {names : List String} {T : u_T}
    (hf : FX G M d p R s m args meth c) (hr : RH G cap s S I H) (hl : LcS G (mL M) l ls) (hs : va_S (gA G) s.heap H locs) (hc : cells + sC S ≤ R.cells) (hb9 : slots + sB S ≤ R.slots) (hq : RT G M Rq p e R s m args below meth c cap FQ)
    (ht : 1 ≤ t ∧ t < 22) (hcl : smCl[t]? = some (cls, T, 0)) (hcls : Bundle.fit cls = true) (hnames : ∀ n ∈ names, Bundle.fit n = true) (hn3 : names.length ≤ 3) (hsoe : (cls == "java/lang/StackOverflowError") = false) (hoom : (cls == "java/lang/OutOfMemoryError") = false)
    (hat : ∀ w ∈ vx_atM cls names, w.before args s = true) (hgood : ∀ w ∈ vx_atM cls names, vx_ot w = true) (htext : (text == notModelled) = false) (hnb : (stringBytes (stringToUtf16 text)).size ≤ 1000) (hws : wsum r ≤ 8) (h : THR M pc d Rq l t S I) :
    vx_Note p (gL G) e R s m args below meth c H locs cells slots FQ (F0 m pc ls (r.map (rV G))) cls text := by
  have hf0 := hf
  obtain ⟨hx, hb, hret, hml, hlocks, hname, hown, hts, htab, hKK, hfr, hlo⟩ := hf0
  obtain ⟨⟨h1, h2⟩, h3⟩ := h
  refine vx_vm (A := gA G) (nb := 1000) hx hKK.noTr hcls hnames hsoe hoom hat hgood hKK.sent.1 hKK.sent.2 hs (by rw [hml]; exact hl.1) htext hnb (Nat.le_refl _) (by omega) (by rw [wsum_r]; omega) (by omega) (by omega) (by omega) hlocks fun H1 q9 ce e1 e2 e3 e4 e5 e6 e7 e8 => ?_
  subst e1
  have hz : H.size + 2 = gB G + (sZ S + 2) := by rw [hr.1]; omega
  have hr' := hr.exn (t := t) (k := 2) (w := 1010) hKK (by omega) ⟨ht.1, by omega⟩ hcl e2 e4 e6 e7 e8
  have hx9 := h3 G p e R s m args below meth c cap H1 locs (cells + 3) (slots + (1000 + 10)) FQ ls (r.map (rV G)) hf hr' hl e5 (by rw [sC_sXn]; omega) (by rw [sB_sXn]; omega) hq ⟨by rw [sT_sXn, if_pos rfl]; exact ht.1, by rw [sT_sXn, if_pos rfl]; exact ht.2, by rw [sZ_sXn]; omega⟩
  rw [← hz] at hx9
  exact hx9
theorem sm_noteN {G : SmG} {p : Program} {e : Env} {R : Room} {s : State} {m : MethodId} {args : Array Value} {below : List Frame} {meth : Method} {c : Code} {cap : Nat} {H : Heap} {locs : List Loc} {cells slots : Nat} {FQ : State → Prop} {ls : Array Slot} {l : SmL} {r : List SmV} {S : SmS} {I : SmI}
    (hf : FX G M d p R s m args meth c) (hr : RH G cap s S I H) (hl : LcS G (mL M) l ls) (hs : va_S (gA G) s.heap H locs) (hc : cells + sC S ≤ R.cells) (hb9 : slots + sB S ≤ R.slots) (hq : RT G M Rq p e R s m args below meth c cap FQ) (hws : wsum r ≤ 8) (h : THN M pc d Rq l S I) :
    vx_NoteN p (gL G) e R s m args below meth c H locs cells slots FQ (F0 m pc ls (r.map (rV G))) := by
  have hf0 := hf
  obtain ⟨hx, hb, hret, hml, hlocks, hname, hown, hts, htab, hKK, hfr, hlo⟩ := hf0
  obtain ⟨⟨h1, h2⟩, h3⟩ := h
  refine vx_npe (A := gA G) (nb := 8) hx hKK.noTr (at_npe hts hKK) ag_npe hKK.sent.1 hKK.sent.2 hs (by rw [hml]; exact hl.1) (by omega) (by rw [wsum_r]; omega) (by omega) (by omega) hlocks fun H1 q9 ce e1 e2 e3 e4 e5 e6 e7 e8 => ?_
  subst e1
  have hz : H.size = gB G + sZ S := hr.1
  have hr' := hr.exn (t := 18) (k := 0) (w := 8) (C := RJ15) (T := TJ15) hKK (by omega) ⟨by omega, by omega⟩ rfl e2 e4 e6 e7 e8
  have hx9 := h3 G p e R s m args below meth c cap H1 locs (cells + 1) (slots + 8) FQ ls (r.map (rV G)) hf hr' hl e5 (by rw [sC_sXn]; omega) (by rw [sB_sXn]; omega) hq ⟨by rw [sT_sXn, if_pos (by omega)]; omega, by rw [sT_sXn, if_pos (by omega)]; omega, by rw [sZ_sXn]; omega⟩
  rw [← hz] at hx9
  exact hx9
end XT
