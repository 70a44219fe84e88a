/-! ===== a cast of an array that fails ===== -/
set_option maxRecDepth 100000
/-- a class of an array of a primitive type, as messages speak of it -/
def pArr (k : Class) (n : String) : Prop := k.name = n ∧ k.hidden = none ∧ k.loader = none ∧ k.ofPrimitives = true
theorem pArr_of {vm : Vm} {n : String} {c : ClassId} {k : Class} {comp : ClassId} {ty : FieldType} (h : vm.findClass n = some c) (hk : vm.classes[c]? = some k) (hkind : k.kind = .array comp ty) (hn : (withoutBrackets n).length = 1) : pArr k n := by
  obtain ⟨hlt, hp, -⟩ := Array.findIdx?_eq_some_iff_getElem.mp h
  have hk' : vm.classes[c] = k := Option.some.inj ((Array.getElem?_eq_getElem hlt).symm.trans hk)
  rw [hk'] at hp
  simp only [Bool.and_eq_true, beq_iff_eq, Option.isNone_iff_eq_none] at hp
  refine ⟨hp.1.1.1, hp.1.1.2, hp.2, ?_⟩
  unfold Class.ofPrimitives
  rw [hkind, hp.1.1.1]
  simp [hn]
theorem pArr.same {k k' : Class} {n : String} (h : pArr k n) (h1 : k'.name = k.name) (h2 : k'.hidden = k.hidden) (h3 : k'.loader = k.loader) (h4 : k'.kind = k.kind) : pArr k' n := by
  obtain ⟨a, b, c, d⟩ := h
  refine ⟨h1.trans a, h2.trans b, h3.trans c, ?_⟩
  unfold Class.ofPrimitives at d ⊢
  rw [h4, h1]
  exact d
def castTx (n m h : String) : String := "class " ++ dotted n ++ " cannot be cast to class " ++ dotted m ++ " (" ++ (dotted n ++ " and " ++ dotted m ++ " are in " ++ (h ++ " of loader " ++ "'bootstrap'")) ++ ")"
theorem pArr_text {vm : Vm} {k k' : Class} {n m : String} (h : pArr k n) (h' : pArr k' m) : checkcast.message vm k k' = castTx n m ("module " ++ "java.base") ∨ checkcast.message vm k k' = castTx n m "unnamed module" := by
  obtain ⟨a, b, c, d⟩ := h
  obtain ⟨a', b', c', d'⟩ := h'
  have e1 : k.shown = dotted n := by unfold Class.shown; rw [b, a]
  have e2 : k'.shown = dotted m := by unfold Class.shown; rw [b', a']
  have m1 : vm.moduleOf k = vm.modules.find? (·.name == "java.base") := by unfold Vm.moduleOf; rw [if_pos d]
  have m2 : vm.moduleOf k' = vm.modules.find? (·.name == "java.base") := by unfold Vm.moduleOf; rw [if_pos d']
  have l1 : vm.loaderName k.loader = "'bootstrap'" := by rw [c]; rfl
  unfold checkcast.message Vm.homes
  have sm : vm.sameModule k k' = true := by
    unfold Vm.sameModule
    rw [m1, m2]
    cases vm.modules.find? (·.name == "java.base") with
    | none => simp [c, c']
    | some x => simp
  rw [if_pos sm, e1, e2]
  unfold Vm.home
  rw [m1, l1]
  cases hx : vm.modules.find? (·.name == "java.base") with
  | none => right; rfl
  | some x =>
    left
    have hnm : x.name = "java.base" := by
      have := List.find?_some (p := fun m : ModuleInfo => m.name == "java.base") (l := vm.modules) hx
      simpa using this
    simp only [hnm]
    rfl
def castOk (t : String) : Bool := decide ((t == notModelled) = false) && decide (t.toList.length ≤ 250)
theorem castOk_of {t : String} (h : castOk t = true) : (t == notModelled) = false ∧ (stringBytes (stringToUtf16 t)).size ≤ 1000 := by
  unfold castOk at h
  rw [Bool.and_eq_true, decide_eq_true_eq, decide_eq_true_eq] at h
  have b1 := stringBytes_size_le (stringToUtf16 t)
  have b2 := utf16_size_le t
  exact ⟨h.1, by omega⟩
theorem castOk_all : ∀ n ∈ ["[B", "[S", "[I"], ∀ m ∈ ["[B", "[S", "[I"], castOk (castTx n m ("module " ++ "java.base")) = true ∧ castOk (castTx n m "unnamed module") = true := by decide +kernel
section XY
variable {p : Program} {l : Launch} {e : Env} {R : Room} {s : State} {m : MethodId} {args : Array Value} {below : List Frame} {meth : Method} {c : Code} {H : Heap} {locs : List Loc} {cells slots : Nat} {Q : State → Prop}
theorem sm_castNo {cc : ByteArray} {pc : Nat} {ls : Array Slot} {rest : List Value} {a : Nat} (hexec : p.tables.exec = Jvm.exec) (hb : c.code = cc) {own nm C : String} {index : Nat} (hown : s.vm.findClass own = some m.cls) (hlink : (Cond.classLink own index nm).before args s = true) (hc : va_Nc C nm s)
    {cell : Cell} {k1 k2 : Class} {cT : ClassId} (h1 : H[a]? = some cell) (h2 : cell.vm.isStatics = false) (h3 : s.vm.findClass C = some cell.cls) (hk1 : s.vm.classes[cell.cls]? = some k1) (p1 : pArr k1 C) (hcT : s.vm.findClass nm = some cT) (hk2 : s.vm.classes[cT]? = some k2) (p2 : pArr k2 nm) (hdg : decode cc pc = .ok (.checkcast index, 3))
    (hn : C ∈ ["[B", "[S", "[I"]) (hm : nm ∈ ["[B", "[S", "[I"])
    (k : ∀ tx : String, castOk tx = true → vx_Note p l e R s m args below meth c H locs cells slots Q (F0 m pc ls (.ref a :: rest)) "java/lang/ClassCastException" tx) : W p l e R s m args below meth c H locs cells slots Q (F0 m pc ls (.ref a :: rest)) := by
  intro T hT X
  have hpl : e.platform.magicAccessors = ({} : Platform).magicAccessors := by rw [X.admits.platform]
  obtain ⟨c0, t0, f1, f2, f3⟩ := hc
  cases h3.symm.trans f1
  cases hcT.symm.trans f2
  obtain ⟨c', hc', hcl⟩ := Cond.classLink_spec hown hlink e.platform hpl
  cases hcT.symm.trans hc'
  obtain ⟨dk, _, _, kt, hd, _, _, _, _, hkt, _, hopen⟩ := hcl.here
  cases hk2.symm.trans hkt
  have hcl₀ := X.warmed.classLinks hcl
  have hW' : s.WarmedH (T.vm.noted m.cls index (.cls cT)) := X.warmed.noted hd hopen (State.rightAt_cls hcl)
  obtain ⟨ks', hks', es⟩ := hW'.alike.2.2 _ _ hk1
  obtain ⟨kt', hkt', et⟩ := hW'.alike.2.2 _ _ hk2
  have X' := X.noted hW'
  have q1 : pArr ks' C := p1.same (by rw [es]) (by rw [es]) (by rw [es]) (by rw [es])
  have q2 : pArr kt' nm := p2.same (by rw [et]) (by rw [et]) (by rw [et]) (by rw [et])
  have hok : castOk (checkcast.message (T.vm.noted m.cls index (Resolved.cls cT)) ks' kt') = true := by
    obtain ⟨z1, z2⟩ := castOk_all _ hn _ hm
    rcases pArr_text (vm := T.vm.noted m.cls index (Resolved.cls cT)) q1 q2 with z | z
    · rw [z]; exact z1
    · rw [z]; exact z2
  obtain ⟨t, st, q⟩ := k _ hok (T.setVm (T.vm.noted m.cls index (.cls cT))) hT X'
  refine ⟨t, ?_, q⟩
  have hm' : (F0 m pc ls (.ref a :: rest)).method = m := rfl
  have hdg' : decode c.code (F0 m pc ls (.ref a :: rest)).pc = .ok (.checkcast index, 3) := by rw [hb]; exact hdg
  have hstack : (F0 m pc ls (.ref a :: rest)).stack = .ref a :: rest := rfl
  generalize F0 m pc ls (.ref a :: rest) = g at hm' hdg' hstack st
  subst hm'
  jvm_step X.here [hexec, hdg', checkcast.wp_cold (e := e) (s := T) (f := g) X.here.top hstack (resolveClass_links e.toSetting hcl₀) hcl₀.ready,
    checkcast.wp_ready (e := e) (s := T.setVm (T.vm.noted g.method.cls index (.cls cT))) (f := g) X.here.top hcl₀.ready hstack]
  refine ⟨cell, by rw [hT]; exact h1, VmData.noStatics_of h2, ks', hks', kt', hkt', ?_⟩
  have h9 : (T.vm.noted g.method.cls index (Resolved.cls cT)).assignable cell.cls cT = false := by rw [hW'.alike.assignable]; exact f3
  rw [if_neg (by rw [h9]; decide)]
  exact st
end XY
