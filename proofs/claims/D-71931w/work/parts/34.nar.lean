/-! ===== what the narrow premises say, leaf by leaf ===== -/
set_option maxRecDepth 100000
def cLv : Cond → List Cond
  | .and a b => cLv a ++ cLv b
  | c => [c]
theorem cLv_all {args : Array Value} {s : State} : ∀ (c : Cond), c.before args s = true → ∀ w ∈ cLv c, w.before args s = true := by
  intro c
  induction c with
  | and a b iha ihb =>
    intro h w hw
    rw [Cond.before_and, Bool.and_eq_true] at h
    rcases List.mem_append.mp (show w ∈ cLv a ++ cLv b from hw) with q | q
    · exact iha h.1 w q
    · exact ihb h.2 w q
  | _ =>
    intro h w hw
    cases List.mem_singleton.mp hw
    exact h
theorem KK.nc {G : SmG} {U : State} {C T : String} (h : KK G U) (hw : Cond.not (.castable C T) ∈ cLv narrow_1) : va_Nc C T U := by
  obtain ⟨s0, b, h1, h2, h3, h4, -⟩ := h
  rw [Cond.before_and, Bool.and_eq_true] at h2
  exact (va_Nc.of (cLv_all _ h2.2 _ hw)).moved h4.alike
theorem nc_IB : Cond.not (.castable "[I" "[B") ∈ cLv narrow_1 := List.mem_of_getElem? (i := 364) rfl
theorem nc_SB : Cond.not (.castable "[S" "[B") ∈ cLv narrow_1 := List.mem_of_getElem? (i := 369) rfl
theorem nc_BS : Cond.not (.castable "[B" "[S") ∈ cLv narrow_1 := List.mem_of_getElem? (i := 398) rfl
theorem nc_IS : Cond.not (.castable "[I" "[S") ∈ cLv narrow_1 := List.mem_of_getElem? (i := 399) rfl
theorem nc_BI : Cond.not (.castable "[B" "[I") ∈ cLv narrow_1 := List.mem_of_getElem? (i := 432) rfl
theorem nc_SI : Cond.not (.castable "[S" "[I") ∈ cLv narrow_1 := List.mem_of_getElem? (i := 437) rfl
