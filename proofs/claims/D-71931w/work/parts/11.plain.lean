/-! ===== the plain instructions: transformers (im_) and their laws (xv_) ===== -/
set_option maxRecDepth 100000
def lget : SmL → Nat → Option SmV
  | [], _ => none
  | x :: _, 0 => x
  | _ :: l, n + 1 => lget l n
theorem lget_0 (x : Option SmV) (l : SmL) : lget (x :: l) 0 = x := rfl
theorem lget_s (x : Option SmV) (l : SmL) (n : Nat) : lget (x :: l) (n + 1) = lget l n := rfl
theorem lget_get {l : SmL} {k : Nat} {v : SmV} (h : lget l k = some v) : l[k]? = some (some v) := by
  induction l generalizing k with
  | nil => cases h
  | cons x l ih =>
    cases k with
    | zero => rw [List.getElem?_cons_zero]; exact congrArg some h
    | succ k => rw [List.getElem?_cons_succ]; exact ih h
theorem get_lget {l : SmL} {k : Nat} {v : SmV} (h : l[k]? = some (some v)) : lget l k = some v := by
  induction l generalizing k with
  | nil => cases h
  | cons x l ih =>
    cases k with
    | zero => rw [List.getElem?_cons_zero] at h; exact Option.some.inj h
    | succ k => rw [List.getElem?_cons_succ] at h; exact ih h
/-- no long stands just ahead of place k -/
def nlAt : SmL → Nat → Prop
  | _, 0 => True
  | l, n + 1 => match lget l n with
    | some (.inr (.inl _)) => False
    | _ => True
def getI (l : SmL) (k : Nat) (f : Int → Prop) : Prop := match lget l k with
  | some (.inl z) => f z
  | _ => False
def getJ (l : SmL) (k : Nat) (f : Int → Prop) : Prop := match lget l k with
  | some (.inr (.inl z)) => f z
  | _ => False
def getR (l : SmL) (k : Nat) (f : Option Nat → Prop) : Prop := match lget l k with
  | some (.inr (.inr r)) => f r
  | _ => False
theorem getI_ex {l : SmL} {k : Nat} {f : Int → Prop} (h : getI l k f) : ∃ z, l[k]? = some (some (vI z)) ∧ f z := by
  unfold getI at h
  split at h
  · rename_i z e; exact ⟨z, lget_get e, h⟩
  · cases h
theorem getJ_ex {l : SmL} {k : Nat} {f : Int → Prop} (h : getJ l k f) : ∃ z, l[k]? = some (some (vJ z)) ∧ f z := by
  unfold getJ at h
  split at h
  · rename_i z e; exact ⟨z, lget_get e, h⟩
  · cases h
theorem getR_ex {l : SmL} {k : Nat} {f : Option Nat → Prop} (h : getR l k f) : ∃ r, l[k]? = some (some (vR r)) ∧ f r := by
  unfold getR at h
  split at h
  · rename_i z e; exact ⟨z, lget_get e, h⟩
  · cases h
def popI : List SmV → (Int → List SmV → Prop) → Prop
  | .inl x0 :: r, f => f x0 r
  | _, _ => False
theorem popI_eq (x0 : Int) (r : List SmV) (f : Int → List SmV → Prop) : popI (vI x0 :: r) f = f x0 r := rfl
theorem popI_ex {st : List SmV} {f : Int → List SmV → Prop} (h : popI st f) : ∃ x0 r, st = vI x0 :: r ∧ f x0 r := by
  unfold popI at h
  split at h
  · exact ⟨_, _, rfl, h⟩
  · cases h
def popII : List SmV → (Int → Int → List SmV → Prop) → Prop
  | .inl x0 :: .inl x1 :: r, f => f x0 x1 r
  | _, _ => False
theorem popII_eq (x0 : Int) (x1 : Int) (r : List SmV) (f : Int → Int → List SmV → Prop) : popII (vI x0 :: vI x1 :: r) f = f x0 x1 r := rfl
theorem popII_ex {st : List SmV} {f : Int → Int → List SmV → Prop} (h : popII st f) : ∃ x0 x1 r, st = vI x0 :: vI x1 :: r ∧ f x0 x1 r := by
  unfold popII at h
  split at h
  · exact ⟨_, _, _, rfl, h⟩
  · cases h
def popJ : List SmV → (Int → List SmV → Prop) → Prop
  | .inr (.inl x0) :: r, f => f x0 r
  | _, _ => False
theorem popJ_eq (x0 : Int) (r : List SmV) (f : Int → List SmV → Prop) : popJ (vJ x0 :: r) f = f x0 r := rfl
theorem popJ_ex {st : List SmV} {f : Int → List SmV → Prop} (h : popJ st f) : ∃ x0 r, st = vJ x0 :: r ∧ f x0 r := by
  unfold popJ at h
  split at h
  · exact ⟨_, _, rfl, h⟩
  · cases h
def popJJ : List SmV → (Int → Int → List SmV → Prop) → Prop
  | .inr (.inl x0) :: .inr (.inl x1) :: r, f => f x0 x1 r
  | _, _ => False
theorem popJJ_eq (x0 : Int) (x1 : Int) (r : List SmV) (f : Int → Int → List SmV → Prop) : popJJ (vJ x0 :: vJ x1 :: r) f = f x0 x1 r := rfl
theorem popJJ_ex {st : List SmV} {f : Int → Int → List SmV → Prop} (h : popJJ st f) : ∃ x0 x1 r, st = vJ x0 :: vJ x1 :: r ∧ f x0 x1 r := by
  unfold popJJ at h
  split at h
  · exact ⟨_, _, _, rfl, h⟩
  · cases h
def popR : List SmV → (Option Nat → List SmV → Prop) → Prop
  | .inr (.inr x0) :: r, f => f x0 r
  | _, _ => False
theorem popR_eq (x0 : Option Nat) (r : List SmV) (f : Option Nat → List SmV → Prop) : popR (vR x0 :: r) f = f x0 r := rfl
theorem popR_ex {st : List SmV} {f : Option Nat → List SmV → Prop} (h : popR st f) : ∃ x0 r, st = vR x0 :: r ∧ f x0 r := by
  unfold popR at h
  split at h
  · exact ⟨_, _, rfl, h⟩
  · cases h
def popRR : List SmV → (Option Nat → Option Nat → List SmV → Prop) → Prop
  | .inr (.inr x0) :: .inr (.inr x1) :: r, f => f x0 x1 r
  | _, _ => False
theorem popRR_eq (x0 : Option Nat) (x1 : Option Nat) (r : List SmV) (f : Option Nat → Option Nat → List SmV → Prop) : popRR (vR x0 :: vR x1 :: r) f = f x0 x1 r := rfl
theorem popRR_ex {st : List SmV} {f : Option Nat → Option Nat → List SmV → Prop} (h : popRR st f) : ∃ x0 x1 r, st = vR x0 :: vR x1 :: r ∧ f x0 x1 r := by
  unfold popRR at h
  split at h
  · exact ⟨_, _, _, rfl, h⟩
  · cases h
def popIR : List SmV → (Int → Option Nat → List SmV → Prop) → Prop
  | .inl x0 :: .inr (.inr x1) :: r, f => f x0 x1 r
  | _, _ => False
theorem popIR_eq (x0 : Int) (x1 : Option Nat) (r : List SmV) (f : Int → Option Nat → List SmV → Prop) : popIR (vI x0 :: vR x1 :: r) f = f x0 x1 r := rfl
theorem popIR_ex {st : List SmV} {f : Int → Option Nat → List SmV → Prop} (h : popIR st f) : ∃ x0 x1 r, st = vI x0 :: vR x1 :: r ∧ f x0 x1 r := by
  unfold popIR at h
  split at h
  · exact ⟨_, _, _, rfl, h⟩
  · cases h
def popIIR : List SmV → (Int → Int → Option Nat → List SmV → Prop) → Prop
  | .inl x0 :: .inl x1 :: .inr (.inr x2) :: r, f => f x0 x1 x2 r
  | _, _ => False
theorem popIIR_eq (x0 : Int) (x1 : Int) (x2 : Option Nat) (r : List SmV) (f : Int → Int → Option Nat → List SmV → Prop) : popIIR (vI x0 :: vI x1 :: vR x2 :: r) f = f x0 x1 x2 r := rfl
theorem popIIR_ex {st : List SmV} {f : Int → Int → Option Nat → List SmV → Prop} (h : popIIR st f) : ∃ x0 x1 x2 r, st = vI x0 :: vI x1 :: vR x2 :: r ∧ f x0 x1 x2 r := by
  unfold popIIR at h
  split at h
  · exact ⟨_, _, _, _, rfl, h⟩
  · cases h
def popRIR : List SmV → (Option Nat → Int → Option Nat → List SmV → Prop) → Prop
  | .inr (.inr x0) :: .inl x1 :: .inr (.inr x2) :: r, f => f x0 x1 x2 r
  | _, _ => False
theorem popRIR_eq (x0 : Option Nat) (x1 : Int) (x2 : Option Nat) (r : List SmV) (f : Option Nat → Int → Option Nat → List SmV → Prop) : popRIR (vR x0 :: vI x1 :: vR x2 :: r) f = f x0 x1 x2 r := rfl
theorem popRIR_ex {st : List SmV} {f : Option Nat → Int → Option Nat → List SmV → Prop} (h : popRIR st f) : ∃ x0 x1 x2 r, st = vR x0 :: vI x1 :: vR x2 :: r ∧ f x0 x1 x2 r := by
  unfold popRIR at h
  split at h
  · exact ⟨_, _, _, _, rfl, h⟩
  · cases h
def popV : List SmV → (SmV → List SmV → Prop) → Prop
  | x0 :: r, f => f x0 r
  | _, _ => False
theorem popV_eq (x0 : SmV) (r : List SmV) (f : SmV → List SmV → Prop) : popV (x0 :: r) f = f x0 r := rfl
theorem popV_ex {st : List SmV} {f : SmV → List SmV → Prop} (h : popV st f) : ∃ x0 r, st = x0 :: r ∧ f x0 r := by
  unfold popV at h
  split at h
  · exact ⟨_, _, rfl, h⟩
  · cases h
def popVV : List SmV → (SmV → SmV → List SmV → Prop) → Prop
  | x0 :: x1 :: r, f => f x0 x1 r
  | _, _ => False
theorem popVV_eq (x0 : SmV) (x1 : SmV) (r : List SmV) (f : SmV → SmV → List SmV → Prop) : popVV (x0 :: x1 :: r) f = f x0 x1 r := rfl
theorem popVV_ex {st : List SmV} {f : SmV → SmV → List SmV → Prop} (h : popVV st f) : ∃ x0 x1 r, st = x0 :: x1 :: r ∧ f x0 x1 r := by
  unfold popVV at h
  split at h
  · exact ⟨_, _, _, rfl, h⟩
  · cases h
def popVR : List SmV → (SmV → Option Nat → List SmV → Prop) → Prop
  | x0 :: .inr (.inr x1) :: r, f => f x0 x1 r
  | _, _ => False
theorem popVR_eq (x0 : SmV) (x1 : Option Nat) (r : List SmV) (f : SmV → Option Nat → List SmV → Prop) : popVR (x0 :: vR x1 :: r) f = f x0 x1 r := rfl
theorem popVR_ex {st : List SmV} {f : SmV → Option Nat → List SmV → Prop} (h : popVR st f) : ∃ x0 x1 r, st = x0 :: vR x1 :: r ∧ f x0 x1 r := by
  unfold popVR at h
  split at h
  · exact ⟨_, _, _, rfl, h⟩
  · cases h
abbrev SmW (M : SmM) (pc d : Nat) (Rq : SmQ) (K : SmK) : Prop := ∀ l st S I, K l st S I → SW M pc d Rq l st S I
section XV
variable {M : SmM} {pc d : Nat} {Rq : SmQ} {K Kt Kf : SmK}
def im_ic (z : Int) (l : SmL) (st : List SmV) (S : SmS) (I : SmI) (K : SmK) : Prop := K l (vI z :: st) S I
def im_lc (z : Int) (l : SmL) (st : List SmV) (S : SmS) (I : SmI) (K : SmK) : Prop := K l (vJ z :: st) S I
def im_nul (l : SmL) (st : List SmV) (S : SmS) (I : SmI) (K : SmK) : Prop := K l (vR none :: st) S I
theorem xv_nul (hd : decode (mC M) pc = .ok (.aconst_null, 1)) (hk : SmW M (pc + 1) d Rq K) : SmW M pc d Rq (fun l st S I => im_nul l st S I K) := by
  intro l st S I h
  refine SW_pure ?_ (hk _ _ _ _ h)
  intro G p e R s m args below meth c H locs cells slots FQ ls hf hl hv hI
  obtain ⟨hx, hb, hf⟩ := hf
  exact ⟨fun v hv' => (List.mem_cons.mp hv').elim (fun e => by rw [e]; exact trivial) (fun e => hv v e), fun k => lv_null hx hb hd (k ls hl)⟩
theorem xv_iconst {n z : Int} (hd : decode (mC M) pc = .ok (.iconst n, 1)) (hz : Int32.ofInt n = rI z) (hr : inR z) (hk : SmW M (pc + 1) d Rq K) : SmW M pc d Rq (fun l st S I => im_ic z l st S I K) := by
  intro l st S I h
  refine SW_pure ?_ (hk _ _ _ _ h)
  intro G p e R s m args below meth c H locs cells slots FQ ls hf hl hv hI
  obtain ⟨hx, hb, hf⟩ := hf
  exact ⟨fun v hv' => (List.mem_cons.mp hv').elim (fun e => by rw [e]; exact hr) (fun e => hv v e), fun k => lv_iconst hx hb hd hz (k ls hl)⟩
theorem xv_bipush {n z : Int} (hd : decode (mC M) pc = .ok (.bipush n, 2)) (hz : (Int8.ofInt n).toInt32 = rI z) (hr : inR z) (hk : SmW M (pc + 2) d Rq K) : SmW M pc d Rq (fun l st S I => im_ic z l st S I K) := by
  intro l st S I h
  refine SW_pure ?_ (hk _ _ _ _ h)
  intro G p e R s m args below meth c H locs cells slots FQ ls hf hl hv hI
  obtain ⟨hx, hb, hf⟩ := hf
  exact ⟨fun v hv' => (List.mem_cons.mp hv').elim (fun e => by rw [e]; exact hr) (fun e => hv v e), fun k => lv_bipush hx hb hd hz (k ls hl)⟩
theorem xv_sipush {n z : Int} (hd : decode (mC M) pc = .ok (.sipush n, 3)) (hz : (Int16.ofInt n).toInt32 = rI z) (hr : inR z) (hk : SmW M (pc + 3) d Rq K) : SmW M pc d Rq (fun l st S I => im_ic z l st S I K) := by
  intro l st S I h
  refine SW_pure ?_ (hk _ _ _ _ h)
  intro G p e R s m args below meth c H locs cells slots FQ ls hf hl hv hI
  obtain ⟨hx, hb, hf⟩ := hf
  exact ⟨fun v hv' => (List.mem_cons.mp hv').elim (fun e => by rw [e]; exact hr) (fun e => hv v e), fun k => lv_sipush hx hb hd hz (k ls hl)⟩
theorem xv_ldc {idx : Nat} {w : Int32} {z : Int} (hd : decode (mC M) pc = .ok (.ldc idx, 2)) (hw : Cond.constant (mN M).cls idx w ∈ lw_all) (hz : w = rI z) (hr : inR z) (hk : SmW M (pc + 2) d Rq K) : SmW M pc d Rq (fun l st S I => im_ic z l st S I K) := by
  intro l st S I h
  refine SW_pure ?_ (hk _ _ _ _ h)
  intro G p e R s m args below meth c H locs cells slots FQ ls hf hl hv hI
  obtain ⟨hx, hb, -, -, -, -, hown, hts, -⟩ := hf
  subst hz
  exact ⟨fun v hv' => (List.mem_cons.mp hv').elim (fun e => by rw [e]; exact hr) (fun e => hv v e), fun k => lv_ldc hx hb hown (hts _ hw) hd (k ls hl)⟩
theorem xv_ldcw {idx : Nat} {w : Int32} {z : Int} (hd : decode (mC M) pc = .ok (.ldc_w idx, 3)) (hw : Cond.constant (mN M).cls idx w ∈ lw_all) (hz : w = rI z) (hr : inR z) (hk : SmW M (pc + 3) d Rq K) : SmW M pc d Rq (fun l st S I => im_ic z l st S I K) := by
  intro l st S I h
  refine SW_pure ?_ (hk _ _ _ _ h)
  intro G p e R s m args below meth c H locs cells slots FQ ls hf hl hv hI
  obtain ⟨hx, hb, -, -, -, -, hown, hts, -⟩ := hf
  subst hz
  exact ⟨fun v hv' => (List.mem_cons.mp hv').elim (fun e => by rw [e]; exact hr) (fun e => hv v e), fun k => lv_ldcw hx hb hown (hts _ hw) hd (k ls hl)⟩
theorem xv_ldc2 {idx : Nat} {w : Int64} {z : Int} (hd : decode (mC M) pc = .ok (.ldc2_w idx, 3)) (hw : Cond.constantLong (mN M).cls idx w ∈ lw_all) (hz : w = rJ z) (hr : inR64 z) (hk : SmW M (pc + 3) d Rq K) : SmW M pc d Rq (fun l st S I => im_lc z l st S I K) := by
  intro l st S I h
  refine SW_pure ?_ (hk _ _ _ _ h)
  intro G p e R s m args below meth c H locs cells slots FQ ls hf hl hv hI
  obtain ⟨hx, hb, -, -, -, -, hown, hts, -⟩ := hf
  subst hz
  exact ⟨fun v hv' => (List.mem_cons.mp hv').elim (fun e => by rw [e]; exact hr) (fun e => hv v e), fun k => lv_ldc2 hx hb hown (hts _ hw) hd (k ls hl)⟩
theorem xv_lconst {n : Fin 2} {z : Int} (hd : decode (mC M) pc = .ok (.lconst n, 1)) (hz : Int64.ofNat (n : Nat) = rJ z) (hr : inR64 z) (hk : SmW M (pc + 1) d Rq K) : SmW M pc d Rq (fun l st S I => im_lc z l st S I K) := by
  intro l st S I h
  refine SW_pure ?_ (hk _ _ _ _ h)
  intro G p e R s m args below meth c H locs cells slots FQ ls hf hl hv hI
  obtain ⟨hx, hb, hf⟩ := hf
  exact ⟨fun v hv' => (List.mem_cons.mp hv').elim (fun e => by rw [e]; exact hr) (fun e => hv v e), fun k => lv_lconst hx hb hd hz (k ls hl)⟩
def im_iload (k : Nat) (l : SmL) (st : List SmV) (S : SmS) (I : SmI) (K : SmK) : Prop := getI l k fun z => K l (vI z :: st) S I
def im_lload (k : Nat) (l : SmL) (st : List SmV) (S : SmS) (I : SmI) (K : SmK) : Prop := getJ l k fun z => K l (vJ z :: st) S I
def im_aload (k : Nat) (l : SmL) (st : List SmV) (S : SmS) (I : SmI) (K : SmK) : Prop := getR l k fun z => K l (vR z :: st) S I
theorem xv_iload_n {n : Fin 4} {k : Nat} (hd : decode (mC M) pc = .ok (.iload_n n, 1)) (hn : (n : Nat) = k) (hk : SmW M (pc + 1) d Rq K) : SmW M pc d Rq (fun l st S I => im_iload k l st S I K) := by
  intro l st S I h
  obtain ⟨z, hz, h⟩ := getI_ex h
  refine SW_pure ?_ (hk _ _ _ _ h)
  intro G p e R s m args below meth c H locs cells slots FQ ls hf hl hv hI
  obtain ⟨hx, hb, hf⟩ := hf
  obtain ⟨h1, h2⟩ := hl.2.2.2 k _ hz
  exact ⟨fun v hv' => (List.mem_cons.mp hv').elim (fun e => by rw [e]; exact h2) (fun e => hv v e), fun q => lv_iload_n hx hb hd hn h1 (q ls hl)⟩
theorem xv_iload {k : Nat} (hd : decode (mC M) pc = .ok (.iload k, 2)) (hk : SmW M (pc + 2) d Rq K) : SmW M pc d Rq (fun l st S I => im_iload k l st S I K) := by
  intro l st S I h
  obtain ⟨z, hz, h⟩ := getI_ex h
  refine SW_pure ?_ (hk _ _ _ _ h)
  intro G p e R s m args below meth c H locs cells slots FQ ls hf hl hv hI
  obtain ⟨hx, hb, hf⟩ := hf
  obtain ⟨h1, h2⟩ := hl.2.2.2 k _ hz
  exact ⟨fun v hv' => (List.mem_cons.mp hv').elim (fun e => by rw [e]; exact h2) (fun e => hv v e), fun q => lv_iload hx hb hd h1 (q ls hl)⟩
theorem xv_lload_n {n : Fin 4} {k : Nat} (hd : decode (mC M) pc = .ok (.lload_n n, 1)) (hn : (n : Nat) = k) (hk : SmW M (pc + 1) d Rq K) : SmW M pc d Rq (fun l st S I => im_lload k l st S I K) := by
  intro l st S I h
  obtain ⟨z, hz, h⟩ := getJ_ex h
  refine SW_pure ?_ (hk _ _ _ _ h)
  intro G p e R s m args below meth c H locs cells slots FQ ls hf hl hv hI
  obtain ⟨hx, hb, hf⟩ := hf
  obtain ⟨h1, h2⟩ := hl.2.2.2 k _ hz
  exact ⟨fun v hv' => (List.mem_cons.mp hv').elim (fun e => by rw [e]; exact h2) (fun e => hv v e), fun q => lv_lload_n hx hb hd hn h1 (q ls hl)⟩
theorem xv_lload {k : Nat} (hd : decode (mC M) pc = .ok (.lload k, 2)) (hk : SmW M (pc + 2) d Rq K) : SmW M pc d Rq (fun l st S I => im_lload k l st S I K) := by
  intro l st S I h
  obtain ⟨z, hz, h⟩ := getJ_ex h
  refine SW_pure ?_ (hk _ _ _ _ h)
  intro G p e R s m args below meth c H locs cells slots FQ ls hf hl hv hI
  obtain ⟨hx, hb, hf⟩ := hf
  obtain ⟨h1, h2⟩ := hl.2.2.2 k _ hz
  exact ⟨fun v hv' => (List.mem_cons.mp hv').elim (fun e => by rw [e]; exact h2) (fun e => hv v e), fun q => lv_lload hx hb hd h1 (q ls hl)⟩
theorem xv_aload_n {n : Fin 4} {k : Nat} (hd : decode (mC M) pc = .ok (.aload_n n, 1)) (hn : (n : Nat) = k) (hk : SmW M (pc + 1) d Rq K) : SmW M pc d Rq (fun l st S I => im_aload k l st S I K) := by
  intro l st S I h
  obtain ⟨z, hz, h⟩ := getR_ex h
  refine SW_pure ?_ (hk _ _ _ _ h)
  intro G p e R s m args below meth c H locs cells slots FQ ls hf hl hv hI
  obtain ⟨hx, hb, hf⟩ := hf
  obtain ⟨h1, h2⟩ := hl.2.2.2 k _ hz
  refine ⟨fun v hv' => (List.mem_cons.mp hv').elim (fun e => by rw [e]; exact trivial) (fun e => hv v e), fun q => ?_⟩
  cases z with
  | none => exact lv_aload_nN hx hb hd hn h1 (q ls hl)
  | some a => exact lv_aload_n hx hb hd hn h1 (q ls hl)
theorem xv_aload {k : Nat} (hd : decode (mC M) pc = .ok (.aload k, 2)) (hk : SmW M (pc + 2) d Rq K) : SmW M pc d Rq (fun l st S I => im_aload k l st S I K) := by
  intro l st S I h
  obtain ⟨z, hz, h⟩ := getR_ex h
  refine SW_pure ?_ (hk _ _ _ _ h)
  intro G p e R s m args below meth c H locs cells slots FQ ls hf hl hv hI
  obtain ⟨hx, hb, hf⟩ := hf
  obtain ⟨h1, h2⟩ := hl.2.2.2 k _ hz
  refine ⟨fun v hv' => (List.mem_cons.mp hv').elim (fun e => by rw [e]; exact trivial) (fun e => hv v e), fun q => ?_⟩
  cases z with
  | none => exact lv_aloadN hx hb hd h1 (q ls hl)
  | some a => exact lv_aload hx hb hd h1 (q ls hl)
/-- the listed values of locals -/
def lvl (G : SmG) (l : SmL) : List (Nat × Value) := (List.range l.length).filterMap fun i => match l[i]? with
  | some (some v) => some (i, rV G v)
  | _ => none
theorem lvl_mem {G : SmG} {l : SmL} {i : Nat} {w : Value} : (i, w) ∈ lvl G l ↔ ∃ v, l[i]? = some (some v) ∧ w = rV G v := by
  unfold lvl
  rw [List.mem_filterMap]
  constructor
  · rintro ⟨j, hj, h⟩
    split at h
    · rename_i v e
      cases h
      exact ⟨v, e, rfl⟩
    · cases h
  · rintro ⟨v, h, rfl⟩
    exact ⟨i, List.mem_range.mpr (List.getElem?_eq_some_iff.mp h).1, by rw [h]⟩
theorem lvl_has {G : SmG} {nL : Nat} {l : SmL} {ls : Array Slot} (h : LcS G nL l ls) : lv_has ls nL (lvl G l) := by
  refine ⟨h.1, h.2.1, fun q hq => ?_⟩
  obtain ⟨i, w⟩ := q
  obtain ⟨v, h1, rfl⟩ := lvl_mem.mp hq
  exact (h.2.2.2 i v h1).1
theorem rV_cat2 {G : SmG} {v : SmV} (h : (rV G v).category = 2) : ∃ z, v = vJ z := by
  match v, h with
  | .inl z, h => cases h
  | .inr (.inl z), _ => exact ⟨z, rfl⟩
  | .inr (.inr none), h => cases h
  | .inr (.inr (some a)), h => cases h
theorem lvl_store {G : SmG} {nL k : Nat} {l : SmL} {ls' : Array Slot} {v : SmV} (hlen : l.length = nL) (hok : ∀ (i : Nat) (v : SmV), l[i]? = some (some v) → okV v) (hnl : nlAt l k) (hk : k < nL) (hv : okV v) (h : lv_has ls' nL ((k, rV G v) :: (lvl G l).filter (fun q => !(q.1 == k) && !(q.1 + 1 == k && q.2.category == 2)))) : LcS G nL (l.set k (some v)) ls' := by
  refine ⟨h.1, h.2.1, by rw [List.length_set]; exact hlen, fun i w hw => ?_⟩
  by_cases hi : i = k
  · subst hi
    rw [List.getElem?_set_self (by omega)] at hw
    cases hw
    exact ⟨h.2.2 (i, rV G v) List.mem_cons_self, hv⟩
  · rw [List.getElem?_set_ne (Ne.symm hi)] at hw
    refine ⟨h.2.2 (i, rV G w) (List.mem_cons_of_mem _ (List.mem_filter.mpr ⟨lvl_mem.mpr ⟨w, hw, rfl⟩, ?_⟩)), hok i w hw⟩
    simp only [Bool.and_eq_true, Bool.not_eq_true', beq_eq_false_iff_ne, ne_eq, hi, not_false_eq_true, true_and, Bool.and_eq_false_iff]
    by_cases h1 : i + 1 = k
    · right
      intro h2
      obtain ⟨z, rfl⟩ := rV_cat2 h2
      subst h1
      have hnl' : (match lget l i with
        | some (.inr (.inl _)) => False
        | _ => True) := hnl
      rw [get_lget hw] at hnl'
      exact hnl'
    · exact Or.inl h1
def im_istore (k : Nat) (l : SmL) (st : List SmV) (S : SmS) (I : SmI) (K : SmK) : Prop := popI st fun z r => nlAt l k ∧ K (l.set k (some (vI z))) r S I
def im_astore (k : Nat) (l : SmL) (st : List SmV) (S : SmS) (I : SmI) (K : SmK) : Prop := popR st fun z r => nlAt l k ∧ K (l.set k (some (vR z))) r S I
theorem xv_istore_n {n : Fin 4} {k : Nat} (hd : decode (mC M) pc = .ok (.istore_n n, 1)) (hn : (n : Nat) = k) (hL : k < mL M) (hk : SmW M (pc + 1) d Rq K) : SmW M pc d Rq (fun l st S I => im_istore k l st S I K) := by
  intro l st S I h
  obtain ⟨z, r, rfl, hn9, h⟩ := popI_ex h
  refine SW_pure ?_ (hk _ _ _ _ h)
  intro G p e R s m args below meth c H locs cells slots FQ ls hf hl hv hI
  obtain ⟨hx, hb, hf⟩ := hf
  exact ⟨fun v hv' => hv v (List.mem_cons_of_mem _ hv'), fun q => lv_istore_n hx hb hd hn (lvl_has hl) hL rfl fun ls' hl' => q ls' (lvl_store hl.2.2.1 (fun i v h => (hl.2.2.2 i v h).2) hn9 hL (hv (vI z) List.mem_cons_self) hl')⟩
theorem xv_istore {k : Nat} (hd : decode (mC M) pc = .ok (.istore k, 2)) (hL : k < mL M) (hk : SmW M (pc + 2) d Rq K) : SmW M pc d Rq (fun l st S I => im_istore k l st S I K) := by
  intro l st S I h
  obtain ⟨z, r, rfl, hn9, h⟩ := popI_ex h
  refine SW_pure ?_ (hk _ _ _ _ h)
  intro G p e R s m args below meth c H locs cells slots FQ ls hf hl hv hI
  obtain ⟨hx, hb, hf⟩ := hf
  exact ⟨fun v hv' => hv v (List.mem_cons_of_mem _ hv'), fun q => lv_istore hx hb hd (lvl_has hl) hL rfl fun ls' hl' => q ls' (lvl_store hl.2.2.1 (fun i v h => (hl.2.2.2 i v h).2) hn9 hL (hv (vI z) List.mem_cons_self) hl')⟩
theorem xv_astore_n {n : Fin 4} {k : Nat} (hd : decode (mC M) pc = .ok (.astore_n n, 1)) (hn : (n : Nat) = k) (hL : k < mL M) (hk : SmW M (pc + 1) d Rq K) : SmW M pc d Rq (fun l st S I => im_astore k l st S I K) := by
  intro l st S I h
  obtain ⟨z, r, rfl, hn9, h⟩ := popR_ex h
  refine SW_pure ?_ (hk _ _ _ _ h)
  intro G p e R s m args below meth c H locs cells slots FQ ls hf hl hv hI
  obtain ⟨hx, hb, hf⟩ := hf
  refine ⟨fun v hv' => hv v (List.mem_cons_of_mem _ hv'), fun q => ?_⟩
  cases z with
  | none => exact lv_astore_nN hx hb hd hn (lvl_has hl) hL rfl fun ls' hl' => q ls' (lvl_store (v := vR none) hl.2.2.1 (fun i v h => (hl.2.2.2 i v h).2) hn9 hL trivial hl')
  | some a => exact lv_astore_n hx hb hd hn (lvl_has hl) hL rfl fun ls' hl' => q ls' (lvl_store (v := vR (some a)) hl.2.2.1 (fun i v h => (hl.2.2.2 i v h).2) hn9 hL trivial hl')
theorem xv_astore {k : Nat} (hd : decode (mC M) pc = .ok (.astore k, 2)) (hL : k < mL M) (hk : SmW M (pc + 2) d Rq K) : SmW M pc d Rq (fun l st S I => im_astore k l st S I K) := by
  intro l st S I h
  obtain ⟨z, r, rfl, hn9, h⟩ := popR_ex h
  refine SW_pure ?_ (hk _ _ _ _ h)
  intro G p e R s m args below meth c H locs cells slots FQ ls hf hl hv hI
  obtain ⟨hx, hb, hf⟩ := hf
  refine ⟨fun v hv' => hv v (List.mem_cons_of_mem _ hv'), fun q => ?_⟩
  cases z with
  | none => exact lv_astoreN hx hb hd (lvl_has hl) hL rfl fun ls' hl' => q ls' (lvl_store (v := vR none) hl.2.2.1 (fun i v h => (hl.2.2.2 i v h).2) hn9 hL trivial hl')
  | some a => exact lv_astore hx hb hd (lvl_has hl) hL rfl fun ls' hl' => q ls' (lvl_store (v := vR (some a)) hl.2.2.1 (fun i v h => (hl.2.2.2 i v h).2) hn9 hL trivial hl')
def im_iinc (k : Nat) (n : Int) (l : SmL) (st : List SmV) (S : SmS) (I : SmI) (K : SmK) : Prop := getI l k fun z => nlAt l k ∧ K (l.set k (some (vI (w32 (z + n))))) st S I
theorem xv_iinc {k : Nat} {n : Int} (hd : decode (mC M) pc = .ok (.iinc k n, 3)) (hL : k < mL M) (hk : SmW M (pc + 3) d Rq K) : SmW M pc d Rq (fun l st S I => im_iinc k n l st S I K) := by
  intro l st S I h
  obtain ⟨z, hz, hn9, h⟩ := getI_ex h
  refine SW_pure ?_ (hk _ _ _ _ h)
  intro G p e R s m args below meth c H locs cells slots FQ ls hf hl hv hI
  obtain ⟨hx, hb, hf⟩ := hf
  refine ⟨hv, fun q => ?_⟩
  obtain ⟨j, hj⟩ := List.getElem?_of_mem (lvl_mem.mpr ⟨vI z, hz, rfl⟩ : (k, rV G (vI z)) ∈ lvl G l)
  refine lv_iinc (v := rI (w32 (z + n))) hx hb hd (lvl_has hl) hj (rI_add z n).symm hL rfl fun ls' hl' => q ls' (lvl_store (v := vI (w32 (z + n))) hl.2.2.1 (fun i v h => (hl.2.2.2 i v h).2) hn9 hL (w32_in _) hl')
def im_iadd (l : SmL) (st : List SmV) (S : SmS) (I : SmI) (K : SmK) : Prop := popII st fun y x r => K l (vI (w32 (x + y)) :: r) S I
theorem xv_iadd (hd : decode (mC M) pc = .ok (.iadd, 1)) (hk : SmW M (pc + 1) d Rq K) : SmW M pc d Rq (fun l st S I => im_iadd l st S I K) := by
  intro l st S I h
  obtain ⟨y, x, r, rfl, h⟩ := popII_ex h
  refine SW_pure ?_ (hk _ _ _ _ h)
  intro G p e R s m args below meth c H locs cells slots FQ ls hf hl hv hI
  obtain ⟨hx, hb, hf⟩ := hf
  have hy9 : inR y := hv (vI y) List.mem_cons_self
  have hx9 : inR x := hv (vI x) (List.mem_cons_of_mem _ List.mem_cons_self)
  refine ⟨fun v hv' => (List.mem_cons.mp hv').elim (fun e => by rw [e]; exact w32_in _) (fun e => hv v (List.mem_cons_of_mem _ (List.mem_cons_of_mem _ e))), fun q => ?_⟩
  refine lv_iadd hx hb hd ?_
  have q' := q ls hl
  rw [List.map_cons, rV_I, rI_add] at q'
  exact q'
def im_isub (l : SmL) (st : List SmV) (S : SmS) (I : SmI) (K : SmK) : Prop := popII st fun y x r => K l (vI (w32 (x - y)) :: r) S I
theorem xv_isub (hd : decode (mC M) pc = .ok (.isub, 1)) (hk : SmW M (pc + 1) d Rq K) : SmW M pc d Rq (fun l st S I => im_isub l st S I K) := by
  intro l st S I h
  obtain ⟨y, x, r, rfl, h⟩ := popII_ex h
  refine SW_pure ?_ (hk _ _ _ _ h)
  intro G p e R s m args below meth c H locs cells slots FQ ls hf hl hv hI
  obtain ⟨hx, hb, hf⟩ := hf
  have hy9 : inR y := hv (vI y) List.mem_cons_self
  have hx9 : inR x := hv (vI x) (List.mem_cons_of_mem _ List.mem_cons_self)
  refine ⟨fun v hv' => (List.mem_cons.mp hv').elim (fun e => by rw [e]; exact w32_in _) (fun e => hv v (List.mem_cons_of_mem _ (List.mem_cons_of_mem _ e))), fun q => ?_⟩
  refine lv_isub hx hb hd ?_
  have q' := q ls hl
  rw [List.map_cons, rV_I, rI_sub] at q'
  exact q'
def im_imul (l : SmL) (st : List SmV) (S : SmS) (I : SmI) (K : SmK) : Prop := popII st fun y x r => K l (vI (w32 (x * y)) :: r) S I
theorem xv_imul (hd : decode (mC M) pc = .ok (.imul, 1)) (hk : SmW M (pc + 1) d Rq K) : SmW M pc d Rq (fun l st S I => im_imul l st S I K) := by
  intro l st S I h
  obtain ⟨y, x, r, rfl, h⟩ := popII_ex h
  refine SW_pure ?_ (hk _ _ _ _ h)
  intro G p e R s m args below meth c H locs cells slots FQ ls hf hl hv hI
  obtain ⟨hx, hb, hf⟩ := hf
  have hy9 : inR y := hv (vI y) List.mem_cons_self
  have hx9 : inR x := hv (vI x) (List.mem_cons_of_mem _ List.mem_cons_self)
  refine ⟨fun v hv' => (List.mem_cons.mp hv').elim (fun e => by rw [e]; exact w32_in _) (fun e => hv v (List.mem_cons_of_mem _ (List.mem_cons_of_mem _ e))), fun q => ?_⟩
  refine lv_imul hx hb hd ?_
  have q' := q ls hl
  rw [List.map_cons, rV_I, rI_mul] at q'
  exact q'
def im_iand (l : SmL) (st : List SmV) (S : SmS) (I : SmI) (K : SmK) : Prop := popII st fun y x r => K l (vI (op32 (fun a b => a &&& b) x y) :: r) S I
theorem xv_iand (hd : decode (mC M) pc = .ok (.iand, 1)) (hk : SmW M (pc + 1) d Rq K) : SmW M pc d Rq (fun l st S I => im_iand l st S I K) := by
  intro l st S I h
  obtain ⟨y, x, r, rfl, h⟩ := popII_ex h
  refine SW_pure ?_ (hk _ _ _ _ h)
  intro G p e R s m args below meth c H locs cells slots FQ ls hf hl hv hI
  obtain ⟨hx, hb, hf⟩ := hf
  have hy9 : inR y := hv (vI y) List.mem_cons_self
  have hx9 : inR x := hv (vI x) (List.mem_cons_of_mem _ List.mem_cons_self)
  refine ⟨fun v hv' => (List.mem_cons.mp hv').elim (fun e => by rw [e]; exact op32_in _ _ _) (fun e => hv v (List.mem_cons_of_mem _ (List.mem_cons_of_mem _ e))), fun q => ?_⟩
  refine lv_iand hx hb hd ?_
  have q' := q ls hl
  rw [List.map_cons, rV_I, op32_r] at q'
  exact q'
def im_ior (l : SmL) (st : List SmV) (S : SmS) (I : SmI) (K : SmK) : Prop := popII st fun y x r => K l (vI (op32 (fun a b => a ||| b) x y) :: r) S I
theorem xv_ior (hd : decode (mC M) pc = .ok (.ior, 1)) (hk : SmW M (pc + 1) d Rq K) : SmW M pc d Rq (fun l st S I => im_ior l st S I K) := by
  intro l st S I h
  obtain ⟨y, x, r, rfl, h⟩ := popII_ex h
  refine SW_pure ?_ (hk _ _ _ _ h)
  intro G p e R s m args below meth c H locs cells slots FQ ls hf hl hv hI
  obtain ⟨hx, hb, hf⟩ := hf
  have hy9 : inR y := hv (vI y) List.mem_cons_self
  have hx9 : inR x := hv (vI x) (List.mem_cons_of_mem _ List.mem_cons_self)
  refine ⟨fun v hv' => (List.mem_cons.mp hv').elim (fun e => by rw [e]; exact op32_in _ _ _) (fun e => hv v (List.mem_cons_of_mem _ (List.mem_cons_of_mem _ e))), fun q => ?_⟩
  refine lv_ior hx hb hd ?_
  have q' := q ls hl
  rw [List.map_cons, rV_I, op32_r] at q'
  exact q'
def im_ishl (l : SmL) (st : List SmV) (S : SmS) (I : SmI) (K : SmK) : Prop := popII st fun y x r => K l (vI (op32 (fun a b => a <<< (b &&& 31)) x y) :: r) S I
theorem xv_ishl (hd : decode (mC M) pc = .ok (.ishl, 1)) (hk : SmW M (pc + 1) d Rq K) : SmW M pc d Rq (fun l st S I => im_ishl l st S I K) := by
  intro l st S I h
  obtain ⟨y, x, r, rfl, h⟩ := popII_ex h
  refine SW_pure ?_ (hk _ _ _ _ h)
  intro G p e R s m args below meth c H locs cells slots FQ ls hf hl hv hI
  obtain ⟨hx, hb, hf⟩ := hf
  have hy9 : inR y := hv (vI y) List.mem_cons_self
  have hx9 : inR x := hv (vI x) (List.mem_cons_of_mem _ List.mem_cons_self)
  refine ⟨fun v hv' => (List.mem_cons.mp hv').elim (fun e => by rw [e]; exact op32_in _ _ _) (fun e => hv v (List.mem_cons_of_mem _ (List.mem_cons_of_mem _ e))), fun q => ?_⟩
  refine lv_ishl hx hb hd ?_
  have q' := q ls hl
  rw [List.map_cons, rV_I, op32_r] at q'
  exact q'
def im_ishr (l : SmL) (st : List SmV) (S : SmS) (I : SmI) (K : SmK) : Prop := popII st fun y x r => K l (vI (op32 (fun a b => a >>> (b &&& 31)) x y) :: r) S I
theorem xv_ishr (hd : decode (mC M) pc = .ok (.ishr, 1)) (hk : SmW M (pc + 1) d Rq K) : SmW M pc d Rq (fun l st S I => im_ishr l st S I K) := by
  intro l st S I h
  obtain ⟨y, x, r, rfl, h⟩ := popII_ex h
  refine SW_pure ?_ (hk _ _ _ _ h)
  intro G p e R s m args below meth c H locs cells slots FQ ls hf hl hv hI
  obtain ⟨hx, hb, hf⟩ := hf
  have hy9 : inR y := hv (vI y) List.mem_cons_self
  have hx9 : inR x := hv (vI x) (List.mem_cons_of_mem _ List.mem_cons_self)
  refine ⟨fun v hv' => (List.mem_cons.mp hv').elim (fun e => by rw [e]; exact op32_in _ _ _) (fun e => hv v (List.mem_cons_of_mem _ (List.mem_cons_of_mem _ e))), fun q => ?_⟩
  refine lv_ishr hx hb hd ?_
  have q' := q ls hl
  rw [List.map_cons, rV_I, op32_r] at q'
  exact q'
def im_iushr (l : SmL) (st : List SmV) (S : SmS) (I : SmI) (K : SmK) : Prop := popII st fun y x r => K l (vI (op32 (fun a b => (a.toUInt32 >>> (b.toUInt32 &&& Int32.toUInt32 31)).toInt32) x y) :: r) S I
theorem xv_iushr (hd : decode (mC M) pc = .ok (.iushr, 1)) (hk : SmW M (pc + 1) d Rq K) : SmW M pc d Rq (fun l st S I => im_iushr l st S I K) := by
  intro l st S I h
  obtain ⟨y, x, r, rfl, h⟩ := popII_ex h
  refine SW_pure ?_ (hk _ _ _ _ h)
  intro G p e R s m args below meth c H locs cells slots FQ ls hf hl hv hI
  obtain ⟨hx, hb, hf⟩ := hf
  have hy9 : inR y := hv (vI y) List.mem_cons_self
  have hx9 : inR x := hv (vI x) (List.mem_cons_of_mem _ List.mem_cons_self)
  refine ⟨fun v hv' => (List.mem_cons.mp hv').elim (fun e => by rw [e]; exact op32_in _ _ _) (fun e => hv v (List.mem_cons_of_mem _ (List.mem_cons_of_mem _ e))), fun q => ?_⟩
  refine lv_iushr hx hb hd rfl ?_
  have q' := q ls hl
  rw [List.map_cons, rV_I, op32_r] at q'
  exact q'
theorem rI_div {x y : Int} (hx : inR x) (hy : inR y) : rI (w32 (x.tdiv y)) = rI x / rI y := by
  apply Int32.toInt_inj.mp
  rw [Int32.toInt_div, rI_toInt hx, rI_toInt hy, rI_w32]
  show (Int32.ofInt _).toInt = _
  rw [Int32.toInt_ofInt]
theorem rI_rem {x y : Int} (hx : inR x) (hy : inR y) : rI (x.tmod y) = rI x - rI x / rI y * rI y := by
  rw [← rI_div hx hy, rI_w32]
  show Int32.ofInt _ = Int32.ofInt _ - Int32.ofInt _ * Int32.ofInt _
  rw [← Int32.ofInt_mul, ← Int32.ofInt_sub]
  congr 1
  have := Int.tmod_add_mul_tdiv x y
  have h2 : y * x.tdiv y = x.tdiv y * y := Int.mul_comm _ _
  omega
theorem tmod_in {x y : Int} (hx : inR x) : inR (x.tmod y) := by
  have h1 := Int.natAbs_tmod x y
  have h2 := Nat.mod_le x.natAbs y.natAbs
  have h3 : 0 ≤ x → 0 ≤ x.tmod y := fun h => Int.tmod_nonneg y h
  have h4 : 0 ≤ -x → 0 ≤ -(x.tmod y) := fun h => by rw [← Int.neg_tmod]; exact Int.tmod_nonneg y h
  unfold inR at hx ⊢
  omega
def im_idiv (l : SmL) (st : List SmV) (S : SmS) (I : SmI) (K : SmK) : Prop := popII st fun y x r => chk (y ≠ 0) ∧ K l (vI (w32 (x.tdiv y)) :: r) S I
theorem xv_idiv (hd : decode (mC M) pc = .ok (.idiv, 1)) (hk : SmW M (pc + 1) d Rq K) : SmW M pc d Rq (fun l st S I => im_idiv l st S I K) := by
  intro l st S I h
  obtain ⟨y, x, r, rfl, hne, h⟩ := popII_ex h
  refine SW_pure ?_ (hk _ _ _ _ h)
  intro G p e R s m args below meth c H locs cells slots FQ ls hf hl hv hI
  obtain ⟨hx, hb, hf⟩ := hf
  have hy9 : inR y := hv (vI y) List.mem_cons_self
  have hx9 : inR x := hv (vI x) (List.mem_cons_of_mem _ List.mem_cons_self)
  refine ⟨fun v hv' => (List.mem_cons.mp hv').elim (fun e => by rw [e]; exact w32_in _) (fun e => hv v (List.mem_cons_of_mem _ (List.mem_cons_of_mem _ e))), fun q => ?_⟩
  refine lv_idiv hx hb hd (fun h0 => hne (by rw [← rI_0] at h0; exact (rI_eq hy9 inR_0).mp h0)) ?_
  have q' := q ls hl
  rw [List.map_cons, rV_I, rI_div hx9 hy9] at q'
  exact q'
def im_irem (l : SmL) (st : List SmV) (S : SmS) (I : SmI) (K : SmK) : Prop := popII st fun y x r => chk (y ≠ 0) ∧ K l (vI (x.tmod y) :: r) S I
theorem xv_irem (hd : decode (mC M) pc = .ok (.irem, 1)) (hk : SmW M (pc + 1) d Rq K) : SmW M pc d Rq (fun l st S I => im_irem l st S I K) := by
  intro l st S I h
  obtain ⟨y, x, r, rfl, hne, h⟩ := popII_ex h
  refine SW_pure ?_ (hk _ _ _ _ h)
  intro G p e R s m args below meth c H locs cells slots FQ ls hf hl hv hI
  obtain ⟨hx, hb, hf⟩ := hf
  have hy9 : inR y := hv (vI y) List.mem_cons_self
  have hx9 : inR x := hv (vI x) (List.mem_cons_of_mem _ List.mem_cons_self)
  refine ⟨fun v hv' => (List.mem_cons.mp hv').elim (fun e => by rw [e]; exact tmod_in hx9) (fun e => hv v (List.mem_cons_of_mem _ (List.mem_cons_of_mem _ e))), fun q => ?_⟩
  refine lv_irem hx hb hd (fun h0 => hne (by rw [← rI_0] at h0; exact (rI_eq hy9 inR_0).mp h0)) ?_
  have q' := q ls hl
  rw [List.map_cons, rV_I, rI_rem hx9 hy9] at q'
  exact q'
theorem rJ_i2l {x : Int} (hx : inR x) : rJ x = (rI x).toInt64 := by
  apply Int64.toInt_inj.mp
  rw [Int32.toInt_toInt64, rI_toInt hx, rJ_toInt]
  unfold inR at hx; unfold inR64; omega
theorem rI_l2i {x : Int} (hx : inR64 x) : rI (w32 x) = (rJ x).toInt32 := by
  apply Int32.toInt_inj.mp
  rw [Int64.toInt_toInt32, rJ_toInt hx, rI_w32]
  show (Int32.ofInt _).toInt = _
  rw [Int32.toInt_ofInt]
theorem inR_64 {x : Int} (hx : inR x) : inR64 x := by unfold inR at hx; unfold inR64; omega
def im_ineg (l : SmL) (st : List SmV) (S : SmS) (I : SmI) (K : SmK) : Prop := popI st fun x r => K l (vI (w32 (-x)) :: r) S I
theorem xv_ineg (hd : decode (mC M) pc = .ok (.ineg, 1)) (hk : SmW M (pc + 1) d Rq K) : SmW M pc d Rq (fun l st S I => im_ineg l st S I K) := by
  intro l st S I h
  obtain ⟨x, r, rfl, h⟩ := popI_ex h
  refine SW_pure ?_ (hk _ _ _ _ h)
  intro G p e R s m args below meth c H locs cells slots FQ ls hf hl hv hI
  obtain ⟨hx, hb, hf⟩ := hf
  have hx9 : okV (vI x) := hv (vI x) List.mem_cons_self
  refine ⟨fun v hv' => (List.mem_cons.mp hv').elim (fun e => by rw [e]; exact w32_in _) (fun e => hv v (List.mem_cons_of_mem _ e)), fun q => ?_⟩
  refine lv_ineg hx hb hd ?_
  have q' := q ls hl
  rw [List.map_cons, rV_I, rI_neg] at q'
  exact q'
def im_i2l (l : SmL) (st : List SmV) (S : SmS) (I : SmI) (K : SmK) : Prop := popI st fun x r => K l (vJ (x) :: r) S I
theorem xv_i2l (hd : decode (mC M) pc = .ok (.i2l, 1)) (hk : SmW M (pc + 1) d Rq K) : SmW M pc d Rq (fun l st S I => im_i2l l st S I K) := by
  intro l st S I h
  obtain ⟨x, r, rfl, h⟩ := popI_ex h
  refine SW_pure ?_ (hk _ _ _ _ h)
  intro G p e R s m args below meth c H locs cells slots FQ ls hf hl hv hI
  obtain ⟨hx, hb, hf⟩ := hf
  have hx9 : okV (vI x) := hv (vI x) List.mem_cons_self
  refine ⟨fun v hv' => (List.mem_cons.mp hv').elim (fun e => by rw [e]; exact inR_64 hx9) (fun e => hv v (List.mem_cons_of_mem _ e)), fun q => ?_⟩
  refine lv_i2l hx hb hd rfl ?_
  have q' := q ls hl
  rw [List.map_cons, rV_J, rJ_i2l hx9] at q'
  exact q'
def im_l2i (l : SmL) (st : List SmV) (S : SmS) (I : SmI) (K : SmK) : Prop := popJ st fun x r => K l (vI (w32 x) :: r) S I
theorem xv_l2i (hd : decode (mC M) pc = .ok (.l2i, 1)) (hk : SmW M (pc + 1) d Rq K) : SmW M pc d Rq (fun l st S I => im_l2i l st S I K) := by
  intro l st S I h
  obtain ⟨x, r, rfl, h⟩ := popJ_ex h
  refine SW_pure ?_ (hk _ _ _ _ h)
  intro G p e R s m args below meth c H locs cells slots FQ ls hf hl hv hI
  obtain ⟨hx, hb, hf⟩ := hf
  have hx9 : okV (vJ x) := hv (vJ x) List.mem_cons_self
  refine ⟨fun v hv' => (List.mem_cons.mp hv').elim (fun e => by rw [e]; exact w32_in _) (fun e => hv v (List.mem_cons_of_mem _ e)), fun q => ?_⟩
  refine lv_l2i hx hb hd rfl ?_
  have q' := q ls hl
  rw [List.map_cons, rV_I, rI_l2i hx9] at q'
  exact q'
def im_i2b (l : SmL) (st : List SmV) (S : SmS) (I : SmI) (K : SmK) : Prop := popI st fun x r => K l (vI (w8 x) :: r) S I
theorem xv_i2b (hd : decode (mC M) pc = .ok (.i2b, 1)) (hk : SmW M (pc + 1) d Rq K) : SmW M pc d Rq (fun l st S I => im_i2b l st S I K) := by
  intro l st S I h
  obtain ⟨x, r, rfl, h⟩ := popI_ex h
  refine SW_pure ?_ (hk _ _ _ _ h)
  intro G p e R s m args below meth c H locs cells slots FQ ls hf hl hv hI
  obtain ⟨hx, hb, hf⟩ := hf
  have hx9 : okV (vI x) := hv (vI x) List.mem_cons_self
  refine ⟨fun v hv' => (List.mem_cons.mp hv').elim (fun e => by rw [e]; exact w8_in _) (fun e => hv v (List.mem_cons_of_mem _ e)), fun q => ?_⟩
  refine lv_i2b hx hb hd rfl ?_
  have q' := q ls hl
  rw [List.map_cons, rV_I, rI_w8] at q'
  exact q'
def im_i2s (l : SmL) (st : List SmV) (S : SmS) (I : SmI) (K : SmK) : Prop := popI st fun x r => K l (vI (w16 x) :: r) S I
theorem xv_i2s (hd : decode (mC M) pc = .ok (.i2s, 1)) (hk : SmW M (pc + 1) d Rq K) : SmW M pc d Rq (fun l st S I => im_i2s l st S I K) := by
  intro l st S I h
  obtain ⟨x, r, rfl, h⟩ := popI_ex h
  refine SW_pure ?_ (hk _ _ _ _ h)
  intro G p e R s m args below meth c H locs cells slots FQ ls hf hl hv hI
  obtain ⟨hx, hb, hf⟩ := hf
  have hx9 : okV (vI x) := hv (vI x) List.mem_cons_self
  refine ⟨fun v hv' => (List.mem_cons.mp hv').elim (fun e => by rw [e]; exact w16_in _) (fun e => hv v (List.mem_cons_of_mem _ e)), fun q => ?_⟩
  refine lv_i2s hx hb hd rfl ?_
  have q' := q ls hl
  rw [List.map_cons, rV_I, rI_w16] at q'
  exact q'
def im_ladd (l : SmL) (st : List SmV) (S : SmS) (I : SmI) (K : SmK) : Prop := popJJ st fun y x r => K l (vJ (w64 (x + y)) :: r) S I
theorem xv_ladd (hd : decode (mC M) pc = .ok (.ladd, 1)) (hk : SmW M (pc + 1) d Rq K) : SmW M pc d Rq (fun l st S I => im_ladd l st S I K) := by
  intro l st S I h
  obtain ⟨y, x, r, rfl, h⟩ := popJJ_ex h
  refine SW_pure ?_ (hk _ _ _ _ h)
  intro G p e R s m args below meth c H locs cells slots FQ ls hf hl hv hI
  obtain ⟨hx, hb, hf⟩ := hf
  refine ⟨fun v hv' => (List.mem_cons.mp hv').elim (fun e => by rw [e]; exact w64_in _) (fun e => hv v (List.mem_cons_of_mem _ (List.mem_cons_of_mem _ e))), fun q => ?_⟩
  refine lv_ladd hx hb hd ?_
  have q' := q ls hl
  rw [List.map_cons, rV_J, rJ_add] at q'
  exact q'
def sgnJ (x y : Int) : Int := if x < y then -1 else if x = y then 0 else 1
def im_lcmp (l : SmL) (st : List SmV) (S : SmS) (I : SmI) (K : SmK) : Prop := popJJ st fun y x r => K l (vI (sgnJ x y) :: r) S I
theorem rI_lcmp {x y : Int} (hx : inR64 x) (hy : inR64 y) : lg_cmp (rJ x) (rJ y) = rI (sgnJ x y) := by
  have h1 : rJ x < rJ y ↔ x < y := by rw [Int64.lt_iff_toInt_lt, rJ_toInt hx, rJ_toInt hy]
  have h2 : rJ y < rJ x ↔ y < x := by rw [Int64.lt_iff_toInt_lt, rJ_toInt hx, rJ_toInt hy]
  unfold lg_cmp sgnJ
  by_cases a : x < y
  · have b : ¬ y < x := by omega
    have e : ¬ rJ x = rJ y := fun h => by have := congrArg Int64.toInt h; rw [rJ_toInt hx, rJ_toInt hy] at this; omega
    simp [h2, a, b, e]; rfl
  · by_cases b : x = y
    · subst b; simp [rI]
    · have e : ¬ rJ x = rJ y := fun h => b (by have := congrArg Int64.toInt h; rwa [rJ_toInt hx, rJ_toInt hy] at this)
      have f : y < x := by omega
      simp [h2, a, b, f]; rfl
theorem sgnJ_in (x y : Int) : inR (sgnJ x y) := by unfold sgnJ inR; split <;> (try split) <;> omega
theorem xv_lcmp (hd : decode (mC M) pc = .ok (.lcmp, 1)) (hk : SmW M (pc + 1) d Rq K) : SmW M pc d Rq (fun l st S I => im_lcmp l st S I K) := by
  intro l st S I h
  obtain ⟨y, x, r, rfl, h⟩ := popJJ_ex h
  refine SW_pure ?_ (hk _ _ _ _ h)
  intro G p e R s m args below meth c H locs cells slots FQ ls hf hl hv hI
  obtain ⟨hx, hb, hf⟩ := hf
  have hy9 : inR64 y := hv (vJ y) List.mem_cons_self
  have hx9 : inR64 x := hv (vJ x) (List.mem_cons_of_mem _ List.mem_cons_self)
  refine ⟨fun v hv' => (List.mem_cons.mp hv').elim (fun e => by rw [e]; exact sgnJ_in _ _) (fun e => hv v (List.mem_cons_of_mem _ (List.mem_cons_of_mem _ e))), fun q => ?_⟩
  refine W.lcmp hx hb hd ?_
  have q' := q ls hl
  rw [List.map_cons, rV_I, ← rI_lcmp hx9 hy9] at q'
  exact q'
/-- of one word -/
def cat1 : SmV → Prop
  | .inr (.inl _) => False
  | _ => True
theorem cat1_r {G : SmG} {v : SmV} (h : cat1 v) : (rV G v).category = 1 := by
  match v, h with
  | .inl z, _ => rfl
  | .inr (.inl z), h => cases h
  | .inr (.inr none), _ => rfl
  | .inr (.inr (some a)), _ => rfl
def im_dup (l : SmL) (st : List SmV) (S : SmS) (I : SmI) (K : SmK) : Prop := popV st fun x r => cat1 x ∧ K l (x :: x :: r) S I
def im_pop (l : SmL) (st : List SmV) (S : SmS) (I : SmI) (K : SmK) : Prop := popV st fun x r => cat1 x ∧ K l r S I
def im_dup_x1 (l : SmL) (st : List SmV) (S : SmS) (I : SmI) (K : SmK) : Prop := popVV st fun x y r => cat1 x ∧ cat1 y ∧ K l (x :: y :: x :: r) S I
def im_dup2 (l : SmL) (st : List SmV) (S : SmS) (I : SmI) (K : SmK) : Prop := popVV st fun x y r => cat1 x ∧ cat1 y ∧ K l (x :: y :: x :: y :: r) S I
theorem xv_dup (hd : decode (mC M) pc = .ok (.dup, 1)) (hk : SmW M (pc + 1) d Rq K) : SmW M pc d Rq (fun l st S I => im_dup l st S I K) := by
  intro l st S I h
  obtain ⟨x, r, rfl, hc, h⟩ := popV_ex h
  refine SW_pure ?_ (hk _ _ _ _ h)
  intro G p e R s m args below meth c H locs cells slots FQ ls hf hl hv hI
  obtain ⟨hx, hb, hf⟩ := hf
  exact ⟨fun v hv' => (List.mem_cons.mp hv').elim (fun e => by rw [e]; exact hv x List.mem_cons_self) (fun e => hv v e), fun q => lv_dup hx hb hd (cat1_r hc) (q ls hl)⟩
theorem xv_pop (hd : decode (mC M) pc = .ok (.pop, 1)) (hk : SmW M (pc + 1) d Rq K) : SmW M pc d Rq (fun l st S I => im_pop l st S I K) := by
  intro l st S I h
  obtain ⟨x, r, rfl, hc, h⟩ := popV_ex h
  refine SW_pure ?_ (hk _ _ _ _ h)
  intro G p e R s m args below meth c H locs cells slots FQ ls hf hl hv hI
  obtain ⟨hx, hb, hf⟩ := hf
  exact ⟨fun v hv' => hv v (List.mem_cons_of_mem _ hv'), fun q => lv_pop hx hb hd (cat1_r hc) (q ls hl)⟩
theorem xv_dup_x1 (hd : decode (mC M) pc = .ok (.dup_x1, 1)) (hk : SmW M (pc + 1) d Rq K) : SmW M pc d Rq (fun l st S I => im_dup_x1 l st S I K) := by
  intro l st S I h
  obtain ⟨x, y, r, rfl, hc, hc2, h⟩ := popVV_ex h
  refine SW_pure ?_ (hk _ _ _ _ h)
  intro G p e R s m args below meth c H locs cells slots FQ ls hf hl hv hI
  obtain ⟨hx, hb, hf⟩ := hf
  exact ⟨fun v hv' => (List.mem_cons.mp hv').elim (fun e => by rw [e]; exact hv x List.mem_cons_self) (fun e => (List.mem_cons.mp e).elim (fun e => by rw [e]; exact hv y (List.mem_cons_of_mem _ List.mem_cons_self)) (fun e => (List.mem_cons.mp e).elim (fun e => by rw [e]; exact hv x List.mem_cons_self) (fun e => hv v (List.mem_cons_of_mem _ (List.mem_cons_of_mem _ e))))), fun q => lv_dup_x1 hx hb hd (cat1_r hc) (cat1_r hc2) (q ls hl)⟩
theorem xv_dup2 (hd : decode (mC M) pc = .ok (.dup2, 1)) (hk : SmW M (pc + 1) d Rq K) : SmW M pc d Rq (fun l st S I => im_dup2 l st S I K) := by
  intro l st S I h
  obtain ⟨x, y, r, rfl, hc, hc2, h⟩ := popVV_ex h
  refine SW_pure ?_ (hk _ _ _ _ h)
  intro G p e R s m args below meth c H locs cells slots FQ ls hf hl hv hI
  obtain ⟨hx, hb, hf⟩ := hf
  exact ⟨fun v hv' => (List.mem_cons.mp hv').elim (fun e => by rw [e]; exact hv x List.mem_cons_self) (fun e => (List.mem_cons.mp e).elim (fun e => by rw [e]; exact hv y (List.mem_cons_of_mem _ List.mem_cons_self)) (fun e => hv v e)), fun q => lv_dup2_11 hx hb hd (cat1_r hc) (cat1_r hc2) (q ls hl)⟩
theorem SW_br {l : SmL} {st st' : List SmV} {S : SmS} {I : SmI} {tgt n : Nat} (C : Prop)
    (hw : ∀ (G : SmG) (p : Program) (e : Env) (R : Room) (s : State) (m : MethodId) (args : Array Value) (below : List Frame) (meth : Method) (c : Code) (H : Heap) (locs : List Loc) (cells slots : Nat) (FQ : State → Prop) (ls : Array Slot) (cap : Nat),
      FX G M d p R s m args meth c → (∀ v ∈ st, okV v) → RH G cap s S I H →
      (∀ v ∈ st', okV v) ∧ ((C → W p (gL G) e R s m args below meth c H locs cells slots FQ (F0 m tgt ls (st'.map (rV G)))) → (¬ C → W p (gL G) e R s m args below meth c H locs cells slots FQ (F0 m (pc + n) ls (st'.map (rV G)))) → W p (gL G) e R s m args below meth c H locs cells slots FQ (F0 m pc ls (st.map (rV G)))))
    (k : (C → SW M tgt d Rq l st' S I) ∧ (¬ C → SW M (pc + n) d Rq l st' S I)) : SW M pc d Rq l st S I := by
  intro G p e R s m args below meth c cap H locs cells slots FQ ls hf hr hl hv hs hc hb hq
  obtain ⟨h1, h2⟩ := hw G p e R s m args below meth c H locs cells slots FQ ls cap hf hv hr
  exact h2 (fun q => k.1 q G p e R s m args below meth c cap H locs cells slots FQ ls hf hr hl h1 hs hc hb hq) (fun q => k.2 q G p e R s m args below meth c cap H locs cells slots FQ ls hf hr hl h1 hs hc hb hq)
theorem xv_goto {off : Int} {tgt : Nat} (hd : decode (mC M) pc = .ok (.goto off, 3)) (ht : (pc : Int) + off = (tgt : Int)) (hk : SmW M tgt d Rq K) : SmW M pc d Rq K := by
  intro l st S I h
  refine SW_pure ?_ (hk _ _ _ _ h)
  intro G p e R s m args below meth c H locs cells slots FQ ls hf hl hv hI
  obtain ⟨hx, hb, hf⟩ := hf
  exact ⟨hv, fun q => lv_goto hx hb hd ht (q ls hl)⟩
def im_ceq (l : SmL) (st : List SmV) (S : SmS) (I : SmI) (Kt Kf : SmK) : Prop := popII st fun y x r => ((x = y) → Kt l r S I) ∧ (¬ (x = y) → Kf l r S I)
theorem xv_ceq {off : Int} {tgt : Nat} (hd : decode (mC M) pc = .ok (.if_icmp .eq off, 3)) (ht : (pc : Int) + off = (tgt : Int)) (hkt : SmW M tgt d Rq Kt) (hkf : SmW M (pc + 3) d Rq Kf) : SmW M pc d Rq (fun l st S I => im_ceq l st S I Kt Kf) := by
  intro l st S I h
  obtain ⟨y, x, r, rfl, h⟩ := popII_ex h
  refine SW_br (x = y) ?_ ⟨fun q => hkt _ _ _ _ (h.1 q), fun q => hkf _ _ _ _ (h.2 q)⟩
  intro G p e R s m args below meth c H locs cells slots FQ ls cap hf hv hr
  obtain ⟨hx, hb, hf⟩ := hf
  have hy9 : inR y := hv (vI y) List.mem_cons_self
  have hx9 : inR x := hv (vI x) (List.mem_cons_of_mem _ List.mem_cons_self)
  refine ⟨fun v hv' => hv v (List.mem_cons_of_mem _ (List.mem_cons_of_mem _ hv')), fun kt kf => lv_icmp_eq hx hb hd ht (fun q => kt ?_) (fun q => kf ?_)⟩
  · first | exact (rI_eq hx9 hy9).mp q | exact fun z => q ((rI_eq hx9 hy9).mpr z) | exact (rI_lt hx9 hy9).mp q | exact (rI_le hx9 hy9).mp q | exact (rI_lt hy9 hx9).mp q | exact (rI_le hy9 hx9).mp q
  · first | exact fun z => z ((rI_eq hx9 hy9).mp q) | exact fun z => q ((rI_eq hx9 hy9).mpr z) | exact fun z => q (fun z2 => z ((rI_eq hx9 hy9).mp z2)) | exact fun z => q ((rI_lt hx9 hy9).mpr z) | exact fun z => q ((rI_le hx9 hy9).mpr z) | exact fun z => q ((rI_lt hy9 hx9).mpr z) | exact fun z => q ((rI_le hy9 hx9).mpr z)
def im_zeq (l : SmL) (st : List SmV) (S : SmS) (I : SmI) (Kt Kf : SmK) : Prop := popI st fun x r => ((x = 0) → Kt l r S I) ∧ (¬ (x = 0) → Kf l r S I)
theorem xv_zeq {off : Int} {tgt : Nat} (hd : decode (mC M) pc = .ok (.ifCond .eq off, 3)) (ht : (pc : Int) + off = (tgt : Int)) (hkt : SmW M tgt d Rq Kt) (hkf : SmW M (pc + 3) d Rq Kf) : SmW M pc d Rq (fun l st S I => im_zeq l st S I Kt Kf) := by
  intro l st S I h
  obtain ⟨x, r, rfl, h⟩ := popI_ex h
  refine SW_br (x = 0) ?_ ⟨fun q => hkt _ _ _ _ (h.1 q), fun q => hkf _ _ _ _ (h.2 q)⟩
  intro G p e R s m args below meth c H locs cells slots FQ ls cap hf hv hr
  obtain ⟨hx, hb, hf⟩ := hf
  have hx9 : inR x := hv (vI x) List.mem_cons_self
  have hy9 : inR 0 := inR_0
  refine ⟨fun v hv' => hv v (List.mem_cons_of_mem _ hv'), fun kt kf => lv_if_eq hx hb hd ht (fun q => kt ?_) (fun q => kf ?_)⟩
  · rw [← rI_0] at q
    first | exact (rI_eq hx9 hy9).mp q | exact fun z => q ((rI_eq hx9 hy9).mpr z) | exact (rI_lt hx9 hy9).mp q | exact (rI_le hx9 hy9).mp q | exact (rI_lt hy9 hx9).mp q | exact (rI_le hy9 hx9).mp q
  · rw [← rI_0] at q
    first | exact fun z => z ((rI_eq hx9 hy9).mp q) | exact fun z => q ((rI_eq hx9 hy9).mpr z) | exact fun z => q (fun z2 => z ((rI_eq hx9 hy9).mp z2)) | exact fun z => q ((rI_lt hx9 hy9).mpr z) | exact fun z => q ((rI_le hx9 hy9).mpr z) | exact fun z => q ((rI_lt hy9 hx9).mpr z) | exact fun z => q ((rI_le hy9 hx9).mpr z)
def im_cne (l : SmL) (st : List SmV) (S : SmS) (I : SmI) (Kt Kf : SmK) : Prop := popII st fun y x r => ((¬ x = y) → Kt l r S I) ∧ (¬ (¬ x = y) → Kf l r S I)
theorem xv_cne {off : Int} {tgt : Nat} (hd : decode (mC M) pc = .ok (.if_icmp .ne off, 3)) (ht : (pc : Int) + off = (tgt : Int)) (hkt : SmW M tgt d Rq Kt) (hkf : SmW M (pc + 3) d Rq Kf) : SmW M pc d Rq (fun l st S I => im_cne l st S I Kt Kf) := by
  intro l st S I h
  obtain ⟨y, x, r, rfl, h⟩ := popII_ex h
  refine SW_br (¬ x = y) ?_ ⟨fun q => hkt _ _ _ _ (h.1 q), fun q => hkf _ _ _ _ (h.2 q)⟩
  intro G p e R s m args below meth c H locs cells slots FQ ls cap hf hv hr
  obtain ⟨hx, hb, hf⟩ := hf
  have hy9 : inR y := hv (vI y) List.mem_cons_self
  have hx9 : inR x := hv (vI x) (List.mem_cons_of_mem _ List.mem_cons_self)
  refine ⟨fun v hv' => hv v (List.mem_cons_of_mem _ (List.mem_cons_of_mem _ hv')), fun kt kf => lv_icmp_ne hx hb hd ht (fun q => kt ?_) (fun q => kf ?_)⟩
  · first | exact (rI_eq hx9 hy9).mp q | exact fun z => q ((rI_eq hx9 hy9).mpr z) | exact (rI_lt hx9 hy9).mp q | exact (rI_le hx9 hy9).mp q | exact (rI_lt hy9 hx9).mp q | exact (rI_le hy9 hx9).mp q
  · first | exact fun z => z ((rI_eq hx9 hy9).mp q) | exact fun z => q ((rI_eq hx9 hy9).mpr z) | exact fun z => q (fun z2 => z ((rI_eq hx9 hy9).mp z2)) | exact fun z => q ((rI_lt hx9 hy9).mpr z) | exact fun z => q ((rI_le hx9 hy9).mpr z) | exact fun z => q ((rI_lt hy9 hx9).mpr z) | exact fun z => q ((rI_le hy9 hx9).mpr z)
def im_zne (l : SmL) (st : List SmV) (S : SmS) (I : SmI) (Kt Kf : SmK) : Prop := popI st fun x r => ((¬ x = 0) → Kt l r S I) ∧ (¬ (¬ x = 0) → Kf l r S I)
theorem xv_zne {off : Int} {tgt : Nat} (hd : decode (mC M) pc = .ok (.ifCond .ne off, 3)) (ht : (pc : Int) + off = (tgt : Int)) (hkt : SmW M tgt d Rq Kt) (hkf : SmW M (pc + 3) d Rq Kf) : SmW M pc d Rq (fun l st S I => im_zne l st S I Kt Kf) := by
  intro l st S I h
  obtain ⟨x, r, rfl, h⟩ := popI_ex h
  refine SW_br (¬ x = 0) ?_ ⟨fun q => hkt _ _ _ _ (h.1 q), fun q => hkf _ _ _ _ (h.2 q)⟩
  intro G p e R s m args below meth c H locs cells slots FQ ls cap hf hv hr
  obtain ⟨hx, hb, hf⟩ := hf
  have hx9 : inR x := hv (vI x) List.mem_cons_self
  have hy9 : inR 0 := inR_0
  refine ⟨fun v hv' => hv v (List.mem_cons_of_mem _ hv'), fun kt kf => lv_if_ne hx hb hd ht (fun q => kt ?_) (fun q => kf ?_)⟩
  · rw [← rI_0] at q
    first | exact (rI_eq hx9 hy9).mp q | exact fun z => q ((rI_eq hx9 hy9).mpr z) | exact (rI_lt hx9 hy9).mp q | exact (rI_le hx9 hy9).mp q | exact (rI_lt hy9 hx9).mp q | exact (rI_le hy9 hx9).mp q
  · rw [← rI_0] at q
    first | exact fun z => z ((rI_eq hx9 hy9).mp q) | exact fun z => q ((rI_eq hx9 hy9).mpr z) | exact fun z => q (fun z2 => z ((rI_eq hx9 hy9).mp z2)) | exact fun z => q ((rI_lt hx9 hy9).mpr z) | exact fun z => q ((rI_le hx9 hy9).mpr z) | exact fun z => q ((rI_lt hy9 hx9).mpr z) | exact fun z => q ((rI_le hy9 hx9).mpr z)
def im_clt (l : SmL) (st : List SmV) (S : SmS) (I : SmI) (Kt Kf : SmK) : Prop := popII st fun y x r => ((x < y) → Kt l r S I) ∧ (¬ (x < y) → Kf l r S I)
theorem xv_clt {off : Int} {tgt : Nat} (hd : decode (mC M) pc = .ok (.if_icmp .lt off, 3)) (ht : (pc : Int) + off = (tgt : Int)) (hkt : SmW M tgt d Rq Kt) (hkf : SmW M (pc + 3) d Rq Kf) : SmW M pc d Rq (fun l st S I => im_clt l st S I Kt Kf) := by
  intro l st S I h
  obtain ⟨y, x, r, rfl, h⟩ := popII_ex h
  refine SW_br (x < y) ?_ ⟨fun q => hkt _ _ _ _ (h.1 q), fun q => hkf _ _ _ _ (h.2 q)⟩
  intro G p e R s m args below meth c H locs cells slots FQ ls cap hf hv hr
  obtain ⟨hx, hb, hf⟩ := hf
  have hy9 : inR y := hv (vI y) List.mem_cons_self
  have hx9 : inR x := hv (vI x) (List.mem_cons_of_mem _ List.mem_cons_self)
  refine ⟨fun v hv' => hv v (List.mem_cons_of_mem _ (List.mem_cons_of_mem _ hv')), fun kt kf => lv_icmp_lt hx hb hd ht (fun q => kt ?_) (fun q => kf ?_)⟩
  · first | exact (rI_eq hx9 hy9).mp q | exact fun z => q ((rI_eq hx9 hy9).mpr z) | exact (rI_lt hx9 hy9).mp q | exact (rI_le hx9 hy9).mp q | exact (rI_lt hy9 hx9).mp q | exact (rI_le hy9 hx9).mp q
  · first | exact fun z => z ((rI_eq hx9 hy9).mp q) | exact fun z => q ((rI_eq hx9 hy9).mpr z) | exact fun z => q (fun z2 => z ((rI_eq hx9 hy9).mp z2)) | exact fun z => q ((rI_lt hx9 hy9).mpr z) | exact fun z => q ((rI_le hx9 hy9).mpr z) | exact fun z => q ((rI_lt hy9 hx9).mpr z) | exact fun z => q ((rI_le hy9 hx9).mpr z)
def im_zlt (l : SmL) (st : List SmV) (S : SmS) (I : SmI) (Kt Kf : SmK) : Prop := popI st fun x r => ((x < 0) → Kt l r S I) ∧ (¬ (x < 0) → Kf l r S I)
theorem xv_zlt {off : Int} {tgt : Nat} (hd : decode (mC M) pc = .ok (.ifCond .lt off, 3)) (ht : (pc : Int) + off = (tgt : Int)) (hkt : SmW M tgt d Rq Kt) (hkf : SmW M (pc + 3) d Rq Kf) : SmW M pc d Rq (fun l st S I => im_zlt l st S I Kt Kf) := by
  intro l st S I h
  obtain ⟨x, r, rfl, h⟩ := popI_ex h
  refine SW_br (x < 0) ?_ ⟨fun q => hkt _ _ _ _ (h.1 q), fun q => hkf _ _ _ _ (h.2 q)⟩
  intro G p e R s m args below meth c H locs cells slots FQ ls cap hf hv hr
  obtain ⟨hx, hb, hf⟩ := hf
  have hx9 : inR x := hv (vI x) List.mem_cons_self
  have hy9 : inR 0 := inR_0
  refine ⟨fun v hv' => hv v (List.mem_cons_of_mem _ hv'), fun kt kf => lv_if_lt hx hb hd ht (fun q => kt ?_) (fun q => kf ?_)⟩
  · rw [← rI_0] at q
    first | exact (rI_eq hx9 hy9).mp q | exact fun z => q ((rI_eq hx9 hy9).mpr z) | exact (rI_lt hx9 hy9).mp q | exact (rI_le hx9 hy9).mp q | exact (rI_lt hy9 hx9).mp q | exact (rI_le hy9 hx9).mp q
  · rw [← rI_0] at q
    first | exact fun z => z ((rI_eq hx9 hy9).mp q) | exact fun z => q ((rI_eq hx9 hy9).mpr z) | exact fun z => q (fun z2 => z ((rI_eq hx9 hy9).mp z2)) | exact fun z => q ((rI_lt hx9 hy9).mpr z) | exact fun z => q ((rI_le hx9 hy9).mpr z) | exact fun z => q ((rI_lt hy9 hx9).mpr z) | exact fun z => q ((rI_le hy9 hx9).mpr z)
def im_cge (l : SmL) (st : List SmV) (S : SmS) (I : SmI) (Kt Kf : SmK) : Prop := popII st fun y x r => ((y ≤ x) → Kt l r S I) ∧ (¬ (y ≤ x) → Kf l r S I)
theorem xv_cge {off : Int} {tgt : Nat} (hd : decode (mC M) pc = .ok (.if_icmp .ge off, 3)) (ht : (pc : Int) + off = (tgt : Int)) (hkt : SmW M tgt d Rq Kt) (hkf : SmW M (pc + 3) d Rq Kf) : SmW M pc d Rq (fun l st S I => im_cge l st S I Kt Kf) := by
  intro l st S I h
  obtain ⟨y, x, r, rfl, h⟩ := popII_ex h
  refine SW_br (y ≤ x) ?_ ⟨fun q => hkt _ _ _ _ (h.1 q), fun q => hkf _ _ _ _ (h.2 q)⟩
  intro G p e R s m args below meth c H locs cells slots FQ ls cap hf hv hr
  obtain ⟨hx, hb, hf⟩ := hf
  have hy9 : inR y := hv (vI y) List.mem_cons_self
  have hx9 : inR x := hv (vI x) (List.mem_cons_of_mem _ List.mem_cons_self)
  refine ⟨fun v hv' => hv v (List.mem_cons_of_mem _ (List.mem_cons_of_mem _ hv')), fun kt kf => lv_icmp_ge hx hb hd ht (fun q => kt ?_) (fun q => kf ?_)⟩
  · first | exact (rI_eq hx9 hy9).mp q | exact fun z => q ((rI_eq hx9 hy9).mpr z) | exact (rI_lt hx9 hy9).mp q | exact (rI_le hx9 hy9).mp q | exact (rI_lt hy9 hx9).mp q | exact (rI_le hy9 hx9).mp q
  · first | exact fun z => z ((rI_eq hx9 hy9).mp q) | exact fun z => q ((rI_eq hx9 hy9).mpr z) | exact fun z => q (fun z2 => z ((rI_eq hx9 hy9).mp z2)) | exact fun z => q ((rI_lt hx9 hy9).mpr z) | exact fun z => q ((rI_le hx9 hy9).mpr z) | exact fun z => q ((rI_lt hy9 hx9).mpr z) | exact fun z => q ((rI_le hy9 hx9).mpr z)
def im_zge (l : SmL) (st : List SmV) (S : SmS) (I : SmI) (Kt Kf : SmK) : Prop := popI st fun x r => ((0 ≤ x) → Kt l r S I) ∧ (¬ (0 ≤ x) → Kf l r S I)
theorem xv_zge {off : Int} {tgt : Nat} (hd : decode (mC M) pc = .ok (.ifCond .ge off, 3)) (ht : (pc : Int) + off = (tgt : Int)) (hkt : SmW M tgt d Rq Kt) (hkf : SmW M (pc + 3) d Rq Kf) : SmW M pc d Rq (fun l st S I => im_zge l st S I Kt Kf) := by
  intro l st S I h
  obtain ⟨x, r, rfl, h⟩ := popI_ex h
  refine SW_br (0 ≤ x) ?_ ⟨fun q => hkt _ _ _ _ (h.1 q), fun q => hkf _ _ _ _ (h.2 q)⟩
  intro G p e R s m args below meth c H locs cells slots FQ ls cap hf hv hr
  obtain ⟨hx, hb, hf⟩ := hf
  have hx9 : inR x := hv (vI x) List.mem_cons_self
  have hy9 : inR 0 := inR_0
  refine ⟨fun v hv' => hv v (List.mem_cons_of_mem _ hv'), fun kt kf => lv_if_ge hx hb hd ht (fun q => kt ?_) (fun q => kf ?_)⟩
  · rw [← rI_0] at q
    first | exact (rI_eq hx9 hy9).mp q | exact fun z => q ((rI_eq hx9 hy9).mpr z) | exact (rI_lt hx9 hy9).mp q | exact (rI_le hx9 hy9).mp q | exact (rI_lt hy9 hx9).mp q | exact (rI_le hy9 hx9).mp q
  · rw [← rI_0] at q
    first | exact fun z => z ((rI_eq hx9 hy9).mp q) | exact fun z => q ((rI_eq hx9 hy9).mpr z) | exact fun z => q (fun z2 => z ((rI_eq hx9 hy9).mp z2)) | exact fun z => q ((rI_lt hx9 hy9).mpr z) | exact fun z => q ((rI_le hx9 hy9).mpr z) | exact fun z => q ((rI_lt hy9 hx9).mpr z) | exact fun z => q ((rI_le hy9 hx9).mpr z)
def im_cgt (l : SmL) (st : List SmV) (S : SmS) (I : SmI) (Kt Kf : SmK) : Prop := popII st fun y x r => ((y < x) → Kt l r S I) ∧ (¬ (y < x) → Kf l r S I)
theorem xv_cgt {off : Int} {tgt : Nat} (hd : decode (mC M) pc = .ok (.if_icmp .gt off, 3)) (ht : (pc : Int) + off = (tgt : Int)) (hkt : SmW M tgt d Rq Kt) (hkf : SmW M (pc + 3) d Rq Kf) : SmW M pc d Rq (fun l st S I => im_cgt l st S I Kt Kf) := by
  intro l st S I h
  obtain ⟨y, x, r, rfl, h⟩ := popII_ex h
  refine SW_br (y < x) ?_ ⟨fun q => hkt _ _ _ _ (h.1 q), fun q => hkf _ _ _ _ (h.2 q)⟩
  intro G p e R s m args below meth c H locs cells slots FQ ls cap hf hv hr
  obtain ⟨hx, hb, hf⟩ := hf
  have hy9 : inR y := hv (vI y) List.mem_cons_self
  have hx9 : inR x := hv (vI x) (List.mem_cons_of_mem _ List.mem_cons_self)
  refine ⟨fun v hv' => hv v (List.mem_cons_of_mem _ (List.mem_cons_of_mem _ hv')), fun kt kf => lv_icmp_gt hx hb hd ht (fun q => kt ?_) (fun q => kf ?_)⟩
  · first | exact (rI_eq hx9 hy9).mp q | exact fun z => q ((rI_eq hx9 hy9).mpr z) | exact (rI_lt hx9 hy9).mp q | exact (rI_le hx9 hy9).mp q | exact (rI_lt hy9 hx9).mp q | exact (rI_le hy9 hx9).mp q
  · first | exact fun z => z ((rI_eq hx9 hy9).mp q) | exact fun z => q ((rI_eq hx9 hy9).mpr z) | exact fun z => q (fun z2 => z ((rI_eq hx9 hy9).mp z2)) | exact fun z => q ((rI_lt hx9 hy9).mpr z) | exact fun z => q ((rI_le hx9 hy9).mpr z) | exact fun z => q ((rI_lt hy9 hx9).mpr z) | exact fun z => q ((rI_le hy9 hx9).mpr z)
def im_zgt (l : SmL) (st : List SmV) (S : SmS) (I : SmI) (Kt Kf : SmK) : Prop := popI st fun x r => ((0 < x) → Kt l r S I) ∧ (¬ (0 < x) → Kf l r S I)
theorem xv_zgt {off : Int} {tgt : Nat} (hd : decode (mC M) pc = .ok (.ifCond .gt off, 3)) (ht : (pc : Int) + off = (tgt : Int)) (hkt : SmW M tgt d Rq Kt) (hkf : SmW M (pc + 3) d Rq Kf) : SmW M pc d Rq (fun l st S I => im_zgt l st S I Kt Kf) := by
  intro l st S I h
  obtain ⟨x, r, rfl, h⟩ := popI_ex h
  refine SW_br (0 < x) ?_ ⟨fun q => hkt _ _ _ _ (h.1 q), fun q => hkf _ _ _ _ (h.2 q)⟩
  intro G p e R s m args below meth c H locs cells slots FQ ls cap hf hv hr
  obtain ⟨hx, hb, hf⟩ := hf
  have hx9 : inR x := hv (vI x) List.mem_cons_self
  have hy9 : inR 0 := inR_0
  refine ⟨fun v hv' => hv v (List.mem_cons_of_mem _ hv'), fun kt kf => lv_if_gt hx hb hd ht (fun q => kt ?_) (fun q => kf ?_)⟩
  · rw [← rI_0] at q
    first | exact (rI_eq hx9 hy9).mp q | exact fun z => q ((rI_eq hx9 hy9).mpr z) | exact (rI_lt hx9 hy9).mp q | exact (rI_le hx9 hy9).mp q | exact (rI_lt hy9 hx9).mp q | exact (rI_le hy9 hx9).mp q
  · rw [← rI_0] at q
    first | exact fun z => z ((rI_eq hx9 hy9).mp q) | exact fun z => q ((rI_eq hx9 hy9).mpr z) | exact fun z => q (fun z2 => z ((rI_eq hx9 hy9).mp z2)) | exact fun z => q ((rI_lt hx9 hy9).mpr z) | exact fun z => q ((rI_le hx9 hy9).mpr z) | exact fun z => q ((rI_lt hy9 hx9).mpr z) | exact fun z => q ((rI_le hy9 hx9).mpr z)
def im_cle (l : SmL) (st : List SmV) (S : SmS) (I : SmI) (Kt Kf : SmK) : Prop := popII st fun y x r => ((x ≤ y) → Kt l r S I) ∧ (¬ (x ≤ y) → Kf l r S I)
theorem xv_cle {off : Int} {tgt : Nat} (hd : decode (mC M) pc = .ok (.if_icmp .le off, 3)) (ht : (pc : Int) + off = (tgt : Int)) (hkt : SmW M tgt d Rq Kt) (hkf : SmW M (pc + 3) d Rq Kf) : SmW M pc d Rq (fun l st S I => im_cle l st S I Kt Kf) := by
  intro l st S I h
  obtain ⟨y, x, r, rfl, h⟩ := popII_ex h
  refine SW_br (x ≤ y) ?_ ⟨fun q => hkt _ _ _ _ (h.1 q), fun q => hkf _ _ _ _ (h.2 q)⟩
  intro G p e R s m args below meth c H locs cells slots FQ ls cap hf hv hr
  obtain ⟨hx, hb, hf⟩ := hf
  have hy9 : inR y := hv (vI y) List.mem_cons_self
  have hx9 : inR x := hv (vI x) (List.mem_cons_of_mem _ List.mem_cons_self)
  refine ⟨fun v hv' => hv v (List.mem_cons_of_mem _ (List.mem_cons_of_mem _ hv')), fun kt kf => lv_icmp_le hx hb hd ht (fun q => kt ?_) (fun q => kf ?_)⟩
  · first | exact (rI_eq hx9 hy9).mp q | exact fun z => q ((rI_eq hx9 hy9).mpr z) | exact (rI_lt hx9 hy9).mp q | exact (rI_le hx9 hy9).mp q | exact (rI_lt hy9 hx9).mp q | exact (rI_le hy9 hx9).mp q
  · first | exact fun z => z ((rI_eq hx9 hy9).mp q) | exact fun z => q ((rI_eq hx9 hy9).mpr z) | exact fun z => q (fun z2 => z ((rI_eq hx9 hy9).mp z2)) | exact fun z => q ((rI_lt hx9 hy9).mpr z) | exact fun z => q ((rI_le hx9 hy9).mpr z) | exact fun z => q ((rI_lt hy9 hx9).mpr z) | exact fun z => q ((rI_le hy9 hx9).mpr z)
def im_zle (l : SmL) (st : List SmV) (S : SmS) (I : SmI) (Kt Kf : SmK) : Prop := popI st fun x r => ((x ≤ 0) → Kt l r S I) ∧ (¬ (x ≤ 0) → Kf l r S I)
theorem xv_zle {off : Int} {tgt : Nat} (hd : decode (mC M) pc = .ok (.ifCond .le off, 3)) (ht : (pc : Int) + off = (tgt : Int)) (hkt : SmW M tgt d Rq Kt) (hkf : SmW M (pc + 3) d Rq Kf) : SmW M pc d Rq (fun l st S I => im_zle l st S I Kt Kf) := by
  intro l st S I h
  obtain ⟨x, r, rfl, h⟩ := popI_ex h
  refine SW_br (x ≤ 0) ?_ ⟨fun q => hkt _ _ _ _ (h.1 q), fun q => hkf _ _ _ _ (h.2 q)⟩
  intro G p e R s m args below meth c H locs cells slots FQ ls cap hf hv hr
  obtain ⟨hx, hb, hf⟩ := hf
  have hx9 : inR x := hv (vI x) List.mem_cons_self
  have hy9 : inR 0 := inR_0
  refine ⟨fun v hv' => hv v (List.mem_cons_of_mem _ hv'), fun kt kf => lv_if_le hx hb hd ht (fun q => kt ?_) (fun q => kf ?_)⟩
  · rw [← rI_0] at q
    first | exact (rI_eq hx9 hy9).mp q | exact fun z => q ((rI_eq hx9 hy9).mpr z) | exact (rI_lt hx9 hy9).mp q | exact (rI_le hx9 hy9).mp q | exact (rI_lt hy9 hx9).mp q | exact (rI_le hy9 hx9).mp q
  · rw [← rI_0] at q
    first | exact fun z => z ((rI_eq hx9 hy9).mp q) | exact fun z => q ((rI_eq hx9 hy9).mpr z) | exact fun z => q (fun z2 => z ((rI_eq hx9 hy9).mp z2)) | exact fun z => q ((rI_lt hx9 hy9).mpr z) | exact fun z => q ((rI_le hx9 hy9).mpr z) | exact fun z => q ((rI_lt hy9 hx9).mpr z) | exact fun z => q ((rI_le hy9 hx9).mpr z)
def im_ifnull (l : SmL) (st : List SmV) (S : SmS) (I : SmI) (Kt Kf : SmK) : Prop := popR st fun x r => (x = none → Kt l r S I) ∧ (¬ x = none → Kf l r S I)
def im_ifnn (l : SmL) (st : List SmV) (S : SmS) (I : SmI) (Kt Kf : SmK) : Prop := popR st fun x r => (¬ x = none → Kt l r S I) ∧ (¬ ¬ x = none → Kf l r S I)
theorem xv_ifnull {off : Int} {tgt : Nat} (hd : decode (mC M) pc = .ok (.ifnull off, 3)) (ht : (pc : Int) + off = (tgt : Int)) (hkt : SmW M tgt d Rq Kt) (hkf : SmW M (pc + 3) d Rq Kf) : SmW M pc d Rq (fun l st S I => im_ifnull l st S I Kt Kf) := by
  intro l st S I h
  obtain ⟨x, r, rfl, h⟩ := popR_ex h
  refine SW_br (x = none) ?_ ⟨fun q => hkt _ _ _ _ (h.1 q), fun q => hkf _ _ _ _ (h.2 q)⟩
  intro G p e R s m args below meth c H locs cells slots FQ ls cap hf hv hr
  obtain ⟨hx, hb, hf⟩ := hf
  refine ⟨fun v hv' => hv v (List.mem_cons_of_mem _ hv'), fun kt kf => ?_⟩
  cases x with
  | none => exact lv_ifnullN hx hb hd ht (kt rfl)
  | some a => exact lv_ifnull hx hb hd (kf (fun z => by cases z))
theorem xv_ifnn {off : Int} {tgt : Nat} (hd : decode (mC M) pc = .ok (.ifnonnull off, 3)) (ht : (pc : Int) + off = (tgt : Int)) (hkt : SmW M tgt d Rq Kt) (hkf : SmW M (pc + 3) d Rq Kf) : SmW M pc d Rq (fun l st S I => im_ifnn l st S I Kt Kf) := by
  intro l st S I h
  obtain ⟨x, r, rfl, h⟩ := popR_ex h
  refine SW_br (¬ x = none) ?_ ⟨fun q => hkt _ _ _ _ (h.1 q), fun q => hkf _ _ _ _ (h.2 q)⟩
  intro G p e R s m args below meth c H locs cells slots FQ ls cap hf hv hr
  obtain ⟨hx, hb, hf⟩ := hf
  refine ⟨fun v hv' => hv v (List.mem_cons_of_mem _ hv'), fun kt kf => ?_⟩
  cases x with
  | none => exact lv_ifnonnullN hx hb hd (kf (fun z => z rfl))
  | some a => exact lv_ifnonnull hx hb hd ht (kt (fun z => by cases z))
/-- null, or a cell of ours -/
def ourR (S : SmS) (r : Option Nat) : Prop := match r with
  | none => True
  | some v => sT S v ≠ 0 ∧ sT S v < 200
theorem ourR_inj {G : SmG} {cap : Nat} {s : State} {S : SmS} {I : SmI} {H : Heap} {x y : Option Nat} (hr : RH G cap s S I H) (hx : ourR S x) (hy : ourR S y) : rR G x = rR G y ↔ x = y := by
  have key : ∀ v, sT S v ≠ 0 → sT S v < 200 → v < smF := fun v h1 h2 => by
    rcases Nat.lt_or_ge v smF with h | h
    · exact h
    · rcases hr.2.2.2.2.2.1 v h with z | z
      · exact absurd z h1
      · omega
  cases x with
  | none =>
    cases y with
    | none => exact ⟨fun _ => rfl, fun _ => rfl⟩
    | some b => exact ⟨fun h => (by cases h), fun h => (by cases h)⟩
  | some a =>
    cases y with
    | none => exact ⟨fun h => (by cases h), fun h => (by cases h)⟩
    | some b =>
      have h1 := key a hx.1 hx.2
      have h2 := key b hy.1 hy.2
      unfold rR rA
      rw [Option.map_some, Option.map_some, if_pos h1, if_pos h2]
      constructor
      · intro h
        have := Option.some.inj h
        congr 1
        omega
      · intro h
        rw [Option.some.inj h]
def im_acmpeq (l : SmL) (st : List SmV) (S : SmS) (I : SmI) (Kt Kf : SmK) : Prop := popRR st fun y x r => (ourR S x ∧ ourR S y) ∧ (x = y → Kt l r S I) ∧ (¬ x = y → Kf l r S I)
def im_acmpne (l : SmL) (st : List SmV) (S : SmS) (I : SmI) (Kt Kf : SmK) : Prop := popRR st fun y x r => (ourR S x ∧ ourR S y) ∧ (¬ x = y → Kt l r S I) ∧ (¬ ¬ x = y → Kf l r S I)
theorem xv_acmpeq {off : Int} {tgt : Nat} (hd : decode (mC M) pc = .ok (.if_acmp .eq off, 3)) (ht : (pc : Int) + off = (tgt : Int)) (hkt : SmW M tgt d Rq Kt) (hkf : SmW M (pc + 3) d Rq Kf) : SmW M pc d Rq (fun l st S I => im_acmpeq l st S I Kt Kf) := by
  intro l st S I h
  obtain ⟨y, x, r, rfl, ⟨ho1, ho2⟩, h⟩ := popRR_ex h
  refine SW_br (x = y) ?_ ⟨fun q => hkt _ _ _ _ (h.1 q), fun q => hkf _ _ _ _ (h.2 q)⟩
  intro G p e R s m args below meth c H locs cells slots FQ ls cap hf hv hr
  obtain ⟨hx, hb, hf⟩ := hf
  exact ⟨fun v hv' => hv v (List.mem_cons_of_mem _ (List.mem_cons_of_mem _ hv')), fun kt kf => lv_acmp_eq hx hb hd ht (fun q => kt ((ourR_inj hr ho1 ho2).mp q)) (fun q => kf (fun z => q ((ourR_inj hr ho1 ho2).mpr z)))⟩
theorem xv_acmpne {off : Int} {tgt : Nat} (hd : decode (mC M) pc = .ok (.if_acmp .ne off, 3)) (ht : (pc : Int) + off = (tgt : Int)) (hkt : SmW M tgt d Rq Kt) (hkf : SmW M (pc + 3) d Rq Kf) : SmW M pc d Rq (fun l st S I => im_acmpne l st S I Kt Kf) := by
  intro l st S I h
  obtain ⟨y, x, r, rfl, ⟨ho1, ho2⟩, h⟩ := popRR_ex h
  refine SW_br (¬ x = y) ?_ ⟨fun q => hkt _ _ _ _ (h.1 q), fun q => hkf _ _ _ _ (h.2 q)⟩
  intro G p e R s m args below meth c H locs cells slots FQ ls cap hf hv hr
  obtain ⟨hx, hb, hf⟩ := hf
  exact ⟨fun v hv' => hv v (List.mem_cons_of_mem _ (List.mem_cons_of_mem _ hv')), fun kt kf => lv_acmp_ne hx hb hd ht (fun q => kt (fun z => q ((ourR_inj hr ho1 ho2).mpr z))) (fun q => kf (fun z => z ((ourR_inj hr ho1 ho2).mp q)))⟩
end XV
