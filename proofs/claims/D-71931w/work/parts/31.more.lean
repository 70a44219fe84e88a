/-! ===== copies of arrays, arrays of arrays ===== -/
set_option maxRecDepth 100000
/-- behind a copy of n elements of a0 from sp on to a from dp on -/
def iCpy (I : SmI) (a0 : Nat) (sp : Int) (a : Nat) (dp n : Int) : SmI := fun b j => if b = a ∧ dp ≤ j ∧ j < dp + n then I a0 (sp + (j - dp)) else I b j
theorem iCpy_ap (I : SmI) (a0 : Nat) (sp : Int) (a : Nat) (dp n : Int) (b : Nat) (j : Int) : iCpy I a0 sp a dp n b j = if b = a ∧ dp ≤ j ∧ j < dp + n then I a0 (sp + (j - dp)) else I b j := rfl
def popC : List SmV → (Int → Int → Nat → Int → Nat → List SmV → Prop) → Prop
  | .inl n :: .inl dp :: .inr (.inr (some a)) :: .inl sp :: .inr (.inr (some a0)) :: r, f => f n dp a sp a0 r
  | _, _ => False
theorem popC_eq (n dp sp : Int) (a a0 : Nat) (r : List SmV) (f : Int → Int → Nat → Int → Nat → List SmV → Prop) : popC (vI n :: vI dp :: vR (some a) :: vI sp :: vR (some a0) :: r) f = f n dp a sp a0 r := rfl
theorem popC_ex {st : List SmV} {f : Int → Int → Nat → Int → Nat → List SmV → Prop} (h : popC st f) : ∃ n dp a sp a0 r, st = vI n :: vI dp :: vR (some a) :: vI sp :: vR (some a0) :: r ∧ f n dp a sp a0 r := by
  unfold popC at h
  split at h
  · exact ⟨_, _, _, _, _, _, rfl, h⟩
  · cases h
section XC9
variable {M : SmM} {pc d : Nat} {Rq : SmQ} {K Kt Kf : SmK}
def im_copy (t : Nat) (lo hi : Int) (l : SmL) (st : List SmV) (S : SmS) (I : SmI) (K : SmK) : Prop := popC st fun n dp a sp a0 r => (sT S a0 = t ∧ sT S a = t) ∧ wsum r ≤ 8 ∧ chk (0 ≤ sp ∧ 0 ≤ dp ∧ 0 ≤ n ∧ sp + n ≤ sN S a0 ∧ dp + n ≤ sN S a) ∧ (∀ j, sp ≤ j → j < sp + n → lo ≤ I a0 j ∧ I a0 j ≤ hi) ∧ K l r S (iCpy I a0 sp a dp n)
theorem sm_copy {t idx : Nat} {lo hi : Int} (hd : decode (mC M) pc = .ok (.invokestatic idx, 3)) (hlink : Cond.methodLink (mN M).cls idx arraycopyName ∈ lw_all) (ht : 100 ≤ t ∧ t < 104) (hprim : refKind (smAty t) = false) (hfit : ∀ z : Int, lo ≤ z → z ≤ hi → fits (smAty t) (.int (rI z)) = true) (hk : SmW M (pc + 3) d Rq K) : SmW M pc d Rq (fun l st S I => im_copy t lo hi l st S I K) := by
  intro l st S I h
  obtain ⟨n, dp, a, sp, a0, r, rfl, ⟨hT0, hT⟩, hws, ⟨h0, h1, h2, h3, h4⟩, hrg, h⟩ := popC_ex h
  refine SW_gen ?_ (hk _ _ _ _ h)
  intro G p e R s m args below meth c cap H locs cells slots FQ ls hf hr hl hv hs hc hb9
  obtain ⟨hx, hb, -, hml, -, -, hown, hts, -, hKK, hRf, hRl⟩ := hf
  refine ⟨fun v hv' => hv v (tl1 (tl1 (tl1 (tl1 (tl1 hv'))))), fun q => ?_⟩
  obtain ⟨hat0, hlt0, hF0⟩ := hr.arrI hT0 ht.1 ht.2
  obtain ⟨hat, hlt, hF⟩ := hr.arrI hT ht.1 ht.2
  have n9 : inR n := hv (vI n) List.mem_cons_self
  have d9 : inR dp := hv (vI dp) (tl1 List.mem_cons_self)
  have s9 : inR sp := hv (vI sp) (tl1 (tl1 (tl1 List.mem_cons_self)))
  have hK2 := hKK.k.2 (t - 100) _ (smTys_at (G := G) (t := t) ht.1 (by omega))
  have nl : ∀ z : Int, 0 ≤ z → inR z → ¬ rI z < 0 := fun z hz h9 h => by rw [← rI_0, rI_lt h9 inR_0] at h; omega
  simp only [List.map_cons, rV_R, rV_I]
  rw [show rR G (some a) = some (gB G + a) from congrArg some (rA_lt hF), show rR G (some a0) = some (gB G + a0) from congrArg some (rA_lt hF0)]
  show W p (gL G) e R s m args below meth c H locs cells slots FQ (F0 m pc ls (.int (rI n) :: .int (rI dp) :: .ref (gB G + a) :: .int (rI sp) :: .ref (gB G + a0) :: r.map (rV G)))
  intro T hT9 X
  obtain ⟨-, k0, hk0, cm0, hkk0⟩ := hK2.1 (sN S a0).toNat (fun j => .int (rI (I a0 (j : Int))))
  obtain ⟨-, k1, hk1, cm1, hkk1⟩ := hK2.1 (sN S a).toNat (fun j => .int (rI (I a (j : Int))))
  obtain ⟨vm', X', step⟩ := X.arraycopy hx hown (hts _ hlink) (hts _ q170) (hts _ q169) (hts _ q118) (src := gB G + a0) (dst := gB G + a) (cs := arrV (gY G t) (sN S a0).toNat fun j => .int (rI (I a0 (j : Int)))) (cd := arrV (gY G t) (sN S a).toNat fun j => .int (rI (I a (j : Int)))) (srcPos := rI sp) (destPos := rI dp) (n := rI n) (by rw [hT9]; exact hat0) (by rw [hT9]; exact hat)
    (fun _ h => by cases h) (fun _ h => by cases h) (fun h => by cases h) (fun h => by cases h) hk0 hk1 hkk0 hkk1 (by simp [hprim]) (nl sp h0 s9) (nl dp h1 d9) (nl n h2 n9)
    (by rw [rI_toInt s9, rI_toInt n9, arrV_size]; omega)
    (by rw [rI_toInt d9, rI_toInt n9, arrV_size]; omega)
    (fun vm₁ _ i hi9 => by
      rw [rI_clamp h2 n9] at hi9
      rw [rI_clamp h0 s9]
      have e9 : (arrV (gY G t) (sN S a0).toNat fun j => Value.int (rI (I a0 (j : Int)))).slots.getD (sp.toNat + i) .null = .int (rI (I a0 ((sp.toNat + i : Nat) : Int))) := by
        rw [Array.getD_eq_getD_getElem?, arrV_read _ _ (by omega)]
        rfl
      refine ⟨?_, ?_⟩
      · rw [e9]
        have := hrg ((sp.toNat + i : Nat) : Int) (by omega) (by omega)
        exact hfit _ this.1 this.2
      · rw [e9]
        exact trivial)
    (g := F0 m pc ls (.int (rI n) :: .int (rI dp) :: .ref (gB G + a) :: .int (rI sp) :: .ref (gB G + a0) :: r.map (rV G))) rfl (by rw [hml]; exact hl.1) (rest := r.map (rV G)) rfl (by rw [hb]; exact hd) (by omega) (by
      have hn5 : nativeFrameWords "java/lang/System" "arraycopy" 5 ≤ 100 := by decide +kernel
      show 2 * 0 + _ + _ ≤ _
      rw [wsum_r]
      omega)
  have e1 : copied (arrV (gY G t) (sN S a0).toNat fun j => Value.int (rI (I a0 (j : Int)))) (arrV (gY G t) (sN S a).toNat fun j => Value.int (rI (I a (j : Int)))) (rI sp) (rI dp) (rI n) = vp_cell (gY G t) ((sN S a).toNat, .inl fun (j : Nat) => rI (iCpy I a0 sp a dp n a (j : Int))) := by
    unfold copied
    rw [va_copied (fun z => Value.int z) (gY G t) (gY G t) (n0 := (sN S a0).toNat) (n1 := (sN S a).toNat) (fun j => rI (I a0 (j : Int))) (fun j => rI (I a (j : Int))) (by rw [rI_clamp h0 s9, rI_clamp h2 n9]; omega)]
    rw [vp_cell_i]
    congr 1
    funext j
    rw [rI_clamp h0 s9, rI_clamp h1 d9, rI_clamp h2 n9]
    unfold va_cpy
    rw [iCpy_ap]
    by_cases hj : dp.toNat ≤ j ∧ j < dp.toNat + n.toNat
    · rw [if_pos hj, if_pos ⟨rfl, by omega, by omega⟩]
      show Value.int (rI (I a0 _)) = Value.int (rI (I a0 _))
      rw [show ((sp.toNat + (j - dp.toNat) : Nat) : Int) = sp + ((j : Int) - dp) by omega]
    · rw [if_neg hj, if_neg (fun z => hj (by omega))]
  rw [e1] at X' step
  have hl9 : gB G + a < H.size := (Array.getElem?_eq_some_iff.mp hat).1
  have oq : ∀ (x : Cell) (q : Nat), q ≠ gB G + a → (H.setIfInBounds (gB G + a) x)[q]? = H[q]? := fun x q hq => by simp [Array.getElem?_setIfInBounds, Ne.symm hq]
  obtain ⟨t9, a1, b1⟩ := q (H.setIfInBounds (gB G + a) (vp_cell (gY G t) ((sN S a).toNat, .inl fun (j : Nat) => rI (iCpy I a0 sp a dp n a (j : Int))))) _ cells slots (hr.write hlt hF rfl rfl rfl rfl (fun v h => by funext j; rw [iCpy_ap, if_neg (fun z => h z.1)]) (fun v h => rfl) (fun j => by
      rw [iCpy_ap]
      split
      · exact hr.i _ _
      · exact hr.i _ _) (by
      unfold sAt
      rw [if_neg (by omega)]
      unfold sE smE
      rw [if_neg (by omega), if_pos (by omega), hT]
      show (H.setIfInBounds (gB G + a) _)[gB G + a]? = some (vp_cell _ _)
      simp [Array.getElem?_setIfInBounds, hl9]) (by simp) (oq _)) ⟨by simp; exact hs.1, fun q g1 g2 => by
        rw [oq _ q (fun e => g2 (by rw [e]; exact Nat.le_add_right _ _))]
        exact hs.2.1 q g1 g2, fun q hq => by
        rcases List.mem_append.mp hq with h | h
        · exact hs.2.2 q h
        · obtain ⟨z, -, hz⟩ := List.mem_map.mp h
          rw [← hz]
          exact Nat.le_add_right _ _⟩ hc hb9 _ (by rw [← hT9]; rfl) X'
  exact ⟨t9, step t9 a1, b1⟩
def im_copyI (l : SmL) (st : List SmV) (S : SmS) (I : SmI) (K : SmK) : Prop := im_copy 100 (-2147483648) 2147483647 l st S I K
def im_copyB (l : SmL) (st : List SmV) (S : SmS) (I : SmI) (K : SmK) : Prop := im_copy 101 (-128) 127 l st S I K
theorem xv_copyI {idx : Nat} (hd : decode (mC M) pc = .ok (.invokestatic idx, 3)) (hlink : Cond.methodLink (mN M).cls idx arraycopyName ∈ lw_all) (hk : SmW M (pc + 3) d Rq K) : SmW M pc d Rq (fun l st S I => im_copyI l st S I K) := sm_copy hd hlink ⟨by omega, by omega⟩ rfl (fun z h1 h2 => rfl) hk
theorem xv_copyB {idx : Nat} (hd : decode (mC M) pc = .ok (.invokestatic idx, 3)) (hlink : Cond.methodLink (mN M).cls idx arraycopyName ∈ lw_all) (hk : SmW M (pc + 3) d Rq K) : SmW M pc d Rq (fun l st S I => im_copyB l st S I K) := sm_copy hd hlink ⟨by omega, by omega⟩ rfl (fun z h1 h2 => by
  show fits .byte (.int (rI z)) = true
  have e9 : w8 z = z := by unfold w8; omega
  have := rI_w8 z
  rw [e9] at this
  rw [this]
  have := (rI z).toInt8.le_toInt
  have := (rI z).toInt8.toInt_le
  unfold fits
  rw [Bool.and_eq_true, decide_eq_true_eq, decide_eq_true_eq, Int32.le_iff_toInt_le, Int32.le_iff_toInt_le, Int8.toInt_toInt32]
  exact ⟨by assumption, by assumption⟩) hk
/-! six rows of three ints -/
def sMul (S : SmS) : SmS := (fun v => if v = sZ S then 104 else if sZ S < v ∧ v ≤ sZ S + 6 then 100 else sT S v, fun v => if v = sZ S then 6 else if sZ S < v ∧ v ≤ sZ S + 6 then 3 else sN S v, fun v j => if v = sZ S then (if 0 ≤ j ∧ j < 6 then some (sZ S + 1 + j.toNat) else none) else if sZ S < v ∧ v ≤ sZ S + 6 then none else sP S v j, sZ S + 7, sC S - 7, sB S - 24)
def iMul (I : SmI) (z : Nat) : SmI := fun b j => if z ≤ b ∧ b ≤ z + 6 then 0 else I b j
theorem sT_sMul (S : SmS) (v : Nat) : sT (sMul S) v = if v = sZ S then 104 else if sZ S < v ∧ v ≤ sZ S + 6 then 100 else sT S v := rfl
theorem sN_sMul (S : SmS) (v : Nat) : sN (sMul S) v = if v = sZ S then 6 else if sZ S < v ∧ v ≤ sZ S + 6 then 3 else sN S v := rfl
theorem sP_sMul (S : SmS) (v : Nat) (j : Int) : sP (sMul S) v j = if v = sZ S then (if 0 ≤ j ∧ j < 6 then some (sZ S + 1 + j.toNat) else none) else if sZ S < v ∧ v ≤ sZ S + 6 then none else sP S v j := rfl
theorem sZ_sMul (S : SmS) : sZ (sMul S) = sZ S + 7 := rfl
theorem sC_sMul (S : SmS) : sC (sMul S) = sC S - 7 := rfl
theorem sB_sMul (S : SmS) : sB (sMul S) = sB S - 24 := rfl
theorem iMul_ap (I : SmI) (z b : Nat) (j : Int) : iMul I z b j = if z ≤ b ∧ b ≤ z + 6 then 0 else I b j := rfl
def im_multi (l : SmL) (st : List SmV) (S : SmS) (I : SmI) (K : SmK) : Prop := popII st fun k n r => chk (n = 6 ∧ k = 3 ∧ 7 ≤ sC S ∧ 24 ≤ sB S) ∧ K l (vR (some (sZ S)) :: r) (sMul S) (iMul I (sZ S))
theorem KK.ao2 {G : SmG} {U : State} {args : Array Value} (h : KK G U) : (Cond.arrayOver (.array .int)).before args U = true := by
  obtain ⟨s0, b, h1, h2, h3, h4, -⟩ := h
  have h9 : (Cond.arrayOver (.array .int)).before #[Value.ref b] (s0.setVm U.vm) = true := by
    rw [Cond.arrayOver_setVmC h4.alike]
    exact h1 _ q186
  exact h9
theorem xv_multi {idx : Nat} (hd : decode (mC M) pc = .ok (.multianewarray idx 2, 4)) (hlink : Cond.classLink (mN M).cls idx "[[I" ∈ lw_all) (hk : SmW M (pc + 4) d Rq K) : SmW M pc d Rq (fun l st S I => im_multi l st S I K) := by
  intro l st S I h
  obtain ⟨k, n, r, rfl, ⟨rfl, rfl, h1, h2⟩, h9⟩ := popII_ex h
  refine SW_gen ?_ (hk _ _ _ _ h9)
  intro G p e R s m args below meth c cap H locs cells slots FQ ls hf hr hl hv hs hc hb9
  obtain ⟨hx, hb, -, hml, -, -, hown, hts, -, hKK, hRf, hRl⟩ := hf
  refine ⟨okc trivial hv (fun _ h => tl1 (tl1 h)), fun q => ?_⟩
  have hzF : sZ S + 7 ≤ smF := by have := hr.2.1; have := hr.2.2.1; omega
  intro T hT X
  obtain ⟨vm₁, cA, comp, hW, hfA, hfC, hO, hI, X1, st9⟩ := X.multianewarray2F hx (ty := .int) hown (hts _ hlink) hKK.ao2 (hts _ q248) (g := F0 m pc ls (.int 3 :: .int 6 :: r.map (rV G))) rfl (by rw [hb]; exact hd) (n := 6) (k := 3) rfl (by decide) (by decide) (by decide) (by decide) (by decide) rfl rfl (by show cells + (1 + 6) ≤ _; omega) (by show slots + (6 + 6 * 3) ≤ _; omega)
  generalize hF : Jvm.Free.Multi.fill (T.setVm vm₁) cA comp ((6 : Int32).toNatClampNeg) ((3 : Int32).toNatClampNeg) (defaultValue .int) ((6 : Int32).toNatClampNeg) = F at X1 st9
  have f1 : F.heap.size = H.size + 7 ∧ F.heap[H.size]? = some (Jvm.Free.Multi.outerC cA 6 H.size 6) := by
    have z := Jvm.Free.Multi.fill_facts (T.setVm vm₁) cA comp 6 3 (defaultValue .int) 6
    rw [← hF, ← hT]
    exact ⟨z.1, z.2.1⟩
  have fo : ∀ a : Nat, a < H.size → F.heap[a]? = H[a]? := fun a ha => by
    rw [← hF, ← hT]
    exact Jvm.Free.Multi.fill_old (T.setVm vm₁) cA comp 6 3 (defaultValue .int) (a := a) (by rw [← hT] at ha; exact ha) 6
  have fi : ∀ j : Nat, j < 6 → F.heap[H.size + 1 + j]? = some (arrV comp 3 fun _ => .int 0) := fun j hj => by
    have z := Jvm.Free.Multi.fill_inner (T.setVm vm₁) cA comp 6 3 (defaultValue .int) 6 j hj
    rw [show Jvm.Free.Multi.innerC comp 3 (defaultValue .int) = arrV comp 3 (fun _ => .int 0) from rfl] at z
    rw [← hF, ← hT]
    exact z
  have hcA : cA = gY G 104 := by
    exact Option.some.inj (hfA.symm.trans (hKK.k.2 4 _ rfl).2)
  have hco : comp = gY G 100 := Option.some.inj (hfC.symm.trans (hKK.k.2 0 _ rfl).2)
  have hout : Jvm.Free.Multi.outerC cA 6 H.size 6 = arrV cA 6 (fun j => .ref (H.size + 1 + j)) := by
    have o9 := Jvm.Free.Multi.outerC_facts cA 6 H.size 6
    have s9 := fun j hj => Jvm.Free.Multi.outerC_slot cA 6 H.size 6 j hj
    have o10 : (Jvm.Free.Multi.outerC cA 6 H.size 6).monitor = (arrV cA 6 (fun j => .ref (H.size + 1 + j))).monitor ∧ (Jvm.Free.Multi.outerC cA 6 H.size 6).hash = (arrV cA 6 (fun j => .ref (H.size + 1 + j))).hash := ⟨rfl, rfl⟩
    generalize Jvm.Free.Multi.outerC cA 6 H.size 6 = x9 at o9 s9 o10 ⊢
    obtain ⟨x1, x2, x3, x4, x5⟩ := x9
    obtain ⟨o1, o2, o3⟩ := o9
    obtain ⟨o4, o5⟩ := o10
    simp only at o1 o2 o3 o4 o5 s9
    rw [o1, o2, o4, o5]
    unfold arrV
    congr 1
    apply Array.ext_getElem?
    intro j
    by_cases hj : j < 6
    · rw [s9 j hj, if_pos hj]
      simp [hj]
    · rw [Array.getElem?_eq_none (by omega), Array.getElem?_eq_none (by simp; omega)]
  have hS : H.size = gB G + sZ S := hr.1
  have hRH : RH G cap s (sMul S) (iMul I (sZ S)) F.heap := by
    obtain ⟨g1, g2, g3, g4, g5, g6, g7, g8, g9⟩ := hr
    refine ⟨by rw [f1.1, sZ_sMul]; omega, by rw [sZ_sMul, sC_sMul]; omega, g3, fun v hv hz => ?_, fun v h9 hF9 => ?_, fun v hF9 => ?_, fun v => ?_, fun v k => ?_, fun q => ?_⟩
    · rw [sZ_sMul] at hz
      by_cases hv1 : v = sZ S
      · subst hv1
        refine ⟨by rw [sT_sMul, if_pos rfl]; exact Or.inr ⟨by omega, by omega⟩, ?_⟩
        unfold sAt
        rw [sT_sMul, if_pos rfl, if_neg (by omega)]
        unfold sE smE
        rw [sT_sMul, if_pos rfl, if_neg (by omega), if_neg (by omega), sN_sMul, if_pos rfl]
        show F.heap[gB G + sZ S]? = some (vp_cell _ _)
        rw [← g1, f1.2, hout, vp_cell_q, hcA]
        congr 1
        unfold arrV
        congr 1
        apply Array.ext_getElem?
        intro j
        by_cases hj : j < 6
        · have e9 : rR G (sP (sMul S) (sZ S) (j : Int)) = some (gB G + (sZ S + 1 + j)) := by
            rw [sP_sMul, if_pos rfl, if_pos ⟨by omega, by omega⟩, Int.toNat_natCast]
            exact congrArg some (rA_lt (by omega))
          simp [hj, e9, va_rf]
          show ((H.size + 1 + j : Nat)) = ((gB G + (sZ S + 1 + j) : Nat))
          omega
        · rw [Array.getElem?_eq_none (by simp; omega), Array.getElem?_eq_none (by simp; omega)]
      · by_cases hv2 : v ≤ sZ S + 6 ∧ sZ S < v
        · have eT : sT (sMul S) v = 100 := by rw [sT_sMul, if_neg hv1, if_pos ⟨hv2.2, hv2.1⟩]
          have eN : sN (sMul S) v = 3 := by rw [sN_sMul, if_neg hv1, if_pos ⟨hv2.2, hv2.1⟩]
          refine ⟨by rw [eT]; exact Or.inr ⟨by omega, by omega⟩, ?_⟩
          unfold sAt
          rw [eT, if_neg (by omega)]
          unfold sE smE
          rw [eT, if_neg (by omega), if_pos (by omega), eN]
          show F.heap[gB G + v]? = some (vp_cell _ _)
          have := fi (v - sZ S - 1) (by omega)
          rw [show H.size + 1 + (v - sZ S - 1) = gB G + v by omega] at this
          rw [this, vp_cell_i, hco]
          congr 2
          funext j
          rw [iMul_ap, if_pos ⟨by omega, hv2.1⟩]
          rfl
        · rw [sT_sMul, if_neg hv1, if_neg (fun z => hv2 ⟨z.2, z.1⟩)] at hv ⊢
          obtain ⟨q1, q2⟩ := g4 v hv (by omega)
          exact ⟨q1, q2.kept (by rw [sT_sMul, if_neg hv1, if_neg (fun z => hv2 ⟨z.2, z.1⟩)]) (by rw [sN_sMul, if_neg hv1, if_neg (fun z => hv2 ⟨z.2, z.1⟩)]) (by funext j; rw [iMul_ap, if_neg (fun z => by omega)]) (by funext j; rw [sP_sMul, if_neg hv1, if_neg (fun z => hv2 ⟨z.2, z.1⟩)]) (fo _ (by omega))⟩
    · rw [sZ_sMul] at h9
      rw [sT_sMul, if_neg (by omega), if_neg (by omega)]
      exact g5 v (by omega) hF9
    · rw [sT_sMul, if_neg (by omega), if_neg (by omega)]
      exact g6 v hF9
    · rw [sN_sMul]
      split
      · omega
      · split
        · omega
        · exact g7 v
    · rw [iMul_ap]
      split
      · exact inR_0
      · exact g8 v k
    · rw [sT_sMul, if_neg (by omega), if_neg (by omega)] at q
      obtain ⟨x1, x2⟩ := g9 q
      rw [sN_sMul, if_neg (by omega), if_neg (by omega), show iMul I (sZ S) smF = I smF by funext j; rw [iMul_ap, if_neg (by omega)]]
      exact ⟨x1.kept (fo _ (by omega)), x2⟩
  have q' := q F.heap locs (cells + 1 + 6) (slots + 6 + 6 * 3) hRH (hs.mk (by rw [f1.1]; omega) fo) (by rw [sC_sMul]; omega) (by rw [sB_sMul]; omega)
  rw [List.map_cons, rV_R, rR, Option.map_some, rA_lt (by omega), ← hS] at q'
  obtain ⟨t9, a1, b1⟩ := q' F rfl X1
  exact ⟨t9, st9 t9 (by rw [hT]; exact a1), b1⟩
end XC9
