/-! new cells and what stays; trains arrive -- @IDX -/
set_option maxRecDepth 100000
/-- new cells above, the old as they were but for X (numbers) and Y (ties) -/
def wld (X Y : Nat → Prop) (S S' : SmS) (I I' : SmI) : Prop := sZ S ≤ sZ S' ∧ ∀ v, (v < sZ S ∨ sZ S' ≤ v) → sT S' v = sT S v ∧ sN S' v = sN S v ∧ (¬ Y v → sP S' v = sP S v) ∧ (¬ X v → I' v = I v)
theorem wld_refl {X Y : Nat → Prop} {S : SmS} {I : SmI} : wld X Y S S I I := ⟨Nat.le_refl _, fun _ _ => ⟨rfl, rfl, fun _ => rfl, fun _ => rfl⟩⟩
theorem wld_trans {X Y : Nat → Prop} {S S1 S2 : SmS} {I I1 I2 : SmI} (h : wld X Y S S1 I I1) (h2 : wld X Y S1 S2 I1 I2) : wld X Y S S2 I I2 := ⟨Nat.le_trans h.1 h2.1, fun v hv => by
  obtain ⟨a1, a2, a3, a4⟩ := h.2 v (by have := h2.1; omega)
  obtain ⟨b1, b2, b3, b4⟩ := h2.2 v (by have := h.1; omega)
  exact ⟨b1.trans a1, b2.trans a2, fun q => (b3 q).trans (a3 q), fun q => (b4 q).trans (a4 q)⟩⟩
theorem wld_mono {X Y X' Y' : Nat → Prop} {S S1 : SmS} {I I1 : SmI} (h : wld X Y S S1 I I1) (hX : ∀ v, X v → X' v) (hY : ∀ v, Y v → Y' v) : wld X' Y' S S1 I I1 := ⟨h.1, fun v hv => by
  obtain ⟨a1, a2, a3, a4⟩ := h.2 v hv
  exact ⟨a1, a2, fun q => a3 (fun z => q (hY v z)), fun q => a4 (fun z => q (hX v z))⟩⟩
/-- where only numbers change -/
theorem wld_I {X Y : Nat → Prop} {S : SmS} {I I' : SmI} (h : ∀ v, ¬ X v → I' v = I v) : wld X Y S S I I' := ⟨Nat.le_refl _, fun v _ => ⟨rfl, rfl, fun _ => rfl, h v⟩⟩
theorem wld_bud {X Y : Nat → Prop} {S S' : SmS} {I I' : SmI} {c b c' b' : Nat} (h : wld X Y (sBud S c b) S' I I') : wld X Y S (sBud S' c' b') I I' := h
theorem XSk_w {X Y : Nat → Prop} {S S' : SmS} {I I' : SmI} (h : XSk S) (hw : wld X Y S S' I I') (hz : 106 ≤ sZ S) (hY : ∀ v j, v < 106 → Y v → xTie v j) : XSk S' := XSk_cg h ⟨fun v hv => by
  obtain ⟨a1, a2, _⟩ := hw.2 v (by omega)
  exact ⟨a1, a2⟩, fun v j hv hj => by
  obtain ⟨_, _, a3, _⟩ := hw.2 v (by omega)
  rw [a3 (fun z => hj (hY v j hv z))]⟩
/-- X's queue is all right and empty -/
def qE (S : SmS) (I : SmI) : Prop := I 24 1 = 0
theorem XSk_q {S : SmS} (h : XSk S) : qSk S := ⟨XSk_t24 h, XSk_q0 h, XSk_q2 h, XSk_t25 h, XSk_t26 h, XSk_n26 h⟩
theorem c_X0_beforeBy {d : Nat} {Rq : SmQ} {S : SmS} {I : SmI} {b : Nat} {q : Int} (hC : 1 ≤ sC S) (hB : 2 ≤ sB S) (q0 : 0 ≤ q) (q2 : q ≤ 2) (hR : ∀ (S' : SmS) (I' : SmI), wld (fun _ => False) (fun _ => False) S S' I I' → sZ S' = sZ S + 1 → befR S' (sZ S) q b → sC S' = sC S - 1 → sB S' = sB S - 2 → Rq (.inl (some (vR (some (sZ S))))) S' I') : SC mi_X0_beforeBy d [vR (some 0), vR (some b), vI q] S I Rq := by
  refine SC_of (Nat.le_of_ble_eq_true rfl) 1 2 hC hB ?_
  show SW mi_X0_beforeBy 0 d _ [some (vR (some 0)), some (vR (some b)), some (vI q)] [] (sBud S 1 2) I
  have w : ∀ (t a : Nat) (k : Nat), wld (fun _ => False) (fun _ => False) S (sBud (sPut (sNew (sBud S 1 2) t 0 2) (sZ S) 0 (some a)) (sC S - 1) (sB S - 2)) I (iNew I (sZ S)) := fun t a k => ⟨by show sZ S ≤ sZ S + 1; omega, fun v hv => by
    have hv2 : v ≠ sZ S := by have e : sZ (sBud (sPut (sNew (sBud S 1 2) t 0 2) (sZ S) 0 (some a)) (sC S - 1) (sB S - 2)) = sZ S + 1 := rfl
                              rw [e] at hv; omega
    refine ⟨if_neg hv2, if_neg hv2, fun _ => ?_, fun _ => ?_⟩
    · show sP (sPut (sNew (sBud S 1 2) t 0 2) (sZ S) 0 (some a)) v = sP S v
      rw [sPut_ne hv2]; funext j; exact if_neg hv2
    · funext j; exact if_neg hv2⟩
  have t9 : ∀ t a : Nat, sT (sBud (sPut (sNew (sBud S 1 2) t 0 2) (sZ S) 0 (some a)) (sC S - 1) (sB S - 2)) (sZ S) = t := fun t a => if_pos rfl
  have p9 : ∀ t a : Nat, sP (sBud (sPut (sNew (sBud S 1 2) t 0 2) (sZ S) 0 (some a)) (sC S - 1) (sB S - 2)) (sZ S) 0 = some a := fun t a => sPut_eq
  have hz : sZ (sBud S 1 2) = sZ S := rfl
  have hc1 : sC (sBud S 1 2) = 1 := rfl
  have hb1 : sB (sBud S 1 2) = 2 := rfl
  by_cases z0 : q = 0
  · have h9 := hR _ _ (w 55 0 0) rfl (Or.inl ⟨z0, t9 55 0, p9 55 0⟩) rfl rfl
    subst z0
    refine rv_X0_beforeBy_0 ?_
    simp +contextual (disch := omega) only [tr_X0_beforeBy_0, im_ic, im_lc, im_nul, im_iload, im_lload, im_aload, im_istore, im_astore, im_lstore, im_iinc, im_iadd, im_isub, im_imul, im_iand, im_ior, im_ishl, im_ishr, im_iushr, im_idiv, im_irem, im_ineg, im_i2l, im_l2i, im_i2b, im_i2s, im_ladd, im_lcmp, im_dup, im_pop, im_dup_x1, im_dup2, im_ceq, im_cne, im_clt, im_cge, im_cgt, im_cle, im_zeq, im_zne, im_zlt, im_zge, im_zgt, im_zle, im_ifnull, im_ifnn, im_acmpeq, im_acmpne, im_getI, im_getR, im_putI, im_putZ, im_putR, im_ald, im_iast, im_bast, im_sast, im_zast, im_aald, im_alen, im_new, im_newa, im_newq, im_tsw, im_lsw, tswA, lswA, im_callS_eq, im_callV_eq, chk_i, chk_T, dOk_i, tf_0, tf_n0, tf_1, tf_01, tf_F, tf_T, tf_em, tf_me, im_min, im_max, im_abs, ↓reduceIte, Int.zero_add, Int.add_zero, Int.one_mul, Int.mul_one, Int.ediv_one, Int.sub_zero, im_ireturn, im_zreturn, im_areturn, im_return, im_objinit, popI_eq, popII_eq, popJ_eq, popJJ_eq, popR_eq, popRR_eq, popV_eq, popVV_eq, popA_eq, popIA_eq, popIIA_eq, popRA_eq, popRIA_eq, getI, getJ, getR, cat1, wsum, List.take_succ_cons, List.take_zero, List.drop_succ_cons, List.drop_zero, List.reverse_cons, List.reverse_nil, List.nil_append, List.cons_append, List.length_cons, List.length_nil, true_and, and_true, and_self, ne_eq, not_false_eq_true, not_true_eq_false, Classical.not_not, false_or, or_false, true_or, or_true, imp_self, forall_const, forall_eq, implies_true, true_implies, false_implies, Nat.reduceAdd, Nat.reduceLeDiff, Nat.reduceEqDiff, Nat.reduceSub, Int.reduceNeg, Int.reduceEq, Int.reduceLT, Int.reduceLE, Int.reduceNe, Int.reduceAdd, Int.reduceSub, Nat.le_refl, Nat.zero_le, reduceCtorEq, Option.some.injEq, lg0_, lg1_, lg2_, lg3_, lg4_, lg5_, lg6_, lg7_, lg8_, lg9_, lg10_, lg11_, lg12_, lg13_, lg14_, lg15_, ls0_, ls1_, ls2_, ls3_, ls4_, ls5_, ls6_, ls7_, ls8_, ls9_, ls10_, ls11_, ls12_, ls13_, ls14_, ls15_, nl0_, nl1_, nl2_, nl3_, nl4_, nl5_, nl6_, nl7_, nl8_, nl9_, nl10_, nl11_, nl12_, nl13_, nl14_, nl15_, nlO_n, nlO_I, nlO_R, w32_i, im_dyn, hz, hc1, hb1]
    exact h9
  · by_cases z1 : q = 1
    · have h9 := hR _ _ (w 56 b 0) rfl (Or.inr (Or.inl ⟨z1, t9 56 b, p9 56 b⟩)) rfl rfl
      subst z1
      refine rv_X0_beforeBy_0 ?_
      simp +contextual (disch := omega) only [tr_X0_beforeBy_0, im_ic, im_lc, im_nul, im_iload, im_lload, im_aload, im_istore, im_astore, im_lstore, im_iinc, im_iadd, im_isub, im_imul, im_iand, im_ior, im_ishl, im_ishr, im_iushr, im_idiv, im_irem, im_ineg, im_i2l, im_l2i, im_i2b, im_i2s, im_ladd, im_lcmp, im_dup, im_pop, im_dup_x1, im_dup2, im_ceq, im_cne, im_clt, im_cge, im_cgt, im_cle, im_zeq, im_zne, im_zlt, im_zge, im_zgt, im_zle, im_ifnull, im_ifnn, im_acmpeq, im_acmpne, im_getI, im_getR, im_putI, im_putZ, im_putR, im_ald, im_iast, im_bast, im_sast, im_zast, im_aald, im_alen, im_new, im_newa, im_newq, im_tsw, im_lsw, tswA, lswA, im_callS_eq, im_callV_eq, chk_i, chk_T, dOk_i, tf_0, tf_n0, tf_1, tf_01, tf_F, tf_T, tf_em, tf_me, im_min, im_max, im_abs, ↓reduceIte, Int.zero_add, Int.add_zero, Int.one_mul, Int.mul_one, Int.ediv_one, Int.sub_zero, im_ireturn, im_zreturn, im_areturn, im_return, im_objinit, popI_eq, popII_eq, popJ_eq, popJJ_eq, popR_eq, popRR_eq, popV_eq, popVV_eq, popA_eq, popIA_eq, popIIA_eq, popRA_eq, popRIA_eq, getI, getJ, getR, cat1, wsum, List.take_succ_cons, List.take_zero, List.drop_succ_cons, List.drop_zero, List.reverse_cons, List.reverse_nil, List.nil_append, List.cons_append, List.length_cons, List.length_nil, true_and, and_true, and_self, ne_eq, not_false_eq_true, not_true_eq_false, Classical.not_not, false_or, or_false, true_or, or_true, imp_self, forall_const, forall_eq, implies_true, true_implies, false_implies, Nat.reduceAdd, Nat.reduceLeDiff, Nat.reduceEqDiff, Nat.reduceSub, Int.reduceNeg, Int.reduceEq, Int.reduceLT, Int.reduceLE, Int.reduceNe, Int.reduceAdd, Int.reduceSub, Nat.le_refl, Nat.zero_le, reduceCtorEq, Option.some.injEq, lg0_, lg1_, lg2_, lg3_, lg4_, lg5_, lg6_, lg7_, lg8_, lg9_, lg10_, lg11_, lg12_, lg13_, lg14_, lg15_, ls0_, ls1_, ls2_, ls3_, ls4_, ls5_, ls6_, ls7_, ls8_, ls9_, ls10_, ls11_, ls12_, ls13_, ls14_, ls15_, nl0_, nl1_, nl2_, nl3_, nl4_, nl5_, nl6_, nl7_, nl8_, nl9_, nl10_, nl11_, nl12_, nl13_, nl14_, nl15_, nlO_n, nlO_I, nlO_R, w32_i, im_dyn, hz, hc1, hb1]
      exact h9
    · have z2 : q = 2 := by omega
      have h9 := hR _ _ (w 57 b 0) rfl (Or.inr (Or.inr ⟨z2, t9 57 b, p9 57 b⟩)) rfl rfl
      subst z2
      refine rv_X0_beforeBy_0 ?_
      simp +contextual (disch := omega) only [tr_X0_beforeBy_0, im_ic, im_lc, im_nul, im_iload, im_lload, im_aload, im_istore, im_astore, im_lstore, im_iinc, im_iadd, im_isub, im_imul, im_iand, im_ior, im_ishl, im_ishr, im_iushr, im_idiv, im_irem, im_ineg, im_i2l, im_l2i, im_i2b, im_i2s, im_ladd, im_lcmp, im_dup, im_pop, im_dup_x1, im_dup2, im_ceq, im_cne, im_clt, im_cge, im_cgt, im_cle, im_zeq, im_zne, im_zlt, im_zge, im_zgt, im_zle, im_ifnull, im_ifnn, im_acmpeq, im_acmpne, im_getI, im_getR, im_putI, im_putZ, im_putR, im_ald, im_iast, im_bast, im_sast, im_zast, im_aald, im_alen, im_new, im_newa, im_newq, im_tsw, im_lsw, tswA, lswA, im_callS_eq, im_callV_eq, chk_i, chk_T, dOk_i, tf_0, tf_n0, tf_1, tf_01, tf_F, tf_T, tf_em, tf_me, im_min, im_max, im_abs, ↓reduceIte, Int.zero_add, Int.add_zero, Int.one_mul, Int.mul_one, Int.ediv_one, Int.sub_zero, im_ireturn, im_zreturn, im_areturn, im_return, im_objinit, popI_eq, popII_eq, popJ_eq, popJJ_eq, popR_eq, popRR_eq, popV_eq, popVV_eq, popA_eq, popIA_eq, popIIA_eq, popRA_eq, popRIA_eq, getI, getJ, getR, cat1, wsum, List.take_succ_cons, List.take_zero, List.drop_succ_cons, List.drop_zero, List.reverse_cons, List.reverse_nil, List.nil_append, List.cons_append, List.length_cons, List.length_nil, true_and, and_true, and_self, ne_eq, not_false_eq_true, not_true_eq_false, Classical.not_not, false_or, or_false, true_or, or_true, imp_self, forall_const, forall_eq, implies_true, true_implies, false_implies, Nat.reduceAdd, Nat.reduceLeDiff, Nat.reduceEqDiff, Nat.reduceSub, Int.reduceNeg, Int.reduceEq, Int.reduceLT, Int.reduceLE, Int.reduceNe, Int.reduceAdd, Int.reduceSub, Nat.le_refl, Nat.zero_le, reduceCtorEq, Option.some.injEq, lg0_, lg1_, lg2_, lg3_, lg4_, lg5_, lg6_, lg7_, lg8_, lg9_, lg10_, lg11_, lg12_, lg13_, lg14_, lg15_, ls0_, ls1_, ls2_, ls3_, ls4_, ls5_, ls6_, ls7_, ls8_, ls9_, ls10_, ls11_, ls12_, ls13_, ls14_, ls15_, nl0_, nl1_, nl2_, nl3_, nl4_, nl5_, nl6_, nl7_, nl8_, nl9_, nl10_, nl11_, nl12_, nl13_, nl14_, nl15_, nlO_n, nlO_I, nlO_R, w32_i, im_dyn, hz, hc1, hb1]
      exact h9
