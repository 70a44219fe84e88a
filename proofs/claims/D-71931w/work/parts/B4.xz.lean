/-! what train answers -- @IDX -/
set_option maxRecDepth 100000
theorem trn_n {r : Int → Int} {t w : Int} (h : ¬ (0 ≤ t ∧ t ≤ r 1 - 1)) : trnV (rS r) t w = -1 := by unfold trnV; exact if_pos h
theorem trn_o {r : Int → Int} {t w : Int} (h : 0 ≤ t ∧ t ≤ r 1 - 1) (hw : w = 0 ∨ w = 1 ∨ w = 2 ∨ w = 4 ∨ w = 5) : trnV (rS r) t w = r (34 + 6 * t + w) := by unfold trnV; exact (if_neg (fun z => z h)).trans (if_pos hw)
theorem trn_3 {r : Int → Int} {t w : Int} (h : 0 ≤ t ∧ t ≤ r 1 - 1) (hw : w = 3) : trnV (rS r) t w = if r (34 + 6 * t + 3) = r (34 + 6 * t + 1) then -4 else r (34 + 6 * t + 3) := by unfold trnV; exact (if_neg (fun z => z h)).trans ((if_neg (by omega)).trans (if_pos hw))
theorem trn_6 {r : Int → Int} {t w : Int} (h : 0 ≤ t ∧ t ≤ r 1 - 1) (hw : w = 6) : trnV (rS r) t w = msl (rS r) t := by unfold trnV; exact (if_neg (fun z => z h)).trans ((if_neg (by omega)).trans ((if_neg (by omega)).trans (if_pos hw)))
theorem trn_b {r : Int → Int} {t w : Int} (hw : w < 0 ∨ 6 < w) : trnV (rS r) t w = -1 := by
  unfold trnV
  by_cases h : 0 ≤ t ∧ t ≤ r 1 - 1
  · exact (if_neg (fun z => z h)).trans ((if_neg (by omega)).trans ((if_neg (by omega)).trans (if_neg (by omega))))
  · exact if_pos h
theorem b_X0_train {d : Nat} {Rq : SmQ} {S : SmS} {I : SmI} {t w : Int} {r : Int → Int} (hX : XSk S) (hW : WR r) (hA : LnR r 2 I) (hR : Rq (.inl (some (vI (trnV (rS r) t w)))) S I) : SW mi_X0_train 0 (d + 3) Rq [some (vR (some 0)), some (vI t), some (vI w)] [] S I := by
  have h4 := hW.1.2.1
  have e10 : I 2 10 = r 1 := hA.1.1
  by_cases a : 0 ≤ t ∧ t ≤ r 1 - 1
  · have t0 := a.1
    have t1 : t < r 1 := by omega
    have t4 : t < 4 := by omega
    have e6 := Ln_still hW hA t0 t1
    obtain ⟨f1, f2, f3⟩ := hA.2.1.2 t t0 t1
    obtain ⟨g1, g2, g3⟩ := hA.1.2.2 t t0 t1
    obtain ⟨w1, w2, w3, w4, w5, w6, w7⟩ := hW.2.2.2 t t0 t1
    have hb := Ln_at hW hA t0 t1
    have hp : ∀ p : Int, 0 ≤ p → p < 6 → 0 ≤ I 11 p ∧ I 11 p ≤ 9 := fun p p0 p1 => by
      have e := (hA.1.2.1 p p0 p1).2.1
      have q := (hW.2.1 p p0 p1)
      have e' : I 11 p = r (4 + 5 * p + 4) := e
      rw [e']
      omega
    simp only [Nat.reduceAdd] at f1 f2 f3 g1 g2 g3 hb
    have p := hW.1.1
    have a1 := a.2
    have h2 : 0 ≤ r (34 + 6 * t + 1) ∧ r (34 + 6 * t + 1) < 6 := by omega
    have o0 := fun z : w = 0 => trn_o (r := r) a (Or.inl z)
    have o1 := fun z : w = 1 => trn_o (r := r) a (Or.inr (Or.inl z))
    have o2 := fun z : w = 2 => trn_o (r := r) a (Or.inr (Or.inr (Or.inl z)))
    have o3 := fun z : w = 3 => trn_3 (r := r) a z
    have o4 := fun z : w = 4 => trn_o (r := r) a (Or.inr (Or.inr (Or.inr (Or.inl z))))
    have o5 := fun z : w = 5 => trn_o (r := r) a (Or.inr (Or.inr (Or.inr (Or.inr z))))
    have o6 := fun z : w = 6 => (trn_6 (r := r) a z).trans e6.symm
    have ob := fun z : w < 0 ∨ 6 < w => trn_b (r := r) (t := t) z
    by_cases s : r (34 + 6 * t + 4) = 1
    · have z14 : I 16 t = 1 := by rw [f2, tf_t s]
      have f9 := f3 (by omega)
      refine rv_X0_train_0 ?_
      simp +contextual (disch := omega) only [tr_X0_train_0, im_ic, im_lc, im_nul, im_iload, im_lload, im_aload, im_istore, im_astore, im_lstore, im_iinc, im_iadd, im_isub, im_imul, im_iand, im_ior, im_ishl, im_ishr, im_iushr, im_idiv, im_irem, im_ineg, im_i2l, im_l2i, im_i2b, im_i2s, im_ladd, im_lcmp, im_dup, im_pop, im_dup_x1, im_dup2, im_ceq, im_cne, im_clt, im_cge, im_cgt, im_cle, im_zeq, im_zne, im_zlt, im_zge, im_zgt, im_zle, im_ifnull, im_ifnn, im_acmpeq, im_acmpne, im_getI, im_getR, im_putI, im_putZ, im_putR, im_ald, im_iast, im_bast, im_sast, im_zast, im_aald, im_alen, im_new, im_newa, im_newq, im_tsw, im_lsw, tswA, lswA, im_callS_eq, im_callV_eq, chk_i, chk_T, dOk_i, tf_0, tf_n0, tf_1, tf_01, tf_F, tf_T, tf_em, tf_me, im_min, im_max, im_abs, ↓reduceIte, Int.zero_add, Int.add_zero, Int.one_mul, Int.mul_one, Int.ediv_one, Int.sub_zero, im_ireturn, im_zreturn, im_areturn, im_return, im_objinit, popI_eq, popII_eq, popJ_eq, popJJ_eq, popR_eq, popRR_eq, popV_eq, popVV_eq, popA_eq, popIA_eq, popIIA_eq, popRA_eq, popRIA_eq, getI, getJ, getR, cat1, wsum, List.take_succ_cons, List.take_zero, List.drop_succ_cons, List.drop_zero, List.reverse_cons, List.reverse_nil, List.nil_append, List.cons_append, List.length_cons, List.length_nil, true_and, and_true, and_self, ne_eq, not_false_eq_true, not_true_eq_false, Classical.not_not, false_or, or_false, true_or, or_true, imp_self, forall_const, forall_eq, implies_true, true_implies, false_implies, Nat.reduceAdd, Nat.reduceLeDiff, Nat.reduceEqDiff, Nat.reduceSub, Int.reduceNeg, Int.reduceEq, Int.reduceLT, Int.reduceLE, Int.reduceNe, Int.reduceAdd, Int.reduceSub, Nat.le_refl, Nat.zero_le, reduceCtorEq, Option.some.injEq, lg0_, lg1_, lg2_, lg3_, lg4_, lg5_, lg6_, lg7_, lg8_, lg9_, lg10_, lg11_, lg12_, lg13_, lg14_, lg15_, ls0_, ls1_, ls2_, ls3_, ls4_, ls5_, ls6_, ls7_, ls8_, ls9_, ls10_, ls11_, ls12_, ls13_, ls14_, ls15_, nl0_, nl1_, nl2_, nl3_, nl4_, nl5_, nl6_, nl7_, nl8_, nl9_, nl10_, nl11_, nl12_, nl13_, nl14_, nl15_, nlO_n, nlO_I, nlO_R, w32_i, XSk_t0 hX, XSk_p0 hX, XSk_t1 hX, XSk_n1 hX, XSk_p3 hX, XSk_p4 hX, XSk_p6 hX, XSk_t24 hX, XSk_q0 hX, XSk_q2 hX, XSk_t25 hX, XSk_t26 hX, XSk_n26 hX, XSk_p7 hX, XSk_p8 hX, XSk_t43 hX, XSk_n43 hX, XSk_i0 hX, XSk_i1 hX, XSk_t44 hX, XSk_j0 hX, XSk_j1 hX, XSk_t63 hX, XSk_k0 hX, XSk_k1 hX, XSk_p9 hX, XSk_t82 hX, XSk_a0 hX, XSk_a1 hX, XSk_p10 hX, XSk_t101 hX, XSk_n101 hX, XSk_s0 hX, XSk_s1 hX, XSk_s2 hX, XSk_s3 hX, XSk_t102 hX, XSk_t103 hX, XSk_t104 hX, XSk_t105 hX, now_t (XSk_now hX), now_p0 (XSk_now hX), now_t1 (XSk_now hX), now_n1 (XSk_now hX), now_rp (XSk_now hX), now_rt (XSk_now hX), now_rn (XSk_now hX), now_p1 (XSk_now hX), now_t8 (XSk_now hX), now_n8 (XSk_now hX), now_p2 (XSk_now hX), now_t9 (XSk_now hX), now_n9 (XSk_now hX), now_p4 (XSk_now hX), now_t10 (XSk_now hX), now_n10 (XSk_now hX), now_p5 (XSk_now hX), now_t11 (XSk_now hX), now_n11 (XSk_now hX), now_p6 (XSk_now hX), now_t12 (XSk_now hX), now_n12 (XSk_now hX), now_p7 (XSk_now hX), now_t13 (XSk_now hX), now_n13 (XSk_now hX), now_p8 (XSk_now hX), now_t14 (XSk_now hX), now_n14 (XSk_now hX), now_p9 (XSk_now hX), now_t15 (XSk_now hX), now_n15 (XSk_now hX), im_p_X0_isTrain, e10, t0, t1, t4, a1, im_p_X1_isDone, im_p_X1_still, z14, f1, g1, g2, g3, h2, hb]
      have hN := XSk_now hX
      refine ⟨hX, ⟨fun z => ?_, fun z => ?_, fun z => ?_, fun z => ⟨fun y => ?_, fun y => ?_⟩, fun z => ?_, fun z => ?_, fun z => ⟨hN, hp, ?_⟩⟩, fun z => ?_⟩
      · rw [o0 z, z, Int.add_zero] at hR; exact hR
      · rw [o1 z, z] at hR; exact hR
      · rw [o2 z, z] at hR; exact hR
      · rw [o3 z, if_neg y] at hR; exact hR
      · rw [o3 z, if_pos y] at hR; exact hR
      · rw [o4 z, z, s] at hR; exact hR
      · rw [o5 z, z, ← f9] at hR; exact hR
      · rw [o6 z] at hR; exact hR
      · rw [ob z] at hR; exact hR
    · have z14 : I 16 t = 0 := by rw [f2, tf_f s]
      refine rv_X0_train_0 ?_
      simp +contextual (disch := omega) only [tr_X0_train_0, im_ic, im_lc, im_nul, im_iload, im_lload, im_aload, im_istore, im_astore, im_lstore, im_iinc, im_iadd, im_isub, im_imul, im_iand, im_ior, im_ishl, im_ishr, im_iushr, im_idiv, im_irem, im_ineg, im_i2l, im_l2i, im_i2b, im_i2s, im_ladd, im_lcmp, im_dup, im_pop, im_dup_x1, im_dup2, im_ceq, im_cne, im_clt, im_cge, im_cgt, im_cle, im_zeq, im_zne, im_zlt, im_zge, im_zgt, im_zle, im_ifnull, im_ifnn, im_acmpeq, im_acmpne, im_getI, im_getR, im_putI, im_putZ, im_putR, im_ald, im_iast, im_bast, im_sast, im_zast, im_aald, im_alen, im_new, im_newa, im_newq, im_tsw, im_lsw, tswA, lswA, im_callS_eq, im_callV_eq, chk_i, chk_T, dOk_i, tf_0, tf_n0, tf_1, tf_01, tf_F, tf_T, tf_em, tf_me, im_min, im_max, im_abs, ↓reduceIte, Int.zero_add, Int.add_zero, Int.one_mul, Int.mul_one, Int.ediv_one, Int.sub_zero, im_ireturn, im_zreturn, im_areturn, im_return, im_objinit, popI_eq, popII_eq, popJ_eq, popJJ_eq, popR_eq, popRR_eq, popV_eq, popVV_eq, popA_eq, popIA_eq, popIIA_eq, popRA_eq, popRIA_eq, getI, getJ, getR, cat1, wsum, List.take_succ_cons, List.take_zero, List.drop_succ_cons, List.drop_zero, List.reverse_cons, List.reverse_nil, List.nil_append, List.cons_append, List.length_cons, List.length_nil, true_and, and_true, and_self, ne_eq, not_false_eq_true, not_true_eq_false, Classical.not_not, false_or, or_false, true_or, or_true, imp_self, forall_const, forall_eq, implies_true, true_implies, false_implies, Nat.reduceAdd, Nat.reduceLeDiff, Nat.reduceEqDiff, Nat.reduceSub, Int.reduceNeg, Int.reduceEq, Int.reduceLT, Int.reduceLE, Int.reduceNe, Int.reduceAdd, Int.reduceSub, Nat.le_refl, Nat.zero_le, reduceCtorEq, Option.some.injEq, lg0_, lg1_, lg2_, lg3_, lg4_, lg5_, lg6_, lg7_, lg8_, lg9_, lg10_, lg11_, lg12_, lg13_, lg14_, lg15_, ls0_, ls1_, ls2_, ls3_, ls4_, ls5_, ls6_, ls7_, ls8_, ls9_, ls10_, ls11_, ls12_, ls13_, ls14_, ls15_, nl0_, nl1_, nl2_, nl3_, nl4_, nl5_, nl6_, nl7_, nl8_, nl9_, nl10_, nl11_, nl12_, nl13_, nl14_, nl15_, nlO_n, nlO_I, nlO_R, w32_i, XSk_t0 hX, XSk_p0 hX, XSk_t1 hX, XSk_n1 hX, XSk_p3 hX, XSk_p4 hX, XSk_p6 hX, XSk_t24 hX, XSk_q0 hX, XSk_q2 hX, XSk_t25 hX, XSk_t26 hX, XSk_n26 hX, XSk_p7 hX, XSk_p8 hX, XSk_t43 hX, XSk_n43 hX, XSk_i0 hX, XSk_i1 hX, XSk_t44 hX, XSk_j0 hX, XSk_j1 hX, XSk_t63 hX, XSk_k0 hX, XSk_k1 hX, XSk_p9 hX, XSk_t82 hX, XSk_a0 hX, XSk_a1 hX, XSk_p10 hX, XSk_t101 hX, XSk_n101 hX, XSk_s0 hX, XSk_s1 hX, XSk_s2 hX, XSk_s3 hX, XSk_t102 hX, XSk_t103 hX, XSk_t104 hX, XSk_t105 hX, now_t (XSk_now hX), now_p0 (XSk_now hX), now_t1 (XSk_now hX), now_n1 (XSk_now hX), now_rp (XSk_now hX), now_rt (XSk_now hX), now_rn (XSk_now hX), now_p1 (XSk_now hX), now_t8 (XSk_now hX), now_n8 (XSk_now hX), now_p2 (XSk_now hX), now_t9 (XSk_now hX), now_n9 (XSk_now hX), now_p4 (XSk_now hX), now_t10 (XSk_now hX), now_n10 (XSk_now hX), now_p5 (XSk_now hX), now_t11 (XSk_now hX), now_n11 (XSk_now hX), now_p6 (XSk_now hX), now_t12 (XSk_now hX), now_n12 (XSk_now hX), now_p7 (XSk_now hX), now_t13 (XSk_now hX), now_n13 (XSk_now hX), now_p8 (XSk_now hX), now_t14 (XSk_now hX), now_n14 (XSk_now hX), now_p9 (XSk_now hX), now_t15 (XSk_now hX), now_n15 (XSk_now hX), im_p_X0_isTrain, e10, t0, t1, t4, a1, im_p_X1_isDone, im_p_X1_still, z14, f1, g1, g2, g3, h2, hb]
      have hN := XSk_now hX
      refine ⟨hX, ⟨fun z => ?_, fun z => ?_, fun z => ?_, fun z => ⟨fun y => ?_, fun y => ?_⟩, fun z => ⟨hN, fun y => ?_, fun y => ?_⟩, fun z => ⟨hN, fun y => ?_, fun y => ?_⟩, fun z => ⟨hN, hp, ?_⟩⟩, fun z => ?_⟩
      · rw [o0 z, z, Int.add_zero] at hR; exact hR
      · rw [o1 z, z] at hR; exact hR
      · rw [o2 z, z] at hR; exact hR
      · rw [o3 z, if_neg y] at hR; exact hR
      · rw [o3 z, if_pos y] at hR; exact hR
      · rw [o4 z, z, show r (34 + 6 * t + 4) = 0 by omega] at hR; exact hR
      · rw [o4 z, z, show r (34 + 6 * t + 4) = 2 by omega] at hR; exact hR
      · rw [o5 z, z, show r (34 + 6 * t + 5) = -4 by omega] at hR; exact hR
      · rw [o5 z, z, ← f3 (by omega)] at hR; exact hR
      · rw [o6 z] at hR; exact hR
      · rw [ob z] at hR; exact hR
  · rw [trn_n a] at hR
    refine rv_X0_train_0 ?_
    simp +contextual (disch := omega) only [tr_X0_train_0, im_ic, im_lc, im_nul, im_iload, im_lload, im_aload, im_istore, im_astore, im_lstore, im_iinc, im_iadd, im_isub, im_imul, im_iand, im_ior, im_ishl, im_ishr, im_iushr, im_idiv, im_irem, im_ineg, im_i2l, im_l2i, im_i2b, im_i2s, im_ladd, im_lcmp, im_dup, im_pop, im_dup_x1, im_dup2, im_ceq, im_cne, im_clt, im_cge, im_cgt, im_cle, im_zeq, im_zne, im_zlt, im_zge, im_zgt, im_zle, im_ifnull, im_ifnn, im_acmpeq, im_acmpne, im_getI, im_getR, im_putI, im_putZ, im_putR, im_ald, im_iast, im_bast, im_sast, im_zast, im_aald, im_alen, im_new, im_newa, im_newq, im_tsw, im_lsw, tswA, lswA, im_callS_eq, im_callV_eq, chk_i, chk_T, dOk_i, tf_0, tf_n0, tf_1, tf_01, tf_F, tf_T, tf_em, tf_me, im_min, im_max, im_abs, ↓reduceIte, Int.zero_add, Int.add_zero, Int.one_mul, Int.mul_one, Int.ediv_one, Int.sub_zero, im_ireturn, im_zreturn, im_areturn, im_return, im_objinit, popI_eq, popII_eq, popJ_eq, popJJ_eq, popR_eq, popRR_eq, popV_eq, popVV_eq, popA_eq, popIA_eq, popIIA_eq, popRA_eq, popRIA_eq, getI, getJ, getR, cat1, wsum, List.take_succ_cons, List.take_zero, List.drop_succ_cons, List.drop_zero, List.reverse_cons, List.reverse_nil, List.nil_append, List.cons_append, List.length_cons, List.length_nil, true_and, and_true, and_self, ne_eq, not_false_eq_true, not_true_eq_false, Classical.not_not, false_or, or_false, true_or, or_true, imp_self, forall_const, forall_eq, implies_true, true_implies, false_implies, Nat.reduceAdd, Nat.reduceLeDiff, Nat.reduceEqDiff, Nat.reduceSub, Int.reduceNeg, Int.reduceEq, Int.reduceLT, Int.reduceLE, Int.reduceNe, Int.reduceAdd, Int.reduceSub, Nat.le_refl, Nat.zero_le, reduceCtorEq, Option.some.injEq, lg0_, lg1_, lg2_, lg3_, lg4_, lg5_, lg6_, lg7_, lg8_, lg9_, lg10_, lg11_, lg12_, lg13_, lg14_, lg15_, ls0_, ls1_, ls2_, ls3_, ls4_, ls5_, ls6_, ls7_, ls8_, ls9_, ls10_, ls11_, ls12_, ls13_, ls14_, ls15_, nl0_, nl1_, nl2_, nl3_, nl4_, nl5_, nl6_, nl7_, nl8_, nl9_, nl10_, nl11_, nl12_, nl13_, nl14_, nl15_, nlO_n, nlO_I, nlO_R, w32_i, XSk_t0 hX, XSk_p0 hX, XSk_t1 hX, XSk_n1 hX, XSk_p3 hX, XSk_p4 hX, XSk_p6 hX, XSk_t24 hX, XSk_q0 hX, XSk_q2 hX, XSk_t25 hX, XSk_t26 hX, XSk_n26 hX, XSk_p7 hX, XSk_p8 hX, XSk_t43 hX, XSk_n43 hX, XSk_i0 hX, XSk_i1 hX, XSk_t44 hX, XSk_j0 hX, XSk_j1 hX, XSk_t63 hX, XSk_k0 hX, XSk_k1 hX, XSk_p9 hX, XSk_t82 hX, XSk_a0 hX, XSk_a1 hX, XSk_p10 hX, XSk_t101 hX, XSk_n101 hX, XSk_s0 hX, XSk_s1 hX, XSk_s2 hX, XSk_s3 hX, XSk_t102 hX, XSk_t103 hX, XSk_t104 hX, XSk_t105 hX, now_t (XSk_now hX), now_p0 (XSk_now hX), now_t1 (XSk_now hX), now_n1 (XSk_now hX), now_rp (XSk_now hX), now_rt (XSk_now hX), now_rn (XSk_now hX), now_p1 (XSk_now hX), now_t8 (XSk_now hX), now_n8 (XSk_now hX), now_p2 (XSk_now hX), now_t9 (XSk_now hX), now_n9 (XSk_now hX), now_p4 (XSk_now hX), now_t10 (XSk_now hX), now_n10 (XSk_now hX), now_p5 (XSk_now hX), now_t11 (XSk_now hX), now_n11 (XSk_now hX), now_p6 (XSk_now hX), now_t12 (XSk_now hX), now_n12 (XSk_now hX), now_p7 (XSk_now hX), now_t13 (XSk_now hX), now_n13 (XSk_now hX), now_p8 (XSk_now hX), now_t14 (XSk_now hX), now_n14 (XSk_now hX), now_p9 (XSk_now hX), now_t15 (XSk_now hX), now_n15 (XSk_now hX), im_p_X0_isTrain, e10, a]
    exact ⟨hX, hR⟩
theorem c_X0_train {d : Nat} {Rq : SmQ} {S : SmS} {I : SmI} {t w : Int} {r : Int → Int} (hX : XSk S) (hW : WR r) (hA : LnR r 2 I) (hR : Rq (.inl (some (vI (trnV (rS r) t w)))) S I) : SC mi_X0_train (d + 3) [vR (some 0), vI t, vI w] S I Rq := SC_of0 (Nat.le_of_ble_eq_true rfl) (b_X0_train (S := sBud S 0 0) hX hW hA hR)