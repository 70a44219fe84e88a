/-! the model's beginning; small answers -/
set_option maxRecDepth 100000
theorem b_X6_fault {d : Nat} {Rq : SmQ} {S : SmS} {I : SmI} (hM : MSk S) (hR : Rq (.inl (some (vI (I 106 11)))) S I) : SW mi_X6_fault 0 d Rq [some (vR (some 106))] [] S I := by
  refine rv_X6_fault_0 ?_
  simp +contextual (disch := omega) only [tr_X6_fault_0, im_ic, im_lc, im_nul, im_iload, im_lload, im_aload, im_istore, im_astore, im_lstore, im_iinc, im_iadd, im_isub, im_imul, im_iand, im_ior, im_ishl, im_ishr, im_iushr, im_idiv, im_irem, im_ineg, im_i2l, im_l2i, im_i2b, im_i2s, im_ladd, im_lcmp, im_dup, im_pop, im_dup_x1, im_dup2, im_ceq, im_cne, im_clt, im_cge, im_cgt, im_cle, im_zeq, im_zne, im_zlt, im_zge, im_zgt, im_zle, im_ifnull, im_ifnn, im_acmpeq, im_acmpne, im_getI, im_getR, im_putI, im_putZ, im_putR, im_ald, im_iast, im_bast, im_sast, im_zast, im_aald, im_alen, im_new, im_newa, im_newq, im_tsw, im_lsw, tswA, lswA, im_callS_eq, im_callV_eq, chk_i, chk_T, dOk_i, tf_0, tf_n0, tf_1, tf_01, tf_F, tf_T, tf_em, tf_me, ↓reduceIte, Int.zero_add, Int.add_zero, Int.one_mul, Int.mul_one, Int.ediv_one, Int.sub_zero, im_ireturn, im_zreturn, im_areturn, im_return, im_objinit, popI_eq, popII_eq, popJ_eq, popJJ_eq, popR_eq, popRR_eq, popV_eq, popVV_eq, popA_eq, popIA_eq, popIIA_eq, popRA_eq, popRIA_eq, getI, getJ, getR, lget_0, lget_s, nlAt, cat1, wsum, List.set_cons_zero, List.set_cons_succ, List.take_succ_cons, List.take_zero, List.drop_succ_cons, List.drop_zero, List.reverse_cons, List.reverse_nil, List.nil_append, List.cons_append, List.length_cons, List.length_nil, true_and, and_true, and_self, ne_eq, not_false_eq_true, not_true_eq_false, Classical.not_not, false_or, or_false, true_or, or_true, imp_self, forall_const, forall_eq, implies_true, true_implies, false_implies, Nat.reduceAdd, Nat.reduceLeDiff, Nat.reduceEqDiff, Nat.reduceSub, Int.reduceNeg, Int.reduceEq, Int.reduceLT, Int.reduceLE, Int.reduceNe, Int.reduceAdd, Int.reduceSub, Nat.le_refl, Nat.zero_le, reduceCtorEq, Option.some.injEq, w32_i, MSk_t106 hM, MSk_p0 hM, MSk_t107 hM, MSk_n107 hM, MSk_p1 hM, MSk_t108 hM, MSk_n108 hM, MSk_p2 hM, MSk_t109 hM, MSk_n109 hM, MSk_p3 hM, MSk_t110 hM, MSk_n110 hM, MSk_p4 hM, MSk_t111 hM, MSk_n111 hM, MSk_p5 hM, MSk_t112 hM, MSk_n112 hM, MSk_p13 hM, MSk_t113 hM, MSk_n113 hM, MSk_p14 hM, MSk_t114 hM, MSk_n114 hM, MSk_p15 hM, MSk_t115 hM, MSk_n115 hM, MSk_p16 hM, MSk_t116 hM, MSk_n116 hM, MSk_p18 hM, MSk_t117 hM, MSk_n117 hM, MSk_p20 hM, MSk_t118 hM, MSk_n118 hM, MSk_p21 hM, MSk_t119 hM, MSk_n119 hM, MSk_p22 hM, MSk_t120 hM, MSk_n120 hM]
  exact hR
theorem c_X6_fault {d : Nat} {Rq : SmQ} {S : SmS} {I : SmI} (hM : MSk S) (hR : Rq (.inl (some (vI (I 106 11)))) S I) : SC mi_X6_fault d [vR (some 106)] S I Rq := SC_of0 (Nat.le_of_ble_eq_true rfl) (b_X6_fault (S := sBud S 0 0) hM hR)
theorem b_X6_torn {d : Nat} {Rq : SmQ} {S : SmS} {I : SmI} (hM : MSk S) (hR : Rq (.inl (some (vI (I 106 23)))) S I) : SW mi_X6_torn 0 d Rq [some (vR (some 106))] [] S I := by
  refine rv_X6_torn_0 ?_
  simp +contextual (disch := omega) only [tr_X6_torn_0, im_ic, im_lc, im_nul, im_iload, im_lload, im_aload, im_istore, im_astore, im_lstore, im_iinc, im_iadd, im_isub, im_imul, im_iand, im_ior, im_ishl, im_ishr, im_iushr, im_idiv, im_irem, im_ineg, im_i2l, im_l2i, im_i2b, im_i2s, im_ladd, im_lcmp, im_dup, im_pop, im_dup_x1, im_dup2, im_ceq, im_cne, im_clt, im_cge, im_cgt, im_cle, im_zeq, im_zne, im_zlt, im_zge, im_zgt, im_zle, im_ifnull, im_ifnn, im_acmpeq, im_acmpne, im_getI, im_getR, im_putI, im_putZ, im_putR, im_ald, im_iast, im_bast, im_sast, im_zast, im_aald, im_alen, im_new, im_newa, im_newq, im_tsw, im_lsw, tswA, lswA, im_callS_eq, im_callV_eq, chk_i, chk_T, dOk_i, tf_0, tf_n0, tf_1, tf_01, tf_F, tf_T, tf_em, tf_me, ↓reduceIte, Int.zero_add, Int.add_zero, Int.one_mul, Int.mul_one, Int.ediv_one, Int.sub_zero, im_ireturn, im_zreturn, im_areturn, im_return, im_objinit, popI_eq, popII_eq, popJ_eq, popJJ_eq, popR_eq, popRR_eq, popV_eq, popVV_eq, popA_eq, popIA_eq, popIIA_eq, popRA_eq, popRIA_eq, getI, getJ, getR, lget_0, lget_s, nlAt, cat1, wsum, List.set_cons_zero, List.set_cons_succ, List.take_succ_cons, List.take_zero, List.drop_succ_cons, List.drop_zero, List.reverse_cons, List.reverse_nil, List.nil_append, List.cons_append, List.length_cons, List.length_nil, true_and, and_true, and_self, ne_eq, not_false_eq_true, not_true_eq_false, Classical.not_not, false_or, or_false, true_or, or_true, imp_self, forall_const, forall_eq, implies_true, true_implies, false_implies, Nat.reduceAdd, Nat.reduceLeDiff, Nat.reduceEqDiff, Nat.reduceSub, Int.reduceNeg, Int.reduceEq, Int.reduceLT, Int.reduceLE, Int.reduceNe, Int.reduceAdd, Int.reduceSub, Nat.le_refl, Nat.zero_le, reduceCtorEq, Option.some.injEq, w32_i, MSk_t106 hM, MSk_p0 hM, MSk_t107 hM, MSk_n107 hM, MSk_p1 hM, MSk_t108 hM, MSk_n108 hM, MSk_p2 hM, MSk_t109 hM, MSk_n109 hM, MSk_p3 hM, MSk_t110 hM, MSk_n110 hM, MSk_p4 hM, MSk_t111 hM, MSk_n111 hM, MSk_p5 hM, MSk_t112 hM, MSk_n112 hM, MSk_p13 hM, MSk_t113 hM, MSk_n113 hM, MSk_p14 hM, MSk_t114 hM, MSk_n114 hM, MSk_p15 hM, MSk_t115 hM, MSk_n115 hM, MSk_p16 hM, MSk_t116 hM, MSk_n116 hM, MSk_p18 hM, MSk_t117 hM, MSk_n117 hM, MSk_p20 hM, MSk_t118 hM, MSk_n118 hM, MSk_p21 hM, MSk_t119 hM, MSk_n119 hM, MSk_p22 hM, MSk_t120 hM, MSk_n120 hM]
  exact hR
theorem c_X6_torn {d : Nat} {Rq : SmQ} {S : SmS} {I : SmI} (hM : MSk S) (hR : Rq (.inl (some (vI (I 106 23)))) S I) : SC mi_X6_torn d [vR (some 106)] S I Rq := SC_of0 (Nat.le_of_ble_eq_true rfl) (b_X6_torn (S := sBud S 0 0) hM hR)
theorem in_122 {d : Nat} {Rq : SmQ} {S : SmS} {I : SmI} (hM : MSk S) (hR : ∀ I' : SmI, (∀ b : Nat, b ≠ 118 → I' b = I b) → (∀ k : Int, 0 ≤ k → k < 4 → I' 118 k = -4) → Rq (.inl none) S I') : SW mi_X6_init 122 (d + 1) Rq [some (vR (some 106)), some (vI 0)] [] S I := by
  refine loop_up (P := fun (i : Nat) => ∀ I' : SmI, (∀ b : Nat, b ≠ 118 → I' b = I b) → (∀ k : Int, 0 ≤ k → k < i → I' 118 k = -4) → SW mi_X6_init 122 (d + 1) Rq [some (vR (some 106)), some (vI i)] [] S I') (n := 4) ?_ ?_ I (fun _ _ => rfl) (fun k a b => absurd b (by omega))
  · intro I' g1 g2
    have h9 := hR I' g1 g2
    refine rv_X6_init_122 ?_
    simp +contextual (disch := omega) only [tr_X6_init_122, im_ic, im_lc, im_nul, im_iload, im_lload, im_aload, im_istore, im_astore, im_lstore, im_iinc, im_iadd, im_isub, im_imul, im_iand, im_ior, im_ishl, im_ishr, im_iushr, im_idiv, im_irem, im_ineg, im_i2l, im_l2i, im_i2b, im_i2s, im_ladd, im_lcmp, im_dup, im_pop, im_dup_x1, im_dup2, im_ceq, im_cne, im_clt, im_cge, im_cgt, im_cle, im_zeq, im_zne, im_zlt, im_zge, im_zgt, im_zle, im_ifnull, im_ifnn, im_acmpeq, im_acmpne, im_getI, im_getR, im_putI, im_putZ, im_putR, im_ald, im_iast, im_bast, im_sast, im_zast, im_aald, im_alen, im_new, im_newa, im_newq, im_tsw, im_lsw, tswA, lswA, im_callS_eq, im_callV_eq, chk_i, chk_T, dOk_i, tf_0, tf_n0, tf_1, tf_01, tf_F, tf_T, tf_em, tf_me, ↓reduceIte, Int.zero_add, Int.add_zero, Int.one_mul, Int.mul_one, Int.ediv_one, Int.sub_zero, im_ireturn, im_zreturn, im_areturn, im_return, im_objinit, popI_eq, popII_eq, popJ_eq, popJJ_eq, popR_eq, popRR_eq, popV_eq, popVV_eq, popA_eq, popIA_eq, popIIA_eq, popRA_eq, popRIA_eq, getI, getJ, getR, lget_0, lget_s, nlAt, cat1, wsum, List.set_cons_zero, List.set_cons_succ, List.take_succ_cons, List.take_zero, List.drop_succ_cons, List.drop_zero, List.reverse_cons, List.reverse_nil, List.nil_append, List.cons_append, List.length_cons, List.length_nil, true_and, and_true, and_self, ne_eq, not_false_eq_true, not_true_eq_false, Classical.not_not, false_or, or_false, true_or, or_true, imp_self, forall_const, forall_eq, implies_true, true_implies, false_implies, Nat.reduceAdd, Nat.reduceLeDiff, Nat.reduceEqDiff, Nat.reduceSub, Int.reduceNeg, Int.reduceEq, Int.reduceLT, Int.reduceLE, Int.reduceNe, Int.reduceAdd, Int.reduceSub, Nat.le_refl, Nat.zero_le, reduceCtorEq, Option.some.injEq, w32_i, MSk_t106 hM, MSk_p0 hM, MSk_t107 hM, MSk_n107 hM, MSk_p1 hM, MSk_t108 hM, MSk_n108 hM, MSk_p2 hM, MSk_t109 hM, MSk_n109 hM, MSk_p3 hM, MSk_t110 hM, MSk_n110 hM, MSk_p4 hM, MSk_t111 hM, MSk_n111 hM, MSk_p5 hM, MSk_t112 hM, MSk_n112 hM, MSk_p13 hM, MSk_t113 hM, MSk_n113 hM, MSk_p14 hM, MSk_t114 hM, MSk_n114 hM, MSk_p15 hM, MSk_t115 hM, MSk_n115 hM, MSk_p16 hM, MSk_t116 hM, MSk_n116 hM, MSk_p18 hM, MSk_t117 hM, MSk_n117 hM, MSk_p20 hM, MSk_t118 hM, MSk_n118 hM, MSk_p21 hM, MSk_t119 hM, MSk_n119 hM, MSk_p22 hM, MSk_t120 hM, MSk_n120 hM]
    exact ⟨fun _ => h9, fun h => absurd (Int.le_refl _) h⟩
  · intro i hi ih I' g1 g2
    refine rv_X6_init_122 ?_
    simp +contextual (disch := omega) only [tr_X6_init_122, im_ic, im_lc, im_nul, im_iload, im_lload, im_aload, im_istore, im_astore, im_lstore, im_iinc, im_iadd, im_isub, im_imul, im_iand, im_ior, im_ishl, im_ishr, im_iushr, im_idiv, im_irem, im_ineg, im_i2l, im_l2i, im_i2b, im_i2s, im_ladd, im_lcmp, im_dup, im_pop, im_dup_x1, im_dup2, im_ceq, im_cne, im_clt, im_cge, im_cgt, im_cle, im_zeq, im_zne, im_zlt, im_zge, im_zgt, im_zle, im_ifnull, im_ifnn, im_acmpeq, im_acmpne, im_getI, im_getR, im_putI, im_putZ, im_putR, im_ald, im_iast, im_bast, im_sast, im_zast, im_aald, im_alen, im_new, im_newa, im_newq, im_tsw, im_lsw, tswA, lswA, im_callS_eq, im_callV_eq, chk_i, chk_T, dOk_i, tf_0, tf_n0, tf_1, tf_01, tf_F, tf_T, tf_em, tf_me, ↓reduceIte, Int.zero_add, Int.add_zero, Int.one_mul, Int.mul_one, Int.ediv_one, Int.sub_zero, im_ireturn, im_zreturn, im_areturn, im_return, im_objinit, popI_eq, popII_eq, popJ_eq, popJJ_eq, popR_eq, popRR_eq, popV_eq, popVV_eq, popA_eq, popIA_eq, popIIA_eq, popRA_eq, popRIA_eq, getI, getJ, getR, lget_0, lget_s, nlAt, cat1, wsum, List.set_cons_zero, List.set_cons_succ, List.take_succ_cons, List.take_zero, List.drop_succ_cons, List.drop_zero, List.reverse_cons, List.reverse_nil, List.nil_append, List.cons_append, List.length_cons, List.length_nil, true_and, and_true, and_self, ne_eq, not_false_eq_true, not_true_eq_false, Classical.not_not, false_or, or_false, true_or, or_true, imp_self, forall_const, forall_eq, implies_true, true_implies, false_implies, Nat.reduceAdd, Nat.reduceLeDiff, Nat.reduceEqDiff, Nat.reduceSub, Int.reduceNeg, Int.reduceEq, Int.reduceLT, Int.reduceLE, Int.reduceNe, Int.reduceAdd, Int.reduceSub, Nat.le_refl, Nat.zero_le, reduceCtorEq, Option.some.injEq, w32_i, MSk_t106 hM, MSk_p0 hM, MSk_t107 hM, MSk_n107 hM, MSk_p1 hM, MSk_t108 hM, MSk_n108 hM, MSk_p2 hM, MSk_t109 hM, MSk_n109 hM, MSk_p3 hM, MSk_t110 hM, MSk_n110 hM, MSk_p4 hM, MSk_t111 hM, MSk_n111 hM, MSk_p5 hM, MSk_t112 hM, MSk_n112 hM, MSk_p13 hM, MSk_t113 hM, MSk_n113 hM, MSk_p14 hM, MSk_t114 hM, MSk_n114 hM, MSk_p15 hM, MSk_t115 hM, MSk_n115 hM, MSk_p16 hM, MSk_t116 hM, MSk_n116 hM, MSk_p18 hM, MSk_t117 hM, MSk_n117 hM, MSk_p20 hM, MSk_t118 hM, MSk_n118 hM, MSk_p21 hM, MSk_t119 hM, MSk_n119 hM, MSk_p22 hM, MSk_t120 hM, MSk_n120 hM]
    refine ⟨fun h => absurd h (by omega), fun _ => ?_⟩
    have := ih (iSet I' 118 i (-4)) (fun b hb => by rw [iSet_ne hb, g1 b hb]) (fun k k0 k1 => by
      rw [iSet_ap]
      by_cases e : k = i
      · rw [if_pos ⟨rfl, e⟩]
      · rw [if_neg (fun z => e z.2)]
        exact g2 k k0 (by omega))
    refine SW_as this ?_ (by first | rfl | grind) (by first | rfl | grind) (by first | rfl | grind)
    simp only [leL_nil, leL_none, leL_some, Option.some.injEq, vI_inj, vR_inj, true_and, and_true]
    try grind
theorem in_4 {d : Nat} {Rq : SmQ} {S : SmS} {I : SmI} (ht : sT S 106 = 11) (hz : 106 < sZ S) (hC : 1 ≤ sC S) (hB : 238 ≤ sB S) (nx : SW mi_X6_init 13 (d + 1) Rq [some (vR (some 106)), none] [] (sPut (sNew S 100 238 238) 106 0 (some (sZ S))) (iNew I (sZ S))) : SW mi_X6_init 4 (d + 1) Rq [some (vR (some 106)), none] [] S I := by
  have hne : (106 : Nat) ≠ sZ S := by omega
  have e : sT (sNew S 100 238 238) 106 = 11 := by rw [sT_sNew, if_neg hne, ht]
  have e2 : Int.toNat 238 = 238 := rfl
  refine rv_X6_initB_4 ?_
  simp +contextual (disch := omega) only [tr_X6_initB_4, im_ic, im_lc, im_nul, im_iload, im_lload, im_aload, im_istore, im_astore, im_lstore, im_iinc, im_iadd, im_isub, im_imul, im_iand, im_ior, im_ishl, im_ishr, im_iushr, im_idiv, im_irem, im_ineg, im_i2l, im_l2i, im_i2b, im_i2s, im_ladd, im_lcmp, im_dup, im_pop, im_dup_x1, im_dup2, im_ceq, im_cne, im_clt, im_cge, im_cgt, im_cle, im_zeq, im_zne, im_zlt, im_zge, im_zgt, im_zle, im_ifnull, im_ifnn, im_acmpeq, im_acmpne, im_getI, im_getR, im_putI, im_putZ, im_putR, im_ald, im_iast, im_bast, im_sast, im_zast, im_aald, im_alen, im_new, im_newa, im_newq, im_tsw, im_lsw, tswA, lswA, im_callS_eq, im_callV_eq, chk_i, chk_T, dOk_i, tf_0, tf_n0, tf_1, tf_01, tf_F, tf_T, tf_em, tf_me, ↓reduceIte, Int.zero_add, Int.add_zero, Int.one_mul, Int.mul_one, Int.ediv_one, Int.sub_zero, im_ireturn, im_zreturn, im_areturn, im_return, im_objinit, popI_eq, popII_eq, popJ_eq, popJJ_eq, popR_eq, popRR_eq, popV_eq, popVV_eq, popA_eq, popIA_eq, popIIA_eq, popRA_eq, popRIA_eq, getI, getJ, getR, lget_0, lget_s, nlAt, cat1, wsum, List.set_cons_zero, List.set_cons_succ, List.take_succ_cons, List.take_zero, List.drop_succ_cons, List.drop_zero, List.reverse_cons, List.reverse_nil, List.nil_append, List.cons_append, List.length_cons, List.length_nil, true_and, and_true, and_self, ne_eq, not_false_eq_true, not_true_eq_false, Classical.not_not, false_or, or_false, true_or, or_true, imp_self, forall_const, forall_eq, implies_true, true_implies, false_implies, Nat.reduceAdd, Nat.reduceLeDiff, Nat.reduceEqDiff, Nat.reduceSub, Int.reduceNeg, Int.reduceEq, Int.reduceLT, Int.reduceLE, Int.reduceNe, Int.reduceAdd, Int.reduceSub, Nat.le_refl, Nat.zero_le, reduceCtorEq, Option.some.injEq, w32_i, ht, e, e2]
  exact nx
theorem in_13 {d : Nat} {Rq : SmQ} {S : SmS} {I : SmI} (ht : sT S 106 = 11) (hz : 106 < sZ S) (hC : 1 ≤ sC S) (hB : 238 ≤ sB S) (nx : SW mi_X6_init 22 (d + 1) Rq [some (vR (some 106)), none] [] (sPut (sNew S 100 238 238) 106 1 (some (sZ S))) (iNew I (sZ S))) : SW mi_X6_init 13 (d + 1) Rq [some (vR (some 106)), none] [] S I := by
  have hne : (106 : Nat) ≠ sZ S := by omega
  have e : sT (sNew S 100 238 238) 106 = 11 := by rw [sT_sNew, if_neg hne, ht]
  have e2 : Int.toNat 238 = 238 := rfl
  refine rv_X6_initB_13 ?_
  simp +contextual (disch := omega) only [tr_X6_initB_13, im_ic, im_lc, im_nul, im_iload, im_lload, im_aload, im_istore, im_astore, im_lstore, im_iinc, im_iadd, im_isub, im_imul, im_iand, im_ior, im_ishl, im_ishr, im_iushr, im_idiv, im_irem, im_ineg, im_i2l, im_l2i, im_i2b, im_i2s, im_ladd, im_lcmp, im_dup, im_pop, im_dup_x1, im_dup2, im_ceq, im_cne, im_clt, im_cge, im_cgt, im_cle, im_zeq, im_zne, im_zlt, im_zge, im_zgt, im_zle, im_ifnull, im_ifnn, im_acmpeq, im_acmpne, im_getI, im_getR, im_putI, im_putZ, im_putR, im_ald, im_iast, im_bast, im_sast, im_zast, im_aald, im_alen, im_new, im_newa, im_newq, im_tsw, im_lsw, tswA, lswA, im_callS_eq, im_callV_eq, chk_i, chk_T, dOk_i, tf_0, tf_n0, tf_1, tf_01, tf_F, tf_T, tf_em, tf_me, ↓reduceIte, Int.zero_add, Int.add_zero, Int.one_mul, Int.mul_one, Int.ediv_one, Int.sub_zero, im_ireturn, im_zreturn, im_areturn, im_return, im_objinit, popI_eq, popII_eq, popJ_eq, popJJ_eq, popR_eq, popRR_eq, popV_eq, popVV_eq, popA_eq, popIA_eq, popIIA_eq, popRA_eq, popRIA_eq, getI, getJ, getR, lget_0, lget_s, nlAt, cat1, wsum, List.set_cons_zero, List.set_cons_succ, List.take_succ_cons, List.take_zero, List.drop_succ_cons, List.drop_zero, List.reverse_cons, List.reverse_nil, List.nil_append, List.cons_append, List.length_cons, List.length_nil, true_and, and_true, and_self, ne_eq, not_false_eq_true, not_true_eq_false, Classical.not_not, false_or, or_false, true_or, or_true, imp_self, forall_const, forall_eq, implies_true, true_implies, false_implies, Nat.reduceAdd, Nat.reduceLeDiff, Nat.reduceEqDiff, Nat.reduceSub, Int.reduceNeg, Int.reduceEq, Int.reduceLT, Int.reduceLE, Int.reduceNe, Int.reduceAdd, Int.reduceSub, Nat.le_refl, Nat.zero_le, reduceCtorEq, Option.some.injEq, w32_i, ht, e, e2]
  exact nx
theorem in_22 {d : Nat} {Rq : SmQ} {S : SmS} {I : SmI} (ht : sT S 106 = 11) (hz : 106 < sZ S) (hC : 1 ≤ sC S) (hB : 238 ≤ sB S) (nx : SW mi_X6_init 31 (d + 1) Rq [some (vR (some 106)), none] [] (sPut (sNew S 100 238 238) 106 2 (some (sZ S))) (iNew I (sZ S))) : SW mi_X6_init 22 (d + 1) Rq [some (vR (some 106)), none] [] S I := by
  have hne : (106 : Nat) ≠ sZ S := by omega
  have e : sT (sNew S 100 238 238) 106 = 11 := by rw [sT_sNew, if_neg hne, ht]
  have e2 : Int.toNat 238 = 238 := rfl
  refine rv_X6_initB_22 ?_
  simp +contextual (disch := omega) only [tr_X6_initB_22, im_ic, im_lc, im_nul, im_iload, im_lload, im_aload, im_istore, im_astore, im_lstore, im_iinc, im_iadd, im_isub, im_imul, im_iand, im_ior, im_ishl, im_ishr, im_iushr, im_idiv, im_irem, im_ineg, im_i2l, im_l2i, im_i2b, im_i2s, im_ladd, im_lcmp, im_dup, im_pop, im_dup_x1, im_dup2, im_ceq, im_cne, im_clt, im_cge, im_cgt, im_cle, im_zeq, im_zne, im_zlt, im_zge, im_zgt, im_zle, im_ifnull, im_ifnn, im_acmpeq, im_acmpne, im_getI, im_getR, im_putI, im_putZ, im_putR, im_ald, im_iast, im_bast, im_sast, im_zast, im_aald, im_alen, im_new, im_newa, im_newq, im_tsw, im_lsw, tswA, lswA, im_callS_eq, im_callV_eq, chk_i, chk_T, dOk_i, tf_0, tf_n0, tf_1, tf_01, tf_F, tf_T, tf_em, tf_me, ↓reduceIte, Int.zero_add, Int.add_zero, Int.one_mul, Int.mul_one, Int.ediv_one, Int.sub_zero, im_ireturn, im_zreturn, im_areturn, im_return, im_objinit, popI_eq, popII_eq, popJ_eq, popJJ_eq, popR_eq, popRR_eq, popV_eq, popVV_eq, popA_eq, popIA_eq, popIIA_eq, popRA_eq, popRIA_eq, getI, getJ, getR, lget_0, lget_s, nlAt, cat1, wsum, List.set_cons_zero, List.set_cons_succ, List.take_succ_cons, List.take_zero, List.drop_succ_cons, List.drop_zero, List.reverse_cons, List.reverse_nil, List.nil_append, List.cons_append, List.length_cons, List.length_nil, true_and, and_true, and_self, ne_eq, not_false_eq_true, not_true_eq_false, Classical.not_not, false_or, or_false, true_or, or_true, imp_self, forall_const, forall_eq, implies_true, true_implies, false_implies, Nat.reduceAdd, Nat.reduceLeDiff, Nat.reduceEqDiff, Nat.reduceSub, Int.reduceNeg, Int.reduceEq, Int.reduceLT, Int.reduceLE, Int.reduceNe, Int.reduceAdd, Int.reduceSub, Nat.le_refl, Nat.zero_le, reduceCtorEq, Option.some.injEq, w32_i, ht, e, e2]
  exact nx
theorem in_31 {d : Nat} {Rq : SmQ} {S : SmS} {I : SmI} (ht : sT S 106 = 11) (hz : 106 < sZ S) (hC : 1 ≤ sC S) (hB : 476 ≤ sB S) (nx : SW mi_X6_init 40 (d + 1) Rq [some (vR (some 106)), none] [] (sPut (sNew S 100 476 476) 106 3 (some (sZ S))) (iNew I (sZ S))) : SW mi_X6_init 31 (d + 1) Rq [some (vR (some 106)), none] [] S I := by
  have hne : (106 : Nat) ≠ sZ S := by omega
  have e : sT (sNew S 100 476 476) 106 = 11 := by rw [sT_sNew, if_neg hne, ht]
  have e2 : Int.toNat 476 = 476 := rfl
  refine rv_X6_initB_31 ?_
  simp +contextual (disch := omega) only [tr_X6_initB_31, im_ic, im_lc, im_nul, im_iload, im_lload, im_aload, im_istore, im_astore, im_lstore, im_iinc, im_iadd, im_isub, im_imul, im_iand, im_ior, im_ishl, im_ishr, im_iushr, im_idiv, im_irem, im_ineg, im_i2l, im_l2i, im_i2b, im_i2s, im_ladd, im_lcmp, im_dup, im_pop, im_dup_x1, im_dup2, im_ceq, im_cne, im_clt, im_cge, im_cgt, im_cle, im_zeq, im_zne, im_zlt, im_zge, im_zgt, im_zle, im_ifnull, im_ifnn, im_acmpeq, im_acmpne, im_getI, im_getR, im_putI, im_putZ, im_putR, im_ald, im_iast, im_bast, im_sast, im_zast, im_aald, im_alen, im_new, im_newa, im_newq, im_tsw, im_lsw, tswA, lswA, im_callS_eq, im_callV_eq, chk_i, chk_T, dOk_i, tf_0, tf_n0, tf_1, tf_01, tf_F, tf_T, tf_em, tf_me, ↓reduceIte, Int.zero_add, Int.add_zero, Int.one_mul, Int.mul_one, Int.ediv_one, Int.sub_zero, im_ireturn, im_zreturn, im_areturn, im_return, im_objinit, popI_eq, popII_eq, popJ_eq, popJJ_eq, popR_eq, popRR_eq, popV_eq, popVV_eq, popA_eq, popIA_eq, popIIA_eq, popRA_eq, popRIA_eq, getI, getJ, getR, lget_0, lget_s, nlAt, cat1, wsum, List.set_cons_zero, List.set_cons_succ, List.take_succ_cons, List.take_zero, List.drop_succ_cons, List.drop_zero, List.reverse_cons, List.reverse_nil, List.nil_append, List.cons_append, List.length_cons, List.length_nil, true_and, and_true, and_self, ne_eq, not_false_eq_true, not_true_eq_false, Classical.not_not, false_or, or_false, true_or, or_true, imp_self, forall_const, forall_eq, implies_true, true_implies, false_implies, Nat.reduceAdd, Nat.reduceLeDiff, Nat.reduceEqDiff, Nat.reduceSub, Int.reduceNeg, Int.reduceEq, Int.reduceLT, Int.reduceLE, Int.reduceNe, Int.reduceAdd, Int.reduceSub, Nat.le_refl, Nat.zero_le, reduceCtorEq, Option.some.injEq, w32_i, ht, e, e2]
  exact nx
theorem in_40 {d : Nat} {Rq : SmQ} {S : SmS} {I : SmI} (ht : sT S 106 = 11) (hz : 106 < sZ S) (hC : 1 ≤ sC S) (hB : 2 ≤ sB S) (nx : SW mi_X6_init 47 (d + 1) Rq [some (vR (some 106)), none] [] (sPut (sNew S 102 2 2) 106 4 (some (sZ S))) (iNew I (sZ S))) : SW mi_X6_init 40 (d + 1) Rq [some (vR (some 106)), none] [] S I := by
  have hne : (106 : Nat) ≠ sZ S := by omega
  have e : sT (sNew S 102 2 2) 106 = 11 := by rw [sT_sNew, if_neg hne, ht]
  have e2 : Int.toNat 2 = 2 := rfl
  refine rv_X6_initB_40 ?_
  simp +contextual (disch := omega) only [tr_X6_initB_40, im_ic, im_lc, im_nul, im_iload, im_lload, im_aload, im_istore, im_astore, im_lstore, im_iinc, im_iadd, im_isub, im_imul, im_iand, im_ior, im_ishl, im_ishr, im_iushr, im_idiv, im_irem, im_ineg, im_i2l, im_l2i, im_i2b, im_i2s, im_ladd, im_lcmp, im_dup, im_pop, im_dup_x1, im_dup2, im_ceq, im_cne, im_clt, im_cge, im_cgt, im_cle, im_zeq, im_zne, im_zlt, im_zge, im_zgt, im_zle, im_ifnull, im_ifnn, im_acmpeq, im_acmpne, im_getI, im_getR, im_putI, im_putZ, im_putR, im_ald, im_iast, im_bast, im_sast, im_zast, im_aald, im_alen, im_new, im_newa, im_newq, im_tsw, im_lsw, tswA, lswA, im_callS_eq, im_callV_eq, chk_i, chk_T, dOk_i, tf_0, tf_n0, tf_1, tf_01, tf_F, tf_T, tf_em, tf_me, ↓reduceIte, Int.zero_add, Int.add_zero, Int.one_mul, Int.mul_one, Int.ediv_one, Int.sub_zero, im_ireturn, im_zreturn, im_areturn, im_return, im_objinit, popI_eq, popII_eq, popJ_eq, popJJ_eq, popR_eq, popRR_eq, popV_eq, popVV_eq, popA_eq, popIA_eq, popIIA_eq, popRA_eq, popRIA_eq, getI, getJ, getR, lget_0, lget_s, nlAt, cat1, wsum, List.set_cons_zero, List.set_cons_succ, List.take_succ_cons, List.take_zero, List.drop_succ_cons, List.drop_zero, List.reverse_cons, List.reverse_nil, List.nil_append, List.cons_append, List.length_cons, List.length_nil, true_and, and_true, and_self, ne_eq, not_false_eq_true, not_true_eq_false, Classical.not_not, false_or, or_false, true_or, or_true, imp_self, forall_const, forall_eq, implies_true, true_implies, false_implies, Nat.reduceAdd, Nat.reduceLeDiff, Nat.reduceEqDiff, Nat.reduceSub, Int.reduceNeg, Int.reduceEq, Int.reduceLT, Int.reduceLE, Int.reduceNe, Int.reduceAdd, Int.reduceSub, Nat.le_refl, Nat.zero_le, reduceCtorEq, Option.some.injEq, w32_i, ht, e, e2]
  exact nx
theorem in_47 {d : Nat} {Rq : SmQ} {S : SmS} {I : SmI} (ht : sT S 106 = 11) (hz : 106 < sZ S) (hC : 1 ≤ sC S) (hB : 160 ≤ sB S) (nx : SW mi_X6_init 56 (d + 1) Rq [some (vR (some 106)), none] [] (sPut (sNew S 100 160 160) 106 5 (some (sZ S))) (iNew I (sZ S))) : SW mi_X6_init 47 (d + 1) Rq [some (vR (some 106)), none] [] S I := by
  have hne : (106 : Nat) ≠ sZ S := by omega
  have e : sT (sNew S 100 160 160) 106 = 11 := by rw [sT_sNew, if_neg hne, ht]
  have e2 : Int.toNat 160 = 160 := rfl
  refine rv_X6_initB_47 ?_
  simp +contextual (disch := omega) only [tr_X6_initB_47, im_ic, im_lc, im_nul, im_iload, im_lload, im_aload, im_istore, im_astore, im_lstore, im_iinc, im_iadd, im_isub, im_imul, im_iand, im_ior, im_ishl, im_ishr, im_iushr, im_idiv, im_irem, im_ineg, im_i2l, im_l2i, im_i2b, im_i2s, im_ladd, im_lcmp, im_dup, im_pop, im_dup_x1, im_dup2, im_ceq, im_cne, im_clt, im_cge, im_cgt, im_cle, im_zeq, im_zne, im_zlt, im_zge, im_zgt, im_zle, im_ifnull, im_ifnn, im_acmpeq, im_acmpne, im_getI, im_getR, im_putI, im_putZ, im_putR, im_ald, im_iast, im_bast, im_sast, im_zast, im_aald, im_alen, im_new, im_newa, im_newq, im_tsw, im_lsw, tswA, lswA, im_callS_eq, im_callV_eq, chk_i, chk_T, dOk_i, tf_0, tf_n0, tf_1, tf_01, tf_F, tf_T, tf_em, tf_me, ↓reduceIte, Int.zero_add, Int.add_zero, Int.one_mul, Int.mul_one, Int.ediv_one, Int.sub_zero, im_ireturn, im_zreturn, im_areturn, im_return, im_objinit, popI_eq, popII_eq, popJ_eq, popJJ_eq, popR_eq, popRR_eq, popV_eq, popVV_eq, popA_eq, popIA_eq, popIIA_eq, popRA_eq, popRIA_eq, getI, getJ, getR, lget_0, lget_s, nlAt, cat1, wsum, List.set_cons_zero, List.set_cons_succ, List.take_succ_cons, List.take_zero, List.drop_succ_cons, List.drop_zero, List.reverse_cons, List.reverse_nil, List.nil_append, List.cons_append, List.length_cons, List.length_nil, true_and, and_true, and_self, ne_eq, not_false_eq_true, not_true_eq_false, Classical.not_not, false_or, or_false, true_or, or_true, imp_self, forall_const, forall_eq, implies_true, true_implies, false_implies, Nat.reduceAdd, Nat.reduceLeDiff, Nat.reduceEqDiff, Nat.reduceSub, Int.reduceNeg, Int.reduceEq, Int.reduceLT, Int.reduceLE, Int.reduceNe, Int.reduceAdd, Int.reduceSub, Nat.le_refl, Nat.zero_le, reduceCtorEq, Option.some.injEq, w32_i, ht, e, e2]
  exact nx
theorem in_56 {d : Nat} {Rq : SmQ} {S : SmS} {I : SmI} (ht : sT S 106 = 11) (hz : 106 < sZ S) (hC : 1 ≤ sC S) (hB : 4 ≤ sB S) (nx : SW mi_X6_init 63 (d + 1) Rq [some (vR (some 106)), none] [] (sPut (sNew S 100 4 4) 106 13 (some (sZ S))) (iNew I (sZ S))) : SW mi_X6_init 56 (d + 1) Rq [some (vR (some 106)), none] [] S I := by
  have hne : (106 : Nat) ≠ sZ S := by omega
  have e : sT (sNew S 100 4 4) 106 = 11 := by rw [sT_sNew, if_neg hne, ht]
  have e2 : Int.toNat 4 = 4 := rfl
  refine rv_X6_initB_56 ?_
  simp +contextual (disch := omega) only [tr_X6_initB_56, im_ic, im_lc, im_nul, im_iload, im_lload, im_aload, im_istore, im_astore, im_lstore, im_iinc, im_iadd, im_isub, im_imul, im_iand, im_ior, im_ishl, im_ishr, im_iushr, im_idiv, im_irem, im_ineg, im_i2l, im_l2i, im_i2b, im_i2s, im_ladd, im_lcmp, im_dup, im_pop, im_dup_x1, im_dup2, im_ceq, im_cne, im_clt, im_cge, im_cgt, im_cle, im_zeq, im_zne, im_zlt, im_zge, im_zgt, im_zle, im_ifnull, im_ifnn, im_acmpeq, im_acmpne, im_getI, im_getR, im_putI, im_putZ, im_putR, im_ald, im_iast, im_bast, im_sast, im_zast, im_aald, im_alen, im_new, im_newa, im_newq, im_tsw, im_lsw, tswA, lswA, im_callS_eq, im_callV_eq, chk_i, chk_T, dOk_i, tf_0, tf_n0, tf_1, tf_01, tf_F, tf_T, tf_em, tf_me, ↓reduceIte, Int.zero_add, Int.add_zero, Int.one_mul, Int.mul_one, Int.ediv_one, Int.sub_zero, im_ireturn, im_zreturn, im_areturn, im_return, im_objinit, popI_eq, popII_eq, popJ_eq, popJJ_eq, popR_eq, popRR_eq, popV_eq, popVV_eq, popA_eq, popIA_eq, popIIA_eq, popRA_eq, popRIA_eq, getI, getJ, getR, lget_0, lget_s, nlAt, cat1, wsum, List.set_cons_zero, List.set_cons_succ, List.take_succ_cons, List.take_zero, List.drop_succ_cons, List.drop_zero, List.reverse_cons, List.reverse_nil, List.nil_append, List.cons_append, List.length_cons, List.length_nil, true_and, and_true, and_self, ne_eq, not_false_eq_true, not_true_eq_false, Classical.not_not, false_or, or_false, true_or, or_true, imp_self, forall_const, forall_eq, implies_true, true_implies, false_implies, Nat.reduceAdd, Nat.reduceLeDiff, Nat.reduceEqDiff, Nat.reduceSub, Int.reduceNeg, Int.reduceEq, Int.reduceLT, Int.reduceLE, Int.reduceNe, Int.reduceAdd, Int.reduceSub, Nat.le_refl, Nat.zero_le, reduceCtorEq, Option.some.injEq, w32_i, ht, e, e2]
  exact nx
theorem in_63 {d : Nat} {Rq : SmQ} {S : SmS} {I : SmI} (ht : sT S 106 = 11) (hz : 106 < sZ S) (hC : 1 ≤ sC S) (hB : 2401 ≤ sB S) (nx : SW mi_X6_init 72 (d + 1) Rq [some (vR (some 106)), none] [] (sPut (sNew S 100 2401 2401) 106 14 (some (sZ S))) (iNew I (sZ S))) : SW mi_X6_init 63 (d + 1) Rq [some (vR (some 106)), none] [] S I := by
  have hne : (106 : Nat) ≠ sZ S := by omega
  have e : sT (sNew S 100 2401 2401) 106 = 11 := by rw [sT_sNew, if_neg hne, ht]
  have e2 : Int.toNat 2401 = 2401 := rfl
  refine rv_X6_initB_63 ?_
  simp +contextual (disch := omega) only [tr_X6_initB_63, im_ic, im_lc, im_nul, im_iload, im_lload, im_aload, im_istore, im_astore, im_lstore, im_iinc, im_iadd, im_isub, im_imul, im_iand, im_ior, im_ishl, im_ishr, im_iushr, im_idiv, im_irem, im_ineg, im_i2l, im_l2i, im_i2b, im_i2s, im_ladd, im_lcmp, im_dup, im_pop, im_dup_x1, im_dup2, im_ceq, im_cne, im_clt, im_cge, im_cgt, im_cle, im_zeq, im_zne, im_zlt, im_zge, im_zgt, im_zle, im_ifnull, im_ifnn, im_acmpeq, im_acmpne, im_getI, im_getR, im_putI, im_putZ, im_putR, im_ald, im_iast, im_bast, im_sast, im_zast, im_aald, im_alen, im_new, im_newa, im_newq, im_tsw, im_lsw, tswA, lswA, im_callS_eq, im_callV_eq, chk_i, chk_T, dOk_i, tf_0, tf_n0, tf_1, tf_01, tf_F, tf_T, tf_em, tf_me, ↓reduceIte, Int.zero_add, Int.add_zero, Int.one_mul, Int.mul_one, Int.ediv_one, Int.sub_zero, im_ireturn, im_zreturn, im_areturn, im_return, im_objinit, popI_eq, popII_eq, popJ_eq, popJJ_eq, popR_eq, popRR_eq, popV_eq, popVV_eq, popA_eq, popIA_eq, popIIA_eq, popRA_eq, popRIA_eq, getI, getJ, getR, lget_0, lget_s, nlAt, cat1, wsum, List.set_cons_zero, List.set_cons_succ, List.take_succ_cons, List.take_zero, List.drop_succ_cons, List.drop_zero, List.reverse_cons, List.reverse_nil, List.nil_append, List.cons_append, List.length_cons, List.length_nil, true_and, and_true, and_self, ne_eq, not_false_eq_true, not_true_eq_false, Classical.not_not, false_or, or_false, true_or, or_true, imp_self, forall_const, forall_eq, implies_true, true_implies, false_implies, Nat.reduceAdd, Nat.reduceLeDiff, Nat.reduceEqDiff, Nat.reduceSub, Int.reduceNeg, Int.reduceEq, Int.reduceLT, Int.reduceLE, Int.reduceNe, Int.reduceAdd, Int.reduceSub, Nat.le_refl, Nat.zero_le, reduceCtorEq, Option.some.injEq, w32_i, ht, e, e2]
  exact nx
theorem in_72 {d : Nat} {Rq : SmQ} {S : SmS} {I : SmI} (ht : sT S 106 = 11) (hz : 106 < sZ S) (hC : 1 ≤ sC S) (hB : 2401 ≤ sB S) (nx : SW mi_X6_init 81 (d + 1) Rq [some (vR (some 106)), none] [] (sPut (sNew S 102 2401 2401) 106 15 (some (sZ S))) (iNew I (sZ S))) : SW mi_X6_init 72 (d + 1) Rq [some (vR (some 106)), none] [] S I := by
  have hne : (106 : Nat) ≠ sZ S := by omega
  have e : sT (sNew S 102 2401 2401) 106 = 11 := by rw [sT_sNew, if_neg hne, ht]
  have e2 : Int.toNat 2401 = 2401 := rfl
  refine rv_X6_initB_72 ?_
  simp +contextual (disch := omega) only [tr_X6_initB_72, im_ic, im_lc, im_nul, im_iload, im_lload, im_aload, im_istore, im_astore, im_lstore, im_iinc, im_iadd, im_isub, im_imul, im_iand, im_ior, im_ishl, im_ishr, im_iushr, im_idiv, im_irem, im_ineg, im_i2l, im_l2i, im_i2b, im_i2s, im_ladd, im_lcmp, im_dup, im_pop, im_dup_x1, im_dup2, im_ceq, im_cne, im_clt, im_cge, im_cgt, im_cle, im_zeq, im_zne, im_zlt, im_zge, im_zgt, im_zle, im_ifnull, im_ifnn, im_acmpeq, im_acmpne, im_getI, im_getR, im_putI, im_putZ, im_putR, im_ald, im_iast, im_bast, im_sast, im_zast, im_aald, im_alen, im_new, im_newa, im_newq, im_tsw, im_lsw, tswA, lswA, im_callS_eq, im_callV_eq, chk_i, chk_T, dOk_i, tf_0, tf_n0, tf_1, tf_01, tf_F, tf_T, tf_em, tf_me, ↓reduceIte, Int.zero_add, Int.add_zero, Int.one_mul, Int.mul_one, Int.ediv_one, Int.sub_zero, im_ireturn, im_zreturn, im_areturn, im_return, im_objinit, popI_eq, popII_eq, popJ_eq, popJJ_eq, popR_eq, popRR_eq, popV_eq, popVV_eq, popA_eq, popIA_eq, popIIA_eq, popRA_eq, popRIA_eq, getI, getJ, getR, lget_0, lget_s, nlAt, cat1, wsum, List.set_cons_zero, List.set_cons_succ, List.take_succ_cons, List.take_zero, List.drop_succ_cons, List.drop_zero, List.reverse_cons, List.reverse_nil, List.nil_append, List.cons_append, List.length_cons, List.length_nil, true_and, and_true, and_self, ne_eq, not_false_eq_true, not_true_eq_false, Classical.not_not, false_or, or_false, true_or, or_true, imp_self, forall_const, forall_eq, implies_true, true_implies, false_implies, Nat.reduceAdd, Nat.reduceLeDiff, Nat.reduceEqDiff, Nat.reduceSub, Int.reduceNeg, Int.reduceEq, Int.reduceLT, Int.reduceLE, Int.reduceNe, Int.reduceAdd, Int.reduceSub, Nat.le_refl, Nat.zero_le, reduceCtorEq, Option.some.injEq, w32_i, ht, e, e2]
  exact nx
theorem in_81 {d : Nat} {Rq : SmQ} {S : SmS} {I : SmI} (ht : sT S 106 = 11) (hz : 106 < sZ S) (hC : 1 ≤ sC S) (hB : 2401 ≤ sB S) (nx : SW mi_X6_init 90 (d + 1) Rq [some (vR (some 106)), none] [] (sPut (sNew S 102 2401 2401) 106 16 (some (sZ S))) (iNew I (sZ S))) : SW mi_X6_init 81 (d + 1) Rq [some (vR (some 106)), none] [] S I := by
  have hne : (106 : Nat) ≠ sZ S := by omega
  have e : sT (sNew S 102 2401 2401) 106 = 11 := by rw [sT_sNew, if_neg hne, ht]
  have e2 : Int.toNat 2401 = 2401 := rfl
  refine rv_X6_initB_81 ?_
  simp +contextual (disch := omega) only [tr_X6_initB_81, im_ic, im_lc, im_nul, im_iload, im_lload, im_aload, im_istore, im_astore, im_lstore, im_iinc, im_iadd, im_isub, im_imul, im_iand, im_ior, im_ishl, im_ishr, im_iushr, im_idiv, im_irem, im_ineg, im_i2l, im_l2i, im_i2b, im_i2s, im_ladd, im_lcmp, im_dup, im_pop, im_dup_x1, im_dup2, im_ceq, im_cne, im_clt, im_cge, im_cgt, im_cle, im_zeq, im_zne, im_zlt, im_zge, im_zgt, im_zle, im_ifnull, im_ifnn, im_acmpeq, im_acmpne, im_getI, im_getR, im_putI, im_putZ, im_putR, im_ald, im_iast, im_bast, im_sast, im_zast, im_aald, im_alen, im_new, im_newa, im_newq, im_tsw, im_lsw, tswA, lswA, im_callS_eq, im_callV_eq, chk_i, chk_T, dOk_i, tf_0, tf_n0, tf_1, tf_01, tf_F, tf_T, tf_em, tf_me, ↓reduceIte, Int.zero_add, Int.add_zero, Int.one_mul, Int.mul_one, Int.ediv_one, Int.sub_zero, im_ireturn, im_zreturn, im_areturn, im_return, im_objinit, popI_eq, popII_eq, popJ_eq, popJJ_eq, popR_eq, popRR_eq, popV_eq, popVV_eq, popA_eq, popIA_eq, popIIA_eq, popRA_eq, popRIA_eq, getI, getJ, getR, lget_0, lget_s, nlAt, cat1, wsum, List.set_cons_zero, List.set_cons_succ, List.take_succ_cons, List.take_zero, List.drop_succ_cons, List.drop_zero, List.reverse_cons, List.reverse_nil, List.nil_append, List.cons_append, List.length_cons, List.length_nil, true_and, and_true, and_self, ne_eq, not_false_eq_true, not_true_eq_false, Classical.not_not, false_or, or_false, true_or, or_true, imp_self, forall_const, forall_eq, implies_true, true_implies, false_implies, Nat.reduceAdd, Nat.reduceLeDiff, Nat.reduceEqDiff, Nat.reduceSub, Int.reduceNeg, Int.reduceEq, Int.reduceLT, Int.reduceLE, Int.reduceNe, Int.reduceAdd, Int.reduceSub, Nat.le_refl, Nat.zero_le, reduceCtorEq, Option.some.injEq, w32_i, ht, e, e2]
  exact nx
theorem in_90 {d : Nat} {Rq : SmQ} {S : SmS} {I : SmI} (ht : sT S 106 = 11) (hz : 106 < sZ S) (hC : 1 ≤ sC S) (hB : 4 ≤ sB S) (nx : SW mi_X6_init 97 (d + 1) Rq [some (vR (some 106)), none] [] (sPut (sNew S 100 4 4) 106 18 (some (sZ S))) (iNew I (sZ S))) : SW mi_X6_init 90 (d + 1) Rq [some (vR (some 106)), none] [] S I := by
  have hne : (106 : Nat) ≠ sZ S := by omega
  have e : sT (sNew S 100 4 4) 106 = 11 := by rw [sT_sNew, if_neg hne, ht]
  have e2 : Int.toNat 4 = 4 := rfl
  refine rv_X6_initB_90 ?_
  simp +contextual (disch := omega) only [tr_X6_initB_90, im_ic, im_lc, im_nul, im_iload, im_lload, im_aload, im_istore, im_astore, im_lstore, im_iinc, im_iadd, im_isub, im_imul, im_iand, im_ior, im_ishl, im_ishr, im_iushr, im_idiv, im_irem, im_ineg, im_i2l, im_l2i, im_i2b, im_i2s, im_ladd, im_lcmp, im_dup, im_pop, im_dup_x1, im_dup2, im_ceq, im_cne, im_clt, im_cge, im_cgt, im_cle, im_zeq, im_zne, im_zlt, im_zge, im_zgt, im_zle, im_ifnull, im_ifnn, im_acmpeq, im_acmpne, im_getI, im_getR, im_putI, im_putZ, im_putR, im_ald, im_iast, im_bast, im_sast, im_zast, im_aald, im_alen, im_new, im_newa, im_newq, im_tsw, im_lsw, tswA, lswA, im_callS_eq, im_callV_eq, chk_i, chk_T, dOk_i, tf_0, tf_n0, tf_1, tf_01, tf_F, tf_T, tf_em, tf_me, ↓reduceIte, Int.zero_add, Int.add_zero, Int.one_mul, Int.mul_one, Int.ediv_one, Int.sub_zero, im_ireturn, im_zreturn, im_areturn, im_return, im_objinit, popI_eq, popII_eq, popJ_eq, popJJ_eq, popR_eq, popRR_eq, popV_eq, popVV_eq, popA_eq, popIA_eq, popIIA_eq, popRA_eq, popRIA_eq, getI, getJ, getR, lget_0, lget_s, nlAt, cat1, wsum, List.set_cons_zero, List.set_cons_succ, List.take_succ_cons, List.take_zero, List.drop_succ_cons, List.drop_zero, List.reverse_cons, List.reverse_nil, List.nil_append, List.cons_append, List.length_cons, List.length_nil, true_and, and_true, and_self, ne_eq, not_false_eq_true, not_true_eq_false, Classical.not_not, false_or, or_false, true_or, or_true, imp_self, forall_const, forall_eq, implies_true, true_implies, false_implies, Nat.reduceAdd, Nat.reduceLeDiff, Nat.reduceEqDiff, Nat.reduceSub, Int.reduceNeg, Int.reduceEq, Int.reduceLT, Int.reduceLE, Int.reduceNe, Int.reduceAdd, Int.reduceSub, Nat.le_refl, Nat.zero_le, reduceCtorEq, Option.some.injEq, w32_i, ht, e, e2]
  exact nx
theorem in_97 {d : Nat} {Rq : SmQ} {S : SmS} {I : SmI} (ht : sT S 106 = 11) (hz : 106 < sZ S) (hC : 1 ≤ sC S) (hB : 4 ≤ sB S) (nx : SW mi_X6_init 104 (d + 1) Rq [some (vR (some 106)), none] [] (sPut (sNew S 100 4 4) 106 20 (some (sZ S))) (iNew I (sZ S))) : SW mi_X6_init 97 (d + 1) Rq [some (vR (some 106)), none] [] S I := by
  have hne : (106 : Nat) ≠ sZ S := by omega
  have e : sT (sNew S 100 4 4) 106 = 11 := by rw [sT_sNew, if_neg hne, ht]
  have e2 : Int.toNat 4 = 4 := rfl
  refine rv_X6_initB_97 ?_
  simp +contextual (disch := omega) only [tr_X6_initB_97, im_ic, im_lc, im_nul, im_iload, im_lload, im_aload, im_istore, im_astore, im_lstore, im_iinc, im_iadd, im_isub, im_imul, im_iand, im_ior, im_ishl, im_ishr, im_iushr, im_idiv, im_irem, im_ineg, im_i2l, im_l2i, im_i2b, im_i2s, im_ladd, im_lcmp, im_dup, im_pop, im_dup_x1, im_dup2, im_ceq, im_cne, im_clt, im_cge, im_cgt, im_cle, im_zeq, im_zne, im_zlt, im_zge, im_zgt, im_zle, im_ifnull, im_ifnn, im_acmpeq, im_acmpne, im_getI, im_getR, im_putI, im_putZ, im_putR, im_ald, im_iast, im_bast, im_sast, im_zast, im_aald, im_alen, im_new, im_newa, im_newq, im_tsw, im_lsw, tswA, lswA, im_callS_eq, im_callV_eq, chk_i, chk_T, dOk_i, tf_0, tf_n0, tf_1, tf_01, tf_F, tf_T, tf_em, tf_me, ↓reduceIte, Int.zero_add, Int.add_zero, Int.one_mul, Int.mul_one, Int.ediv_one, Int.sub_zero, im_ireturn, im_zreturn, im_areturn, im_return, im_objinit, popI_eq, popII_eq, popJ_eq, popJJ_eq, popR_eq, popRR_eq, popV_eq, popVV_eq, popA_eq, popIA_eq, popIIA_eq, popRA_eq, popRIA_eq, getI, getJ, getR, lget_0, lget_s, nlAt, cat1, wsum, List.set_cons_zero, List.set_cons_succ, List.take_succ_cons, List.take_zero, List.drop_succ_cons, List.drop_zero, List.reverse_cons, List.reverse_nil, List.nil_append, List.cons_append, List.length_cons, List.length_nil, true_and, and_true, and_self, ne_eq, not_false_eq_true, not_true_eq_false, Classical.not_not, false_or, or_false, true_or, or_true, imp_self, forall_const, forall_eq, implies_true, true_implies, false_implies, Nat.reduceAdd, Nat.reduceLeDiff, Nat.reduceEqDiff, Nat.reduceSub, Int.reduceNeg, Int.reduceEq, Int.reduceLT, Int.reduceLE, Int.reduceNe, Int.reduceAdd, Int.reduceSub, Nat.le_refl, Nat.zero_le, reduceCtorEq, Option.some.injEq, w32_i, ht, e, e2]
  exact nx
theorem in_104 {d : Nat} {Rq : SmQ} {S : SmS} {I : SmI} (ht : sT S 106 = 11) (hz : 106 < sZ S) (hC : 1 ≤ sC S) (hB : 4 ≤ sB S) (nx : SW mi_X6_init 111 (d + 1) Rq [some (vR (some 106)), none] [] (sPut (sNew S 100 4 4) 106 21 (some (sZ S))) (iNew I (sZ S))) : SW mi_X6_init 104 (d + 1) Rq [some (vR (some 106)), none] [] S I := by
  have hne : (106 : Nat) ≠ sZ S := by omega
  have e : sT (sNew S 100 4 4) 106 = 11 := by rw [sT_sNew, if_neg hne, ht]
  have e2 : Int.toNat 4 = 4 := rfl
  refine rv_X6_initB_104 ?_
  simp +contextual (disch := omega) only [tr_X6_initB_104, im_ic, im_lc, im_nul, im_iload, im_lload, im_aload, im_istore, im_astore, im_lstore, im_iinc, im_iadd, im_isub, im_imul, im_iand, im_ior, im_ishl, im_ishr, im_iushr, im_idiv, im_irem, im_ineg, im_i2l, im_l2i, im_i2b, im_i2s, im_ladd, im_lcmp, im_dup, im_pop, im_dup_x1, im_dup2, im_ceq, im_cne, im_clt, im_cge, im_cgt, im_cle, im_zeq, im_zne, im_zlt, im_zge, im_zgt, im_zle, im_ifnull, im_ifnn, im_acmpeq, im_acmpne, im_getI, im_getR, im_putI, im_putZ, im_putR, im_ald, im_iast, im_bast, im_sast, im_zast, im_aald, im_alen, im_new, im_newa, im_newq, im_tsw, im_lsw, tswA, lswA, im_callS_eq, im_callV_eq, chk_i, chk_T, dOk_i, tf_0, tf_n0, tf_1, tf_01, tf_F, tf_T, tf_em, tf_me, ↓reduceIte, Int.zero_add, Int.add_zero, Int.one_mul, Int.mul_one, Int.ediv_one, Int.sub_zero, im_ireturn, im_zreturn, im_areturn, im_return, im_objinit, popI_eq, popII_eq, popJ_eq, popJJ_eq, popR_eq, popRR_eq, popV_eq, popVV_eq, popA_eq, popIA_eq, popIIA_eq, popRA_eq, popRIA_eq, getI, getJ, getR, lget_0, lget_s, nlAt, cat1, wsum, List.set_cons_zero, List.set_cons_succ, List.take_succ_cons, List.take_zero, List.drop_succ_cons, List.drop_zero, List.reverse_cons, List.reverse_nil, List.nil_append, List.cons_append, List.length_cons, List.length_nil, true_and, and_true, and_self, ne_eq, not_false_eq_true, not_true_eq_false, Classical.not_not, false_or, or_false, true_or, or_true, imp_self, forall_const, forall_eq, implies_true, true_implies, false_implies, Nat.reduceAdd, Nat.reduceLeDiff, Nat.reduceEqDiff, Nat.reduceSub, Int.reduceNeg, Int.reduceEq, Int.reduceLT, Int.reduceLE, Int.reduceNe, Int.reduceAdd, Int.reduceSub, Nat.le_refl, Nat.zero_le, reduceCtorEq, Option.some.injEq, w32_i, ht, e, e2]
  exact nx
theorem in_111 {d : Nat} {Rq : SmQ} {S : SmS} {I : SmI} (ht : sT S 106 = 11) (hz : 106 < sZ S) (hC : 1 ≤ sC S) (hB : 160 ≤ sB S) (nx : SW mi_X6_init 120 (d + 1) Rq [some (vR (some 106)), none] [] (sPut (sNew S 100 160 160) 106 22 (some (sZ S))) (iNew I (sZ S))) : SW mi_X6_init 111 (d + 1) Rq [some (vR (some 106)), none] [] S I := by
  have hne : (106 : Nat) ≠ sZ S := by omega
  have e : sT (sNew S 100 160 160) 106 = 11 := by rw [sT_sNew, if_neg hne, ht]
  have e2 : Int.toNat 160 = 160 := rfl
  refine rv_X6_initB_111 ?_
  simp +contextual (disch := omega) only [tr_X6_initB_111, im_ic, im_lc, im_nul, im_iload, im_lload, im_aload, im_istore, im_astore, im_lstore, im_iinc, im_iadd, im_isub, im_imul, im_iand, im_ior, im_ishl, im_ishr, im_iushr, im_idiv, im_irem, im_ineg, im_i2l, im_l2i, im_i2b, im_i2s, im_ladd, im_lcmp, im_dup, im_pop, im_dup_x1, im_dup2, im_ceq, im_cne, im_clt, im_cge, im_cgt, im_cle, im_zeq, im_zne, im_zlt, im_zge, im_zgt, im_zle, im_ifnull, im_ifnn, im_acmpeq, im_acmpne, im_getI, im_getR, im_putI, im_putZ, im_putR, im_ald, im_iast, im_bast, im_sast, im_zast, im_aald, im_alen, im_new, im_newa, im_newq, im_tsw, im_lsw, tswA, lswA, im_callS_eq, im_callV_eq, chk_i, chk_T, dOk_i, tf_0, tf_n0, tf_1, tf_01, tf_F, tf_T, tf_em, tf_me, ↓reduceIte, Int.zero_add, Int.add_zero, Int.one_mul, Int.mul_one, Int.ediv_one, Int.sub_zero, im_ireturn, im_zreturn, im_areturn, im_return, im_objinit, popI_eq, popII_eq, popJ_eq, popJJ_eq, popR_eq, popRR_eq, popV_eq, popVV_eq, popA_eq, popIA_eq, popIIA_eq, popRA_eq, popRIA_eq, getI, getJ, getR, lget_0, lget_s, nlAt, cat1, wsum, List.set_cons_zero, List.set_cons_succ, List.take_succ_cons, List.take_zero, List.drop_succ_cons, List.drop_zero, List.reverse_cons, List.reverse_nil, List.nil_append, List.cons_append, List.length_cons, List.length_nil, true_and, and_true, and_self, ne_eq, not_false_eq_true, not_true_eq_false, Classical.not_not, false_or, or_false, true_or, or_true, imp_self, forall_const, forall_eq, implies_true, true_implies, false_implies, Nat.reduceAdd, Nat.reduceLeDiff, Nat.reduceEqDiff, Nat.reduceSub, Int.reduceNeg, Int.reduceEq, Int.reduceLT, Int.reduceLE, Int.reduceNe, Int.reduceAdd, Int.reduceSub, Nat.le_refl, Nat.zero_le, reduceCtorEq, Option.some.injEq, w32_i, ht, e, e2]
  exact nx
theorem sP_mk {S : SmS} {t w a : Nat} {n k : Int} {r : Option Nat} (b : Nat) (j : Int) : sP (sPut (sNew S t n w) a k r) b j = if b = a ∧ j = k then r else if b = sZ S then none else sP S b j := rfl
theorem sT_mk {S : SmS} {t w a : Nat} {n k : Int} {r : Option Nat} (b : Nat) : sT (sPut (sNew S t n w) a k r) b = if b = sZ S then t else sT S b := rfl
theorem sN_mk {S : SmS} {t w a : Nat} {n k : Int} {r : Option Nat} (b : Nat) : sN (sPut (sNew S t n w) a k r) b = if b = sZ S then n else sN S b := rfl
theorem sZ_mk {S : SmS} {t w a : Nat} {n k : Int} {r : Option Nat} : sZ (sPut (sNew S t n w) a k r) = sZ S + 1 := rfl
theorem sC_mk {S : SmS} {t w a : Nat} {n k : Int} {r : Option Nat} : sC (sPut (sNew S t n w) a k r) = sC S - 1 := rfl
theorem sB_mk {S : SmS} {t w a : Nat} {n k : Int} {r : Option Nat} : sB (sPut (sNew S t n w) a k r) = sB S - w := rfl
theorem iNew_or {I : SmI} {a b : Nat} {k : Int} (h : b = a ∨ I b k = 0) : iNew I a b k = 0 := by
  rw [iNew_ap]
  split
  · rfl
  · rename_i e
    exact h.resolve_left e
theorem iN14_0 {I : SmI} (b : Nat) (h1 : 107 ≤ b) (h2 : b < 121) (k : Int) : (iNew (iNew (iNew (iNew (iNew (iNew (iNew (iNew (iNew (iNew (iNew (iNew (iNew (iNew I 107) 108) 109) 110) 111) 112) 113) 114) 115) 116) 117) 118) 119) 120) b k = 0 := by
  by_cases e120 : b = 120
  · exact iNew_or (Or.inl e120)
  refine iNew_or (Or.inr ?_)
  by_cases e119 : b = 119
  · exact iNew_or (Or.inl e119)
  refine iNew_or (Or.inr ?_)
  by_cases e118 : b = 118
  · exact iNew_or (Or.inl e118)
  refine iNew_or (Or.inr ?_)
  by_cases e117 : b = 117
  · exact iNew_or (Or.inl e117)
  refine iNew_or (Or.inr ?_)
  by_cases e116 : b = 116
  · exact iNew_or (Or.inl e116)
  refine iNew_or (Or.inr ?_)
  by_cases e115 : b = 115
  · exact iNew_or (Or.inl e115)
  refine iNew_or (Or.inr ?_)
  by_cases e114 : b = 114
  · exact iNew_or (Or.inl e114)
  refine iNew_or (Or.inr ?_)
  by_cases e113 : b = 113
  · exact iNew_or (Or.inl e113)
  refine iNew_or (Or.inr ?_)
  by_cases e112 : b = 112
  · exact iNew_or (Or.inl e112)
  refine iNew_or (Or.inr ?_)
  by_cases e111 : b = 111
  · exact iNew_or (Or.inl e111)
  refine iNew_or (Or.inr ?_)
  by_cases e110 : b = 110
  · exact iNew_or (Or.inl e110)
  refine iNew_or (Or.inr ?_)
  by_cases e109 : b = 109
  · exact iNew_or (Or.inl e109)
  refine iNew_or (Or.inr ?_)
  by_cases e108 : b = 108
  · exact iNew_or (Or.inl e108)
  refine iNew_or (Or.inr ?_)
  exact iNew_or (Or.inl (by omega))
/-- the model is made: 14 arrays behind it -/
theorem in_0 {d : Nat} {Rq : SmQ} {S : SmS} {I : SmI} (ht : sT S 106 = 11) (hz : sZ S = 107) (hC : 14 ≤ sC S) (hB : 8731 ≤ sB S) (hR : ∀ (S' : SmS) (I' : SmI), MSk S' → sZ S' = 121 → sC S' = sC S - 14 → sB S' = sB S - 8731 → (∀ b : Nat, b ≠ 106 → (b < 107 ∨ 121 ≤ b) → sT S' b = sT S b ∧ sN S' b = sN S b ∧ sP S' b = sP S b) → (∀ b : Nat, (b < 107 ∨ 121 ≤ b) → I' b = I b) → (∀ b : Nat, 107 ≤ b → b < 121 → b ≠ 118 → ∀ k, I' b k = 0) → (∀ k : Int, 0 ≤ k → k < 4 → I' 118 k = -4) → Rq (.inl none) S' I') : SW mi_X6_init 0 (d + 1) Rq [some (vR (some 106)), none] [] S I := by
  refine rv_X6_initB_0 ?_
  simp +contextual (disch := omega) only [tr_X6_initB_0, im_ic, im_lc, im_nul, im_iload, im_lload, im_aload, im_istore, im_astore, im_lstore, im_iinc, im_iadd, im_isub, im_imul, im_iand, im_ior, im_ishl, im_ishr, im_iushr, im_idiv, im_irem, im_ineg, im_i2l, im_l2i, im_i2b, im_i2s, im_ladd, im_lcmp, im_dup, im_pop, im_dup_x1, im_dup2, im_ceq, im_cne, im_clt, im_cge, im_cgt, im_cle, im_zeq, im_zne, im_zlt, im_zge, im_zgt, im_zle, im_ifnull, im_ifnn, im_acmpeq, im_acmpne, im_getI, im_getR, im_putI, im_putZ, im_putR, im_ald, im_iast, im_bast, im_sast, im_zast, im_aald, im_alen, im_new, im_newa, im_newq, im_tsw, im_lsw, tswA, lswA, im_callS_eq, im_callV_eq, chk_i, chk_T, dOk_i, tf_0, tf_n0, tf_1, tf_01, tf_F, tf_T, tf_em, tf_me, ↓reduceIte, Int.zero_add, Int.add_zero, Int.one_mul, Int.mul_one, Int.ediv_one, Int.sub_zero, im_ireturn, im_zreturn, im_areturn, im_return, im_objinit, popI_eq, popII_eq, popJ_eq, popJJ_eq, popR_eq, popRR_eq, popV_eq, popVV_eq, popA_eq, popIA_eq, popIIA_eq, popRA_eq, popRIA_eq, getI, getJ, getR, lget_0, lget_s, nlAt, cat1, wsum, List.set_cons_zero, List.set_cons_succ, List.take_succ_cons, List.take_zero, List.drop_succ_cons, List.drop_zero, List.reverse_cons, List.reverse_nil, List.nil_append, List.cons_append, List.length_cons, List.length_nil, true_and, and_true, and_self, ne_eq, not_false_eq_true, not_true_eq_false, Classical.not_not, false_or, or_false, true_or, or_true, imp_self, forall_const, forall_eq, implies_true, true_implies, false_implies, Nat.reduceAdd, Nat.reduceLeDiff, Nat.reduceEqDiff, Nat.reduceSub, Int.reduceNeg, Int.reduceEq, Int.reduceLT, Int.reduceLE, Int.reduceNe, Int.reduceAdd, Int.reduceSub, Nat.le_refl, Nat.zero_le, reduceCtorEq, Option.some.injEq, w32_i, ht]
  refine ⟨by omega, ?_⟩
  obtain ⟨S1, h1⟩ : ∃ S', S' = sPut (sNew S 100 238 238) 106 0 (some 107) := ⟨_, rfl⟩
  have t1 : sT S1 106 = 11 := by rw [h1, sT_mk, if_neg (by omega), ht]
  have z1 : sZ S1 = 108 := by rw [h1, sZ_mk, hz]
  have c1 : sC S1 = sC S - 1 := by rw [h1, sC_mk]
  have b1 : sB S1 = sB S - 238 := by rw [h1, sB_mk]
  obtain ⟨S2, h2⟩ : ∃ S', S' = sPut (sNew S1 100 238 238) 106 1 (some 108) := ⟨_, rfl⟩
  have t2 : sT S2 106 = 11 := by rw [h2, sT_mk, if_neg (by omega), t1]
  have z2 : sZ S2 = 109 := by rw [h2, sZ_mk, z1]
  have c2 : sC S2 = sC S - 2 := by rw [h2, sC_mk, c1]; omega
  have b2 : sB S2 = sB S - 476 := by rw [h2, sB_mk, b1]; omega
  obtain ⟨S3, h3⟩ : ∃ S', S' = sPut (sNew S2 100 238 238) 106 2 (some 109) := ⟨_, rfl⟩
  have t3 : sT S3 106 = 11 := by rw [h3, sT_mk, if_neg (by omega), t2]
  have z3 : sZ S3 = 110 := by rw [h3, sZ_mk, z2]
  have c3 : sC S3 = sC S - 3 := by rw [h3, sC_mk, c2]; omega
  have b3 : sB S3 = sB S - 714 := by rw [h3, sB_mk, b2]; omega
  obtain ⟨S4, h4⟩ : ∃ S', S' = sPut (sNew S3 100 476 476) 106 3 (some 110) := ⟨_, rfl⟩
  have t4 : sT S4 106 = 11 := by rw [h4, sT_mk, if_neg (by omega), t3]
  have z4 : sZ S4 = 111 := by rw [h4, sZ_mk, z3]
  have c4 : sC S4 = sC S - 4 := by rw [h4, sC_mk, c3]; omega
  have b4 : sB S4 = sB S - 1190 := by rw [h4, sB_mk, b3]; omega
  obtain ⟨S5, h5⟩ : ∃ S', S' = sPut (sNew S4 102 2 2) 106 4 (some 111) := ⟨_, rfl⟩
  have t5 : sT S5 106 = 11 := by rw [h5, sT_mk, if_neg (by omega), t4]
  have z5 : sZ S5 = 112 := by rw [h5, sZ_mk, z4]
  have c5 : sC S5 = sC S - 5 := by rw [h5, sC_mk, c4]; omega
  have b5 : sB S5 = sB S - 1192 := by rw [h5, sB_mk, b4]; omega
  obtain ⟨S6, h6⟩ : ∃ S', S' = sPut (sNew S5 100 160 160) 106 5 (some 112) := ⟨_, rfl⟩
  have t6 : sT S6 106 = 11 := by rw [h6, sT_mk, if_neg (by omega), t5]
  have z6 : sZ S6 = 113 := by rw [h6, sZ_mk, z5]
  have c6 : sC S6 = sC S - 6 := by rw [h6, sC_mk, c5]; omega
  have b6 : sB S6 = sB S - 1352 := by rw [h6, sB_mk, b5]; omega
  obtain ⟨S7, h7⟩ : ∃ S', S' = sPut (sNew S6 100 4 4) 106 13 (some 113) := ⟨_, rfl⟩
  have t7 : sT S7 106 = 11 := by rw [h7, sT_mk, if_neg (by omega), t6]
  have z7 : sZ S7 = 114 := by rw [h7, sZ_mk, z6]
  have c7 : sC S7 = sC S - 7 := by rw [h7, sC_mk, c6]; omega
  have b7 : sB S7 = sB S - 1356 := by rw [h7, sB_mk, b6]; omega
  obtain ⟨S8, h8⟩ : ∃ S', S' = sPut (sNew S7 100 2401 2401) 106 14 (some 114) := ⟨_, rfl⟩
  have t8 : sT S8 106 = 11 := by rw [h8, sT_mk, if_neg (by omega), t7]
  have z8 : sZ S8 = 115 := by rw [h8, sZ_mk, z7]
  have c8 : sC S8 = sC S - 8 := by rw [h8, sC_mk, c7]; omega
  have b8 : sB S8 = sB S - 3757 := by rw [h8, sB_mk, b7]; omega
  obtain ⟨S9, h9⟩ : ∃ S', S' = sPut (sNew S8 102 2401 2401) 106 15 (some 115) := ⟨_, rfl⟩
  have t9 : sT S9 106 = 11 := by rw [h9, sT_mk, if_neg (by omega), t8]
  have z9 : sZ S9 = 116 := by rw [h9, sZ_mk, z8]
  have c9 : sC S9 = sC S - 9 := by rw [h9, sC_mk, c8]; omega
  have b9 : sB S9 = sB S - 6158 := by rw [h9, sB_mk, b8]; omega
  obtain ⟨S10, h10⟩ : ∃ S', S' = sPut (sNew S9 102 2401 2401) 106 16 (some 116) := ⟨_, rfl⟩
  have t10 : sT S10 106 = 11 := by rw [h10, sT_mk, if_neg (by omega), t9]
  have z10 : sZ S10 = 117 := by rw [h10, sZ_mk, z9]
  have c10 : sC S10 = sC S - 10 := by rw [h10, sC_mk, c9]; omega
  have b10 : sB S10 = sB S - 8559 := by rw [h10, sB_mk, b9]; omega
  obtain ⟨S11, h11⟩ : ∃ S', S' = sPut (sNew S10 100 4 4) 106 18 (some 117) := ⟨_, rfl⟩
  have t11 : sT S11 106 = 11 := by rw [h11, sT_mk, if_neg (by omega), t10]
  have z11 : sZ S11 = 118 := by rw [h11, sZ_mk, z10]
  have c11 : sC S11 = sC S - 11 := by rw [h11, sC_mk, c10]; omega
  have b11 : sB S11 = sB S - 8563 := by rw [h11, sB_mk, b10]; omega
  obtain ⟨S12, h12⟩ : ∃ S', S' = sPut (sNew S11 100 4 4) 106 20 (some 118) := ⟨_, rfl⟩
  have t12 : sT S12 106 = 11 := by rw [h12, sT_mk, if_neg (by omega), t11]
  have z12 : sZ S12 = 119 := by rw [h12, sZ_mk, z11]
  have c12 : sC S12 = sC S - 12 := by rw [h12, sC_mk, c11]; omega
  have b12 : sB S12 = sB S - 8567 := by rw [h12, sB_mk, b11]; omega
  obtain ⟨S13, h13⟩ : ∃ S', S' = sPut (sNew S12 100 4 4) 106 21 (some 119) := ⟨_, rfl⟩
  have t13 : sT S13 106 = 11 := by rw [h13, sT_mk, if_neg (by omega), t12]
  have z13 : sZ S13 = 120 := by rw [h13, sZ_mk, z12]
  have c13 : sC S13 = sC S - 13 := by rw [h13, sC_mk, c12]; omega
  have b13 : sB S13 = sB S - 8571 := by rw [h13, sB_mk, b12]; omega
  obtain ⟨S14, h14⟩ : ∃ S', S' = sPut (sNew S13 100 160 160) 106 22 (some 120) := ⟨_, rfl⟩
  have t14 : sT S14 106 = 11 := by rw [h14, sT_mk, if_neg (by omega), t13]
  have z14 : sZ S14 = 121 := by rw [h14, sZ_mk, z13]
  have c14 : sC S14 = sC S - 14 := by rw [h14, sC_mk, c13]; omega
  have b14 : sB S14 = sB S - 8731 := by rw [h14, sB_mk, b13]; omega
  refine in_4 ht (by omega) (by omega) (by omega) ?_
  rw [hz, ← h1]
  refine in_13 t1 (by omega) (by omega) (by omega) ?_
  rw [z1, ← h2]
  refine in_22 t2 (by omega) (by omega) (by omega) ?_
  rw [z2, ← h3]
  refine in_31 t3 (by omega) (by omega) (by omega) ?_
  rw [z3, ← h4]
  refine in_40 t4 (by omega) (by omega) (by omega) ?_
  rw [z4, ← h5]
  refine in_47 t5 (by omega) (by omega) (by omega) ?_
  rw [z5, ← h6]
  refine in_56 t6 (by omega) (by omega) (by omega) ?_
  rw [z6, ← h7]
  refine in_63 t7 (by omega) (by omega) (by omega) ?_
  rw [z7, ← h8]
  refine in_72 t8 (by omega) (by omega) (by omega) ?_
  rw [z8, ← h9]
  refine in_81 t9 (by omega) (by omega) (by omega) ?_
  rw [z9, ← h10]
  refine in_90 t10 (by omega) (by omega) (by omega) ?_
  rw [z10, ← h11]
  refine in_97 t11 (by omega) (by omega) (by omega) ?_
  rw [z11, ← h12]
  refine in_104 t12 (by omega) (by omega) (by omega) ?_
  rw [z12, ← h13]
  refine in_111 t13 (by omega) (by omega) (by omega) ?_
  rw [z13, ← h14]
  have p1 : ∀ b j, sP S1 b j = if b = 106 ∧ j = 0 then some 107 else if b = 107 then none else sP S b j := fun b j => by rw [h1, sP_mk, hz]
  have y1 : ∀ b, sT S1 b = if b = 107 then 100 else sT S b := fun b => by rw [h1, sT_mk, hz]
  have n1 : ∀ b, sN S1 b = if b = 107 then 238 else sN S b := fun b => by rw [h1, sN_mk, hz]
  have p2 : ∀ b j, sP S2 b j = if b = 106 ∧ j = 1 then some 108 else if b = 108 then none else sP S1 b j := fun b j => by rw [h2, sP_mk, z1]
  have y2 : ∀ b, sT S2 b = if b = 108 then 100 else sT S1 b := fun b => by rw [h2, sT_mk, z1]
  have n2 : ∀ b, sN S2 b = if b = 108 then 238 else sN S1 b := fun b => by rw [h2, sN_mk, z1]
  have p3 : ∀ b j, sP S3 b j = if b = 106 ∧ j = 2 then some 109 else if b = 109 then none else sP S2 b j := fun b j => by rw [h3, sP_mk, z2]
  have y3 : ∀ b, sT S3 b = if b = 109 then 100 else sT S2 b := fun b => by rw [h3, sT_mk, z2]
  have n3 : ∀ b, sN S3 b = if b = 109 then 238 else sN S2 b := fun b => by rw [h3, sN_mk, z2]
  have p4 : ∀ b j, sP S4 b j = if b = 106 ∧ j = 3 then some 110 else if b = 110 then none else sP S3 b j := fun b j => by rw [h4, sP_mk, z3]
  have y4 : ∀ b, sT S4 b = if b = 110 then 100 else sT S3 b := fun b => by rw [h4, sT_mk, z3]
  have n4 : ∀ b, sN S4 b = if b = 110 then 476 else sN S3 b := fun b => by rw [h4, sN_mk, z3]
  have p5 : ∀ b j, sP S5 b j = if b = 106 ∧ j = 4 then some 111 else if b = 111 then none else sP S4 b j := fun b j => by rw [h5, sP_mk, z4]
  have y5 : ∀ b, sT S5 b = if b = 111 then 102 else sT S4 b := fun b => by rw [h5, sT_mk, z4]
  have n5 : ∀ b, sN S5 b = if b = 111 then 2 else sN S4 b := fun b => by rw [h5, sN_mk, z4]
  have p6 : ∀ b j, sP S6 b j = if b = 106 ∧ j = 5 then some 112 else if b = 112 then none else sP S5 b j := fun b j => by rw [h6, sP_mk, z5]
  have y6 : ∀ b, sT S6 b = if b = 112 then 100 else sT S5 b := fun b => by rw [h6, sT_mk, z5]
  have n6 : ∀ b, sN S6 b = if b = 112 then 160 else sN S5 b := fun b => by rw [h6, sN_mk, z5]
  have p7 : ∀ b j, sP S7 b j = if b = 106 ∧ j = 13 then some 113 else if b = 113 then none else sP S6 b j := fun b j => by rw [h7, sP_mk, z6]
  have y7 : ∀ b, sT S7 b = if b = 113 then 100 else sT S6 b := fun b => by rw [h7, sT_mk, z6]
  have n7 : ∀ b, sN S7 b = if b = 113 then 4 else sN S6 b := fun b => by rw [h7, sN_mk, z6]
  have p8 : ∀ b j, sP S8 b j = if b = 106 ∧ j = 14 then some 114 else if b = 114 then none else sP S7 b j := fun b j => by rw [h8, sP_mk, z7]
  have y8 : ∀ b, sT S8 b = if b = 114 then 100 else sT S7 b := fun b => by rw [h8, sT_mk, z7]
  have n8 : ∀ b, sN S8 b = if b = 114 then 2401 else sN S7 b := fun b => by rw [h8, sN_mk, z7]
  have p9 : ∀ b j, sP S9 b j = if b = 106 ∧ j = 15 then some 115 else if b = 115 then none else sP S8 b j := fun b j => by rw [h9, sP_mk, z8]
  have y9 : ∀ b, sT S9 b = if b = 115 then 102 else sT S8 b := fun b => by rw [h9, sT_mk, z8]
  have n9 : ∀ b, sN S9 b = if b = 115 then 2401 else sN S8 b := fun b => by rw [h9, sN_mk, z8]
  have p10 : ∀ b j, sP S10 b j = if b = 106 ∧ j = 16 then some 116 else if b = 116 then none else sP S9 b j := fun b j => by rw [h10, sP_mk, z9]
  have y10 : ∀ b, sT S10 b = if b = 116 then 102 else sT S9 b := fun b => by rw [h10, sT_mk, z9]
  have n10 : ∀ b, sN S10 b = if b = 116 then 2401 else sN S9 b := fun b => by rw [h10, sN_mk, z9]
  have p11 : ∀ b j, sP S11 b j = if b = 106 ∧ j = 18 then some 117 else if b = 117 then none else sP S10 b j := fun b j => by rw [h11, sP_mk, z10]
  have y11 : ∀ b, sT S11 b = if b = 117 then 100 else sT S10 b := fun b => by rw [h11, sT_mk, z10]
  have n11 : ∀ b, sN S11 b = if b = 117 then 4 else sN S10 b := fun b => by rw [h11, sN_mk, z10]
  have p12 : ∀ b j, sP S12 b j = if b = 106 ∧ j = 20 then some 118 else if b = 118 then none else sP S11 b j := fun b j => by rw [h12, sP_mk, z11]
  have y12 : ∀ b, sT S12 b = if b = 118 then 100 else sT S11 b := fun b => by rw [h12, sT_mk, z11]
  have n12 : ∀ b, sN S12 b = if b = 118 then 4 else sN S11 b := fun b => by rw [h12, sN_mk, z11]
  have p13 : ∀ b j, sP S13 b j = if b = 106 ∧ j = 21 then some 119 else if b = 119 then none else sP S12 b j := fun b j => by rw [h13, sP_mk, z12]
  have y13 : ∀ b, sT S13 b = if b = 119 then 100 else sT S12 b := fun b => by rw [h13, sT_mk, z12]
  have n13 : ∀ b, sN S13 b = if b = 119 then 4 else sN S12 b := fun b => by rw [h13, sN_mk, z12]
  have p14 : ∀ b j, sP S14 b j = if b = 106 ∧ j = 22 then some 120 else if b = 120 then none else sP S13 b j := fun b j => by rw [h14, sP_mk, z13]
  have y14 : ∀ b, sT S14 b = if b = 120 then 100 else sT S13 b := fun b => by rw [h14, sT_mk, z13]
  have n14 : ∀ b, sN S14 b = if b = 120 then 160 else sN S13 b := fun b => by rw [h14, sN_mk, z13]
  have hM : MSk S14 := by
    unfold MSk
    simp only [p14, p13, p12, p11, p10, p9, p8, p7, p6, p5, p4, p3, p2, p1, y14, y13, y12, y11, y10, y9, y8, y7, y6, y5, y4, y3, y2, y1, n14, n13, n12, n11, n10, n9, n8, n7, n6, n5, n4, n3, n2, n1, ht, Nat.reduceEqDiff, Int.reduceEq, and_true, and_false, true_and, and_self, ↓reduceIte, if_false, if_true]
  have hfr : ∀ b : Nat, b ≠ 106 → (b < 107 ∨ 121 ≤ b) → sT S14 b = sT S b ∧ sN S14 b = sN S b ∧ sP S14 b = sP S b := by
    intro b h1 h2
    have e : ∀ c : Nat, 107 ≤ c → c < 121 → ¬ b = c := fun c _ _ => by omega
    refine ⟨?_, ?_, ?_⟩
    · simp (disch := omega) only [y14, y13, y12, y11, y10, y9, y8, y7, y6, y5, y4, y3, y2, y1, e, if_false]
    · simp (disch := omega) only [n14, n13, n12, n11, n10, n9, n8, n7, n6, n5, n4, n3, n2, n1, e, if_false]
    · funext j
      simp (disch := omega) only [p14, p13, p12, p11, p10, p9, p8, p7, p6, p5, p4, p3, p2, p1, e, h1, false_and, if_false]
  have hI : ∀ b : Nat, (b < 107 ∨ 121 ≤ b) → (iNew (iNew (iNew (iNew (iNew (iNew (iNew (iNew (iNew (iNew (iNew (iNew (iNew (iNew I 107) 108) 109) 110) 111) 112) 113) 114) 115) 116) 117) 118) 119) 120) b = I b := by
    intro b h2
    rw [iNew_ne (by omega), iNew_ne (by omega), iNew_ne (by omega), iNew_ne (by omega), iNew_ne (by omega), iNew_ne (by omega), iNew_ne (by omega), iNew_ne (by omega), iNew_ne (by omega), iNew_ne (by omega), iNew_ne (by omega), iNew_ne (by omega), iNew_ne (by omega), iNew_ne (by omega)]
  refine rv_X6_initB_120 ?_
  simp +contextual (disch := omega) only [tr_X6_initB_120, im_ic, im_lc, im_nul, im_iload, im_lload, im_aload, im_istore, im_astore, im_lstore, im_iinc, im_iadd, im_isub, im_imul, im_iand, im_ior, im_ishl, im_ishr, im_iushr, im_idiv, im_irem, im_ineg, im_i2l, im_l2i, im_i2b, im_i2s, im_ladd, im_lcmp, im_dup, im_pop, im_dup_x1, im_dup2, im_ceq, im_cne, im_clt, im_cge, im_cgt, im_cle, im_zeq, im_zne, im_zlt, im_zge, im_zgt, im_zle, im_ifnull, im_ifnn, im_acmpeq, im_acmpne, im_getI, im_getR, im_putI, im_putZ, im_putR, im_ald, im_iast, im_bast, im_sast, im_zast, im_aald, im_alen, im_new, im_newa, im_newq, im_tsw, im_lsw, tswA, lswA, im_callS_eq, im_callV_eq, chk_i, chk_T, dOk_i, tf_0, tf_n0, tf_1, tf_01, tf_F, tf_T, tf_em, tf_me, ↓reduceIte, Int.zero_add, Int.add_zero, Int.one_mul, Int.mul_one, Int.ediv_one, Int.sub_zero, im_ireturn, im_zreturn, im_areturn, im_return, im_objinit, popI_eq, popII_eq, popJ_eq, popJJ_eq, popR_eq, popRR_eq, popV_eq, popVV_eq, popA_eq, popIA_eq, popIIA_eq, popRA_eq, popRIA_eq, getI, getJ, getR, lget_0, lget_s, nlAt, cat1, wsum, List.set_cons_zero, List.set_cons_succ, List.take_succ_cons, List.take_zero, List.drop_succ_cons, List.drop_zero, List.reverse_cons, List.reverse_nil, List.nil_append, List.cons_append, List.length_cons, List.length_nil, true_and, and_true, and_self, ne_eq, not_false_eq_true, not_true_eq_false, Classical.not_not, false_or, or_false, true_or, or_true, imp_self, forall_const, forall_eq, implies_true, true_implies, false_implies, Nat.reduceAdd, Nat.reduceLeDiff, Nat.reduceEqDiff, Nat.reduceSub, Int.reduceNeg, Int.reduceEq, Int.reduceLT, Int.reduceLE, Int.reduceNe, Int.reduceAdd, Int.reduceSub, Nat.le_refl, Nat.zero_le, reduceCtorEq, Option.some.injEq, w32_i]
  refine in_122 hM (fun I' g1 g2 => ?_)
  refine hR S14 I' hM z14 c14 b14 hfr (fun b hb => ?_) (fun b hb hb2 hl k => ?_) g2
  · rw [g1 b (by omega), hI b hb]
  · rw [g1 b hl, iN14_0 b hb hb2]
