/-! the model drops, draws, reads -/
set_option maxRecDepth 100000
def gSh (r : Int → Int) (t : Int) : Int → Int := fun c => if c = 1 then r 1 - 1 else if 34 + 6 * t ≤ c ∧ c < 34 + 6 * (r 1 - 1) then r (c + 6) else r c
def gDrop (r : Int → Int) (t : Int) : Int → Int := gLv (gSh r t) t
theorem b_X6_drop {d : Nat} {Rq : SmQ} {S : SmS} {I : SmI} {t : Int} (hM : MSk S) (hW : WR (I 107)) (hw : ∀ i : Int, 0 ≤ i → i < I 107 3 → 0 ≤ I 107 (58 + 3 * i + 1) ∧ I 107 (58 + 3 * i + 1) < 4) (hB : ¬ (0 ≤ t ∧ t ≤ I 107 1 - 1) → Rq (.inl (some (vI (-1)))) S I) (hT : (0 ≤ t ∧ t ≤ I 107 1 - 1) → I 107 (34 + 6 * t + 4) = 1 → Rq (.inl (some (vI (-2)))) S I) (hR : (0 ≤ t ∧ t ≤ I 107 1 - 1) → I 107 (34 + 6 * t + 4) ≠ 1 → Rq (.inl (some (vI (I 107 1 - 1)))) S (rwS I (gDrop (I 107) t))) : SW mi_X6_drop 0 (d + 3) Rq [some (vR (some 106)), some (vI t), none] [] S I := by
  have h4 := hW.1
  refine rv_X6_drop_0 ?_
  simp +contextual (disch := omega) only [tr_X6_drop_0, im_ic, im_lc, im_nul, im_iload, im_lload, im_aload, im_istore, im_astore, im_lstore, im_iinc, im_iadd, im_isub, im_imul, im_iand, im_ior, im_ishl, im_ishr, im_iushr, im_idiv, im_irem, im_ineg, im_i2l, im_l2i, im_i2b, im_i2s, im_ladd, im_lcmp, im_dup, im_pop, im_dup_x1, im_dup2, im_ceq, im_cne, im_clt, im_cge, im_cgt, im_cle, im_zeq, im_zne, im_zlt, im_zge, im_zgt, im_zle, im_ifnull, im_ifnn, im_acmpeq, im_acmpne, im_getI, im_getR, im_putI, im_putZ, im_putR, im_ald, im_iast, im_bast, im_sast, im_zast, im_aald, im_alen, im_new, im_newa, im_newq, im_tsw, im_lsw, tswA, lswA, im_callS_eq, im_callV_eq, chk_i, chk_T, dOk_i, tf_0, tf_n0, tf_1, tf_01, tf_F, tf_T, tf_em, tf_me, ↓reduceIte, Int.zero_add, Int.add_zero, Int.one_mul, Int.mul_one, Int.ediv_one, Int.sub_zero, im_ireturn, im_zreturn, im_areturn, im_return, im_objinit, popI_eq, popII_eq, popJ_eq, popJJ_eq, popR_eq, popRR_eq, popV_eq, popVV_eq, popA_eq, popIA_eq, popIIA_eq, popRA_eq, popRIA_eq, getI, getJ, getR, lget_0, lget_s, nlAt, cat1, wsum, List.set_cons_zero, List.set_cons_succ, List.take_succ_cons, List.take_zero, List.drop_succ_cons, List.drop_zero, List.reverse_cons, List.reverse_nil, List.nil_append, List.cons_append, List.length_cons, List.length_nil, true_and, and_true, and_self, ne_eq, not_false_eq_true, not_true_eq_false, Classical.not_not, false_or, or_false, true_or, or_true, imp_self, forall_const, forall_eq, implies_true, true_implies, false_implies, Nat.reduceAdd, Nat.reduceLeDiff, Nat.reduceEqDiff, Nat.reduceSub, Int.reduceNeg, Int.reduceEq, Int.reduceLT, Int.reduceLE, Int.reduceNe, Int.reduceAdd, Int.reduceSub, Nat.le_refl, Nat.zero_le, reduceCtorEq, Option.some.injEq, w32_i, MSk_t106 hM, MSk_p0 hM, MSk_t107 hM, MSk_n107 hM, MSk_p1 hM, MSk_t108 hM, MSk_n108 hM, MSk_p2 hM, MSk_t109 hM, MSk_n109 hM, MSk_p3 hM, MSk_t110 hM, MSk_n110 hM, MSk_p4 hM, MSk_t111 hM, MSk_n111 hM, MSk_p5 hM, MSk_t112 hM, MSk_n112 hM, MSk_p13 hM, MSk_t113 hM, MSk_n113 hM, MSk_p14 hM, MSk_t114 hM, MSk_n114 hM, MSk_p15 hM, MSk_t115 hM, MSk_n115 hM, MSk_p16 hM, MSk_t116 hM, MSk_n116 hM, MSk_p18 hM, MSk_t117 hM, MSk_n117 hM, MSk_p20 hM, MSk_t118 hM, MSk_n118 hM, MSk_p21 hM, MSk_t119 hM, MSk_n119 hM, MSk_p22 hM, MSk_t120 hM, MSk_n120 hM, hM, im_p_X6_isTrain, im_p_X6_ofTrain]
  refine ⟨fun a => ⟨fun b => ?_, fun b => hT a b⟩, hB⟩
  have h9 := hR a b
  refine mp_eq (loop_up (P := fun (i : Nat) => ∀ I' : SmI, (∀ b : Nat, b ≠ 107 → I' b = I b) → (∀ c : Int, I' 107 c = if 34 + 6 * t ≤ c ∧ c < 34 + 6 * t + i then I 107 (c + 6) else I 107 c) → SW mi_X6_drop 31 (d + 3) Rq [some (vR (some 106)), some (vI t), some (vI (34 + 6 * t + (i : Int)))] [] S I') (n := (6 * (I 107 1 - 1 - t)).toNat) ?_ ?_ I (fun _ _ => rfl) (fun c => by rw [if_neg (by omega)])) (by rw [show ((0 : Nat) : Int) = 0 from rfl, Int.add_zero])
  · intro I' g1 g2
    have e1 := g2 1
    rw [if_neg (by omega)] at e1
    have e : rwS I (gSh (I 107) t) = iSet I' 107 1 (I 107 1 - 1) := (rwS_eq (by
      funext c
      unfold gSh
      rw [iSet_ap]
      by_cases c1 : c = 1
      · rw [if_pos ⟨rfl, c1⟩, if_pos c1]
      · rw [if_neg (fun z => c1 z.2), if_neg c1, g2 c]
        by_cases q : 34 + 6 * t ≤ c ∧ c < 34 + 6 * (I 107 1 - 1)
        · rw [if_pos q, if_pos (by omega)]
        · rw [if_neg q, if_neg (by omega)]) (fun b hb => by rw [iSet_ne hb, g1 b hb])).symm
    have s3 : gSh (I 107) t 3 = I 107 3 := by unfold gSh; rw [if_neg (by omega), if_neg (by omega)]
    have s1 : gSh (I 107) t 1 = I 107 1 - 1 := by unfold gSh; rw [if_pos rfl]
    refine rv_X6_drop_31 ?_
    simp +contextual (disch := omega) only [tr_X6_drop_31, im_ic, im_lc, im_nul, im_iload, im_lload, im_aload, im_istore, im_astore, im_lstore, im_iinc, im_iadd, im_isub, im_imul, im_iand, im_ior, im_ishl, im_ishr, im_iushr, im_idiv, im_irem, im_ineg, im_i2l, im_l2i, im_i2b, im_i2s, im_ladd, im_lcmp, im_dup, im_pop, im_dup_x1, im_dup2, im_ceq, im_cne, im_clt, im_cge, im_cgt, im_cle, im_zeq, im_zne, im_zlt, im_zge, im_zgt, im_zle, im_ifnull, im_ifnn, im_acmpeq, im_acmpne, im_getI, im_getR, im_putI, im_putZ, im_putR, im_ald, im_iast, im_bast, im_sast, im_zast, im_aald, im_alen, im_new, im_newa, im_newq, im_tsw, im_lsw, tswA, lswA, im_callS_eq, im_callV_eq, chk_i, chk_T, dOk_i, tf_0, tf_n0, tf_1, tf_01, tf_F, tf_T, tf_em, tf_me, ↓reduceIte, Int.zero_add, Int.add_zero, Int.one_mul, Int.mul_one, Int.ediv_one, Int.sub_zero, im_ireturn, im_zreturn, im_areturn, im_return, im_objinit, popI_eq, popII_eq, popJ_eq, popJJ_eq, popR_eq, popRR_eq, popV_eq, popVV_eq, popA_eq, popIA_eq, popIIA_eq, popRA_eq, popRIA_eq, getI, getJ, getR, lget_0, lget_s, nlAt, cat1, wsum, List.set_cons_zero, List.set_cons_succ, List.take_succ_cons, List.take_zero, List.drop_succ_cons, List.drop_zero, List.reverse_cons, List.reverse_nil, List.nil_append, List.cons_append, List.length_cons, List.length_nil, true_and, and_true, and_self, ne_eq, not_false_eq_true, not_true_eq_false, Classical.not_not, false_or, or_false, true_or, or_true, imp_self, forall_const, forall_eq, implies_true, true_implies, false_implies, Nat.reduceAdd, Nat.reduceLeDiff, Nat.reduceEqDiff, Nat.reduceSub, Int.reduceNeg, Int.reduceEq, Int.reduceLT, Int.reduceLE, Int.reduceNe, Int.reduceAdd, Int.reduceSub, Nat.le_refl, Nat.zero_le, reduceCtorEq, Option.some.injEq, w32_i, MSk_t106 hM, MSk_p0 hM, MSk_t107 hM, MSk_n107 hM, MSk_p1 hM, MSk_t108 hM, MSk_n108 hM, MSk_p2 hM, MSk_t109 hM, MSk_n109 hM, MSk_p3 hM, MSk_t110 hM, MSk_n110 hM, MSk_p4 hM, MSk_t111 hM, MSk_n111 hM, MSk_p5 hM, MSk_t112 hM, MSk_n112 hM, MSk_p13 hM, MSk_t113 hM, MSk_n113 hM, MSk_p14 hM, MSk_t114 hM, MSk_n114 hM, MSk_p15 hM, MSk_t115 hM, MSk_n115 hM, MSk_p16 hM, MSk_t116 hM, MSk_n116 hM, MSk_p18 hM, MSk_t117 hM, MSk_n117 hM, MSk_p20 hM, MSk_t118 hM, MSk_n118 hM, MSk_p21 hM, MSk_t119 hM, MSk_n119 hM, MSk_p22 hM, MSk_t120 hM, MSk_n120 hM, e1]
    refine ⟨fun _ => ?_, fun h => absurd h (by omega)⟩
    rw [← e]
    refine c_X6_leavesJournal hM (by rw [rwS_st, s3]; omega) (by rw [rwS_st, s3]; omega) ⟨a.1, by omega⟩ (fun i i0 i1 => ?_) ?_
    · rw [rwS_st] at i1 ⊢
      rw [s3] at i1
      have : gSh (I 107) t (58 + 3 * i + 1) = I 107 (58 + 3 * i + 1) := by unfold gSh; rw [if_neg (by omega), if_neg (by omega)]
      rw [this]
      exact hw i i0 i1
    · rw [retK_n, rwS_st, rwS_rwS]
      have l1 : gLv (gSh (I 107) t) t 1 = I 107 1 - 1 := by
        unfold gLv
        rw [if_neg (by omega), (lvS_in _).2 1 (by omega), s1]
      refine rv_X6_drop_85 ?_
      simp +contextual (disch := omega) only [tr_X6_drop_85, im_ic, im_lc, im_nul, im_iload, im_lload, im_aload, im_istore, im_astore, im_lstore, im_iinc, im_iadd, im_isub, im_imul, im_iand, im_ior, im_ishl, im_ishr, im_iushr, im_idiv, im_irem, im_ineg, im_i2l, im_l2i, im_i2b, im_i2s, im_ladd, im_lcmp, im_dup, im_pop, im_dup_x1, im_dup2, im_ceq, im_cne, im_clt, im_cge, im_cgt, im_cle, im_zeq, im_zne, im_zlt, im_zge, im_zgt, im_zle, im_ifnull, im_ifnn, im_acmpeq, im_acmpne, im_getI, im_getR, im_putI, im_putZ, im_putR, im_ald, im_iast, im_bast, im_sast, im_zast, im_aald, im_alen, im_new, im_newa, im_newq, im_tsw, im_lsw, tswA, lswA, im_callS_eq, im_callV_eq, chk_i, chk_T, dOk_i, tf_0, tf_n0, tf_1, tf_01, tf_F, tf_T, tf_em, tf_me, ↓reduceIte, Int.zero_add, Int.add_zero, Int.one_mul, Int.mul_one, Int.ediv_one, Int.sub_zero, im_ireturn, im_zreturn, im_areturn, im_return, im_objinit, popI_eq, popII_eq, popJ_eq, popJJ_eq, popR_eq, popRR_eq, popV_eq, popVV_eq, popA_eq, popIA_eq, popIIA_eq, popRA_eq, popRIA_eq, getI, getJ, getR, lget_0, lget_s, nlAt, cat1, wsum, List.set_cons_zero, List.set_cons_succ, List.take_succ_cons, List.take_zero, List.drop_succ_cons, List.drop_zero, List.reverse_cons, List.reverse_nil, List.nil_append, List.cons_append, List.length_cons, List.length_nil, true_and, and_true, and_self, ne_eq, not_false_eq_true, not_true_eq_false, Classical.not_not, false_or, or_false, true_or, or_true, imp_self, forall_const, forall_eq, implies_true, true_implies, false_implies, Nat.reduceAdd, Nat.reduceLeDiff, Nat.reduceEqDiff, Nat.reduceSub, Int.reduceNeg, Int.reduceEq, Int.reduceLT, Int.reduceLE, Int.reduceNe, Int.reduceAdd, Int.reduceSub, Nat.le_refl, Nat.zero_le, reduceCtorEq, Option.some.injEq, w32_i, MSk_t106 hM, MSk_p0 hM, MSk_t107 hM, MSk_n107 hM, MSk_p1 hM, MSk_t108 hM, MSk_n108 hM, MSk_p2 hM, MSk_t109 hM, MSk_n109 hM, MSk_p3 hM, MSk_t110 hM, MSk_n110 hM, MSk_p4 hM, MSk_t111 hM, MSk_n111 hM, MSk_p5 hM, MSk_t112 hM, MSk_n112 hM, MSk_p13 hM, MSk_t113 hM, MSk_n113 hM, MSk_p14 hM, MSk_t114 hM, MSk_n114 hM, MSk_p15 hM, MSk_t115 hM, MSk_n115 hM, MSk_p16 hM, MSk_t116 hM, MSk_n116 hM, MSk_p18 hM, MSk_t117 hM, MSk_n117 hM, MSk_p20 hM, MSk_t118 hM, MSk_n118 hM, MSk_p21 hM, MSk_t119 hM, MSk_n119 hM, MSk_p22 hM, MSk_t120 hM, MSk_n120 hM, rwS_st, l1]
      exact h9
  · intro i hi ih I' g1 g2
    have e1 := g2 1
    rw [if_neg (by omega)] at e1
    have e6 := g2 (34 + 6 * t + (i : Int) + 6)
    rw [if_neg (by omega)] at e6
    refine rv_X6_drop_31 ?_
    simp +contextual (disch := omega) only [tr_X6_drop_31, im_ic, im_lc, im_nul, im_iload, im_lload, im_aload, im_istore, im_astore, im_lstore, im_iinc, im_iadd, im_isub, im_imul, im_iand, im_ior, im_ishl, im_ishr, im_iushr, im_idiv, im_irem, im_ineg, im_i2l, im_l2i, im_i2b, im_i2s, im_ladd, im_lcmp, im_dup, im_pop, im_dup_x1, im_dup2, im_ceq, im_cne, im_clt, im_cge, im_cgt, im_cle, im_zeq, im_zne, im_zlt, im_zge, im_zgt, im_zle, im_ifnull, im_ifnn, im_acmpeq, im_acmpne, im_getI, im_getR, im_putI, im_putZ, im_putR, im_ald, im_iast, im_bast, im_sast, im_zast, im_aald, im_alen, im_new, im_newa, im_newq, im_tsw, im_lsw, tswA, lswA, im_callS_eq, im_callV_eq, chk_i, chk_T, dOk_i, tf_0, tf_n0, tf_1, tf_01, tf_F, tf_T, tf_em, tf_me, ↓reduceIte, Int.zero_add, Int.add_zero, Int.one_mul, Int.mul_one, Int.ediv_one, Int.sub_zero, im_ireturn, im_zreturn, im_areturn, im_return, im_objinit, popI_eq, popII_eq, popJ_eq, popJJ_eq, popR_eq, popRR_eq, popV_eq, popVV_eq, popA_eq, popIA_eq, popIIA_eq, popRA_eq, popRIA_eq, getI, getJ, getR, lget_0, lget_s, nlAt, cat1, wsum, List.set_cons_zero, List.set_cons_succ, List.take_succ_cons, List.take_zero, List.drop_succ_cons, List.drop_zero, List.reverse_cons, List.reverse_nil, List.nil_append, List.cons_append, List.length_cons, List.length_nil, true_and, and_true, and_self, ne_eq, not_false_eq_true, not_true_eq_false, Classical.not_not, false_or, or_false, true_or, or_true, imp_self, forall_const, forall_eq, implies_true, true_implies, false_implies, Nat.reduceAdd, Nat.reduceLeDiff, Nat.reduceEqDiff, Nat.reduceSub, Int.reduceNeg, Int.reduceEq, Int.reduceLT, Int.reduceLE, Int.reduceNe, Int.reduceAdd, Int.reduceSub, Nat.le_refl, Nat.zero_le, reduceCtorEq, Option.some.injEq, w32_i, MSk_t106 hM, MSk_p0 hM, MSk_t107 hM, MSk_n107 hM, MSk_p1 hM, MSk_t108 hM, MSk_n108 hM, MSk_p2 hM, MSk_t109 hM, MSk_n109 hM, MSk_p3 hM, MSk_t110 hM, MSk_n110 hM, MSk_p4 hM, MSk_t111 hM, MSk_n111 hM, MSk_p5 hM, MSk_t112 hM, MSk_n112 hM, MSk_p13 hM, MSk_t113 hM, MSk_n113 hM, MSk_p14 hM, MSk_t114 hM, MSk_n114 hM, MSk_p15 hM, MSk_t115 hM, MSk_n115 hM, MSk_p16 hM, MSk_t116 hM, MSk_n116 hM, MSk_p18 hM, MSk_t117 hM, MSk_n117 hM, MSk_p20 hM, MSk_t118 hM, MSk_n118 hM, MSk_p21 hM, MSk_t119 hM, MSk_n119 hM, MSk_p22 hM, MSk_t120 hM, MSk_n120 hM, e1, e6]
    refine ⟨fun h => absurd h (by omega), fun _ => ?_⟩
    have := ih (iSet I' 107 (34 + 6 * t + (i : Int)) (I 107 (34 + 6 * t + (i : Int) + 6))) (fun b hb => by rw [iSet_ne hb, g1 b hb]) (fun c => by
      rw [iSet_ap, g2 c]
      by_cases q : c = 34 + 6 * t + (i : Int)
      · rw [if_pos ⟨rfl, q⟩, if_pos (by omega), q]
      · rw [if_neg (fun z => q z.2)]
        by_cases q2 : 34 + 6 * t ≤ c ∧ c < 34 + 6 * t + (i : Int)
        · rw [if_pos q2, if_pos (by omega)]
        · rw [if_neg q2, if_neg (by omega)])
    refine SW_as this ?_ (by first | rfl | grind) (by first | rfl | grind) (by first | rfl | grind)
    simp only [leL_nil, leL_none, leL_some, Option.some.injEq, vI_inj, vR_inj, true_and, and_true, Int.add_assoc]
    try grind [Int.add_assoc]
theorem c_X6_drop {d : Nat} {Rq : SmQ} {S : SmS} {I : SmI} {t : Int} (hM : MSk S) (hW : WR (I 107)) (hw : ∀ i : Int, 0 ≤ i → i < I 107 3 → 0 ≤ I 107 (58 + 3 * i + 1) ∧ I 107 (58 + 3 * i + 1) < 4) (hB : ¬ (0 ≤ t ∧ t ≤ I 107 1 - 1) → Rq (.inl (some (vI (-1)))) S I) (hT : (0 ≤ t ∧ t ≤ I 107 1 - 1) → I 107 (34 + 6 * t + 4) = 1 → Rq (.inl (some (vI (-2)))) S I) (hR : (0 ≤ t ∧ t ≤ I 107 1 - 1) → I 107 (34 + 6 * t + 4) ≠ 1 → Rq (.inl (some (vI (I 107 1 - 1)))) S (rwS I (gDrop (I 107) t))) : SC mi_X6_drop (d + 3) [vR (some 106), vI t] S I Rq := SC_of0 (Nat.le_of_ble_eq_true rfl) (b_X6_drop (S := sBud S 0 0) hM hW hw hB hT hR)
theorem WR_un {r : Int → Int} (h : WR r) {a b n : Int} (h4 : r 1 < 4) : WR (gUn (gAdd r a b n) (r 1)) := by
  have hn := h.1
  have o : ∀ c : Int, (c < 34 + 6 * r 1 ∨ 34 + 6 * r 1 + 6 ≤ c) → gUn (gAdd r a b n) (r 1) c = r c := fun c hc => by
    by_cases c1 : c = 1
    · rw [c1, gUn_1]
    · rw [gUn_o c1, gAdd_o c1 hc]
  refine ⟨by rw [o 0 (by omega), o 1 (by omega), o 2 (by omega), o 3 (by omega)]; exact h.1, fun p p0 p1 => ?_, fun p p0 p1 => ?_, fun u u0 u1 => ?_⟩
  · have q := h.2.1 p p0 p1
    exact ⟨by rw [o _ (by omega)]; exact q.1, fun j j0 j1 => by rw [o _ (by omega)]; exact q.2.1 j j0 j1, by rw [o _ (by omega)]; exact q.2.2⟩
  · rw [o 0 (by omega)] at p1
    rw [o _ (by omega), o _ (by omega)]
    exact h.2.2.1 p p0 p1
  · rw [o 1 (by omega)] at u1
    have w := h.2.2.2 u u0 u1
    unfold WRt at w ⊢
    rw [o 0 (by omega), o 2 (by omega), o _ (by omega), o _ (by omega), o _ (by omega), o _ (by omega), o _ (by omega), o _ (by omega)]
    exact w
theorem WR_adR {r : Int → Int} (h : WR r) {a b n : Int} : WR (adR r a b n) := by
  unfold adR
  split
  · rename_i g
    split
    · exact WR_add h g.2 g.1
    · exact WR_un h g.2
  · exact h
theorem adR_0 {r : Int → Int} (h : WR r) {a b n : Int} : adR r a b n 0 = r 0 := by
  have := h.1
  unfold adR
  split
  · split
    · exact gAdd_o (by omega) (by omega)
    · rw [gUn_o (by omega), gAdd_o (by omega) (by omega)]
  · rfl
def dwV (v : Int) : Int := w32 (w32 (v * 1103515245) + 12345)
def dwG (v : Int) : Int := op32 (fun a b => a &&& b) (op32 (fun a b => a >>> (b &&& 31)) v 16) 32767
noncomputable def dwS (s : Int) (r : Int → Int) : Nat → Int × (Int → Int) × Int
  | 0 => (s, r, 0)
  | k + 1 => (dwV (dwS s r k).1, adR (dwS s r k).2.1 ((dwG (dwV (dwS s r k).1)).tmod ((dwS s r k).2.1 0)) ((w32 ((dwG (dwV (dwS s r k).1)).tdiv 8)).tmod ((dwS s r k).2.1 0)) (w32 ((w32 ((dwG (dwV (dwS s r k).1)).tdiv 64)).tmod 6 + 1)), (dwS s r k).2.2 + tf (0 < adV (dwS s r k).2.1 ((dwG (dwV (dwS s r k).1)).tmod ((dwS s r k).2.1 0)) ((w32 ((dwG (dwV (dwS s r k).1)).tdiv 8)).tmod ((dwS s r k).2.1 0)) (w32 ((w32 ((dwG (dwV (dwS s r k).1)).tdiv 64)).tmod 6 + 1))))
theorem dwS_in {s : Int} {r : Int → Int} (h : WR r) (k : Nat) : WR (dwS s r k).2.1 ∧ (dwS s r k).2.1 0 = r 0 ∧ 0 ≤ (dwS s r k).2.2 ∧ (dwS s r k).2.2 ≤ k := by
  induction k with
  | zero => exact ⟨h, rfl, Int.le_refl _, Int.le_refl _⟩
  | succ k ih =>
    obtain ⟨a, b, c, e⟩ := ih
    have ht := tf_in (c := 0 < adV (dwS s r k).2.1 ((dwG (dwV (dwS s r k).1)).tmod ((dwS s r k).2.1 0)) ((w32 ((dwG (dwV (dwS s r k).1)).tdiv 8)).tmod ((dwS s r k).2.1 0)) (w32 ((w32 ((dwG (dwV (dwS s r k).1)).tdiv 64)).tmod 6 + 1)))
    refine ⟨WR_adR a, (adR_0 a).trans b, ?_, ?_⟩
    · show 0 ≤ (dwS s r k).2.2 + tf _
      omega
    · show (dwS s r k).2.2 + tf _ ≤ _
      omega
theorem b_X6_draw {d : Nat} {Rq : SmQ} {S : SmS} {I : SmI} {s n : Int} (hM : MSk S) (hW : WR (I 107)) (hB : ¬ (1 ≤ n ∧ n ≤ 8) → Rq (.inl (some (vI (-1)))) S I) (hT : (1 ≤ n ∧ n ≤ 8) → I 107 0 = 0 → Rq (.inl (some (vI (-2)))) S I) (hR : (1 ≤ n ∧ n ≤ 8) → I 107 0 ≠ 0 → ∀ I' : SmI, frM I I' → I' 107 = (dwS s (I 107) n.toNat).2.1 → Rq (.inl (some (vI (dwS s (I 107) n.toNat).2.2))) S I') : SW mi_X6_draw 0 (d + 7) Rq [some (vR (some 106)), some (vI s), some (vI n), none, none, none, none] [] S I := by
  have h4 := hW.1
  refine rv_X6_draw_0 ?_
  simp +contextual (disch := omega) only [tr_X6_draw_0, im_ic, im_lc, im_nul, im_iload, im_lload, im_aload, im_istore, im_astore, im_lstore, im_iinc, im_iadd, im_isub, im_imul, im_iand, im_ior, im_ishl, im_ishr, im_iushr, im_idiv, im_irem, im_ineg, im_i2l, im_l2i, im_i2b, im_i2s, im_ladd, im_lcmp, im_dup, im_pop, im_dup_x1, im_dup2, im_ceq, im_cne, im_clt, im_cge, im_cgt, im_cle, im_zeq, im_zne, im_zlt, im_zge, im_zgt, im_zle, im_ifnull, im_ifnn, im_acmpeq, im_acmpne, im_getI, im_getR, im_putI, im_putZ, im_putR, im_ald, im_iast, im_bast, im_sast, im_zast, im_aald, im_alen, im_new, im_newa, im_newq, im_tsw, im_lsw, tswA, lswA, im_callS_eq, im_callV_eq, chk_i, chk_T, dOk_i, tf_0, tf_n0, tf_1, tf_01, tf_F, tf_T, tf_em, tf_me, ↓reduceIte, Int.zero_add, Int.add_zero, Int.one_mul, Int.mul_one, Int.ediv_one, Int.sub_zero, im_ireturn, im_zreturn, im_areturn, im_return, im_objinit, popI_eq, popII_eq, popJ_eq, popJJ_eq, popR_eq, popRR_eq, popV_eq, popVV_eq, popA_eq, popIA_eq, popIIA_eq, popRA_eq, popRIA_eq, getI, getJ, getR, lget_0, lget_s, nlAt, cat1, wsum, List.set_cons_zero, List.set_cons_succ, List.take_succ_cons, List.take_zero, List.drop_succ_cons, List.drop_zero, List.reverse_cons, List.reverse_nil, List.nil_append, List.cons_append, List.length_cons, List.length_nil, true_and, and_true, and_self, ne_eq, not_false_eq_true, not_true_eq_false, Classical.not_not, false_or, or_false, true_or, or_true, imp_self, forall_const, forall_eq, implies_true, true_implies, false_implies, Nat.reduceAdd, Nat.reduceLeDiff, Nat.reduceEqDiff, Nat.reduceSub, Int.reduceNeg, Int.reduceEq, Int.reduceLT, Int.reduceLE, Int.reduceNe, Int.reduceAdd, Int.reduceSub, Nat.le_refl, Nat.zero_le, reduceCtorEq, Option.some.injEq, w32_i, MSk_t106 hM, MSk_p0 hM, MSk_t107 hM, MSk_n107 hM, MSk_p1 hM, MSk_t108 hM, MSk_n108 hM, MSk_p2 hM, MSk_t109 hM, MSk_n109 hM, MSk_p3 hM, MSk_t110 hM, MSk_n110 hM, MSk_p4 hM, MSk_t111 hM, MSk_n111 hM, MSk_p5 hM, MSk_t112 hM, MSk_n112 hM, MSk_p13 hM, MSk_t113 hM, MSk_n113 hM, MSk_p14 hM, MSk_t114 hM, MSk_n114 hM, MSk_p15 hM, MSk_t115 hM, MSk_n115 hM, MSk_p16 hM, MSk_t116 hM, MSk_n116 hM, MSk_p18 hM, MSk_t117 hM, MSk_n117 hM, MSk_p20 hM, MSk_t118 hM, MSk_n118 hM, MSk_p21 hM, MSk_t119 hM, MSk_n119 hM, MSk_p22 hM, MSk_t120 hM, MSk_n120 hM, hM, im_p_X6_in]
  refine ⟨fun a => ⟨fun b => ?_, fun b => hT a b⟩, hB⟩
  refine mp_eq (loop_up (P := fun (i : Nat) => ∀ (I' : SmI) (o : Option SmV), frM I I' → I' 107 = (dwS s (I 107) i).2.1 → SW mi_X6_draw 34 (d + 7) Rq [some (vR (some 106)), some (vI s), some (vI n), some (vI (dwS s (I 107) i).1), some (vI (dwS s (I 107) i).2.2), some (vI i), o] [] S I') (n := n.toNat) ?_ ?_ I none frM_refl rfl) rfl
  · intro I' o g1 g2
    have h9 := hR a b I' g1 g2
    obtain ⟨p1, p2, p3, p4⟩ := dwS_in (s := s) hW n.toNat
    have p0 : (dwS s (I 107) n.toNat).2.1 0 ≠ 0 := by rw [p2]; exact b
    generalize dwS s (I 107) n.toNat = p at *
    refine rv_X6_draw_34 ?_
    simp +contextual (disch := omega) only [tr_X6_draw_34, im_ic, im_lc, im_nul, im_iload, im_lload, im_aload, im_istore, im_astore, im_lstore, im_iinc, im_iadd, im_isub, im_imul, im_iand, im_ior, im_ishl, im_ishr, im_iushr, im_idiv, im_irem, im_ineg, im_i2l, im_l2i, im_i2b, im_i2s, im_ladd, im_lcmp, im_dup, im_pop, im_dup_x1, im_dup2, im_ceq, im_cne, im_clt, im_cge, im_cgt, im_cle, im_zeq, im_zne, im_zlt, im_zge, im_zgt, im_zle, im_ifnull, im_ifnn, im_acmpeq, im_acmpne, im_getI, im_getR, im_putI, im_putZ, im_putR, im_ald, im_iast, im_bast, im_sast, im_zast, im_aald, im_alen, im_new, im_newa, im_newq, im_tsw, im_lsw, tswA, lswA, im_callS_eq, im_callV_eq, chk_i, chk_T, dOk_i, tf_0, tf_n0, tf_1, tf_01, tf_F, tf_T, tf_em, tf_me, ↓reduceIte, Int.zero_add, Int.add_zero, Int.one_mul, Int.mul_one, Int.ediv_one, Int.sub_zero, im_ireturn, im_zreturn, im_areturn, im_return, im_objinit, popI_eq, popII_eq, popJ_eq, popJJ_eq, popR_eq, popRR_eq, popV_eq, popVV_eq, popA_eq, popIA_eq, popIIA_eq, popRA_eq, popRIA_eq, getI, getJ, getR, lget_0, lget_s, nlAt, cat1, wsum, List.set_cons_zero, List.set_cons_succ, List.take_succ_cons, List.take_zero, List.drop_succ_cons, List.drop_zero, List.reverse_cons, List.reverse_nil, List.nil_append, List.cons_append, List.length_cons, List.length_nil, true_and, and_true, and_self, ne_eq, not_false_eq_true, not_true_eq_false, Classical.not_not, false_or, or_false, true_or, or_true, imp_self, forall_const, forall_eq, implies_true, true_implies, false_implies, Nat.reduceAdd, Nat.reduceLeDiff, Nat.reduceEqDiff, Nat.reduceSub, Int.reduceNeg, Int.reduceEq, Int.reduceLT, Int.reduceLE, Int.reduceNe, Int.reduceAdd, Int.reduceSub, Nat.le_refl, Nat.zero_le, reduceCtorEq, Option.some.injEq, w32_i, MSk_t106 hM, MSk_p0 hM, MSk_t107 hM, MSk_n107 hM, MSk_p1 hM, MSk_t108 hM, MSk_n108 hM, MSk_p2 hM, MSk_t109 hM, MSk_n109 hM, MSk_p3 hM, MSk_t110 hM, MSk_n110 hM, MSk_p4 hM, MSk_t111 hM, MSk_n111 hM, MSk_p5 hM, MSk_t112 hM, MSk_n112 hM, MSk_p13 hM, MSk_t113 hM, MSk_n113 hM, MSk_p14 hM, MSk_t114 hM, MSk_n114 hM, MSk_p15 hM, MSk_t115 hM, MSk_n115 hM, MSk_p16 hM, MSk_t116 hM, MSk_n116 hM, MSk_p18 hM, MSk_t117 hM, MSk_n117 hM, MSk_p20 hM, MSk_t118 hM, MSk_n118 hM, MSk_p21 hM, MSk_t119 hM, MSk_n119 hM, MSk_p22 hM, MSk_t120 hM, MSk_n120 hM, g2]
    refine ⟨fun _ => h9, fun h => absurd (show n ≤ (n.toNat : Int) by omega) h⟩
  · intro i hi ih I' o g1 g2
    obtain ⟨p1, p2, p3, p4⟩ := dwS_in (s := s) hW i
    have p0 : (dwS s (I 107) i).2.1 0 ≠ 0 := by rw [p2]; exact b
    have st : dwS s (I 107) (i + 1) = (dwV (dwS s (I 107) i).1, adR (dwS s (I 107) i).2.1 ((dwG (dwV (dwS s (I 107) i).1)).tmod ((dwS s (I 107) i).2.1 0)) ((w32 ((dwG (dwV (dwS s (I 107) i).1)).tdiv 8)).tmod ((dwS s (I 107) i).2.1 0)) (w32 ((w32 ((dwG (dwV (dwS s (I 107) i).1)).tdiv 64)).tmod 6 + 1)), (dwS s (I 107) i).2.2 + tf (0 < adV (dwS s (I 107) i).2.1 ((dwG (dwV (dwS s (I 107) i).1)).tmod ((dwS s (I 107) i).2.1 0)) ((w32 ((dwG (dwV (dwS s (I 107) i).1)).tdiv 8)).tmod ((dwS s (I 107) i).2.1 0)) (w32 ((w32 ((dwG (dwV (dwS s (I 107) i).1)).tdiv 64)).tmod 6 + 1)))) := rfl
    rw [st] at ih
    generalize dwS s (I 107) i = p at *
    have eV : w32 (w32 (p.1 * 1103515245) + 12345) = dwV p.1 := rfl
    have eG : op32 (fun a b => a &&& b) (op32 (fun a b => a >>> (b &&& 31)) (dwV p.1) 16) 32767 = dwG (dwV p.1) := rfl
    refine rv_X6_draw_34 ?_
    simp +contextual (disch := omega) only [tr_X6_draw_34, im_ic, im_lc, im_nul, im_iload, im_lload, im_aload, im_istore, im_astore, im_lstore, im_iinc, im_iadd, im_isub, im_imul, im_iand, im_ior, im_ishl, im_ishr, im_iushr, im_idiv, im_irem, im_ineg, im_i2l, im_l2i, im_i2b, im_i2s, im_ladd, im_lcmp, im_dup, im_pop, im_dup_x1, im_dup2, im_ceq, im_cne, im_clt, im_cge, im_cgt, im_cle, im_zeq, im_zne, im_zlt, im_zge, im_zgt, im_zle, im_ifnull, im_ifnn, im_acmpeq, im_acmpne, im_getI, im_getR, im_putI, im_putZ, im_putR, im_ald, im_iast, im_bast, im_sast, im_zast, im_aald, im_alen, im_new, im_newa, im_newq, im_tsw, im_lsw, tswA, lswA, im_callS_eq, im_callV_eq, chk_i, chk_T, dOk_i, tf_0, tf_n0, tf_1, tf_01, tf_F, tf_T, tf_em, tf_me, ↓reduceIte, Int.zero_add, Int.add_zero, Int.one_mul, Int.mul_one, Int.ediv_one, Int.sub_zero, im_ireturn, im_zreturn, im_areturn, im_return, im_objinit, popI_eq, popII_eq, popJ_eq, popJJ_eq, popR_eq, popRR_eq, popV_eq, popVV_eq, popA_eq, popIA_eq, popIIA_eq, popRA_eq, popRIA_eq, getI, getJ, getR, lget_0, lget_s, nlAt, cat1, wsum, List.set_cons_zero, List.set_cons_succ, List.take_succ_cons, List.take_zero, List.drop_succ_cons, List.drop_zero, List.reverse_cons, List.reverse_nil, List.nil_append, List.cons_append, List.length_cons, List.length_nil, true_and, and_true, and_self, ne_eq, not_false_eq_true, not_true_eq_false, Classical.not_not, false_or, or_false, true_or, or_true, imp_self, forall_const, forall_eq, implies_true, true_implies, false_implies, Nat.reduceAdd, Nat.reduceLeDiff, Nat.reduceEqDiff, Nat.reduceSub, Int.reduceNeg, Int.reduceEq, Int.reduceLT, Int.reduceLE, Int.reduceNe, Int.reduceAdd, Int.reduceSub, Nat.le_refl, Nat.zero_le, reduceCtorEq, Option.some.injEq, w32_i, MSk_t106 hM, MSk_p0 hM, MSk_t107 hM, MSk_n107 hM, MSk_p1 hM, MSk_t108 hM, MSk_n108 hM, MSk_p2 hM, MSk_t109 hM, MSk_n109 hM, MSk_p3 hM, MSk_t110 hM, MSk_n110 hM, MSk_p4 hM, MSk_t111 hM, MSk_n111 hM, MSk_p5 hM, MSk_t112 hM, MSk_n112 hM, MSk_p13 hM, MSk_t113 hM, MSk_n113 hM, MSk_p14 hM, MSk_t114 hM, MSk_n114 hM, MSk_p15 hM, MSk_t115 hM, MSk_n115 hM, MSk_p16 hM, MSk_t116 hM, MSk_n116 hM, MSk_p18 hM, MSk_t117 hM, MSk_n117 hM, MSk_p20 hM, MSk_t118 hM, MSk_n118 hM, MSk_p21 hM, MSk_t119 hM, MSk_n119 hM, MSk_p22 hM, MSk_t120 hM, MSk_n120 hM, g2, eV, eG]
    refine ⟨fun h => absurd h (by omega), fun _ => ?_⟩
    refine c_X6_add hM (by rw [g2]; exact p1) (fun I2 k1 k2 k3 => ?_)
    rw [g2] at k3 ⊢
    have nx := ih I2 none (frM_trans g1 k1) k3
    rw [retK_v]
    generalize adV p.2.1 ((dwG (dwV p.1)).tmod (p.2.1 0)) ((w32 ((dwG (dwV p.1)).tdiv 8)).tmod (p.2.1 0)) (w32 ((w32 ((dwG (dwV p.1)).tdiv 64)).tmod 6 + 1)) = z at *
    refine rv_X6_draw_97 ?_
    simp +contextual (disch := omega) only [tr_X6_draw_97, im_ic, im_lc, im_nul, im_iload, im_lload, im_aload, im_istore, im_astore, im_lstore, im_iinc, im_iadd, im_isub, im_imul, im_iand, im_ior, im_ishl, im_ishr, im_iushr, im_idiv, im_irem, im_ineg, im_i2l, im_l2i, im_i2b, im_i2s, im_ladd, im_lcmp, im_dup, im_pop, im_dup_x1, im_dup2, im_ceq, im_cne, im_clt, im_cge, im_cgt, im_cle, im_zeq, im_zne, im_zlt, im_zge, im_zgt, im_zle, im_ifnull, im_ifnn, im_acmpeq, im_acmpne, im_getI, im_getR, im_putI, im_putZ, im_putR, im_ald, im_iast, im_bast, im_sast, im_zast, im_aald, im_alen, im_new, im_newa, im_newq, im_tsw, im_lsw, tswA, lswA, im_callS_eq, im_callV_eq, chk_i, chk_T, dOk_i, tf_0, tf_n0, tf_1, tf_01, tf_F, tf_T, tf_em, tf_me, ↓reduceIte, Int.zero_add, Int.add_zero, Int.one_mul, Int.mul_one, Int.ediv_one, Int.sub_zero, im_ireturn, im_zreturn, im_areturn, im_return, im_objinit, popI_eq, popII_eq, popJ_eq, popJJ_eq, popR_eq, popRR_eq, popV_eq, popVV_eq, popA_eq, popIA_eq, popIIA_eq, popRA_eq, popRIA_eq, getI, getJ, getR, lget_0, lget_s, nlAt, cat1, wsum, List.set_cons_zero, List.set_cons_succ, List.take_succ_cons, List.take_zero, List.drop_succ_cons, List.drop_zero, List.reverse_cons, List.reverse_nil, List.nil_append, List.cons_append, List.length_cons, List.length_nil, true_and, and_true, and_self, ne_eq, not_false_eq_true, not_true_eq_false, Classical.not_not, false_or, or_false, true_or, or_true, imp_self, forall_const, forall_eq, implies_true, true_implies, false_implies, Nat.reduceAdd, Nat.reduceLeDiff, Nat.reduceEqDiff, Nat.reduceSub, Int.reduceNeg, Int.reduceEq, Int.reduceLT, Int.reduceLE, Int.reduceNe, Int.reduceAdd, Int.reduceSub, Nat.le_refl, Nat.zero_le, reduceCtorEq, Option.some.injEq, w32_i, im_p_X6_flag]
    refine ⟨fun c => ?_, fun c => ?_⟩
    · rw [tf_f (by omega), Int.add_zero] at nx
      refine SW_as nx ?_ (by first | rfl | grind) (by first | rfl | grind) (by first | rfl | grind)
      simp only [leL_nil, leL_none, leL_some, Option.some.injEq, vI_inj, vR_inj, true_and, and_true]
      try grind
    · rw [tf_t (by omega)] at nx
      refine SW_as nx ?_ (by first | rfl | grind) (by first | rfl | grind) (by first | rfl | grind)
      simp only [leL_nil, leL_none, leL_some, Option.some.injEq, vI_inj, vR_inj, true_and, and_true]
      try grind
theorem c_X6_draw {d : Nat} {Rq : SmQ} {S : SmS} {I : SmI} {s n : Int} (hM : MSk S) (hW : WR (I 107)) (hB : ¬ (1 ≤ n ∧ n ≤ 8) → Rq (.inl (some (vI (-1)))) S I) (hT : (1 ≤ n ∧ n ≤ 8) → I 107 0 = 0 → Rq (.inl (some (vI (-2)))) S I) (hR : (1 ≤ n ∧ n ≤ 8) → I 107 0 ≠ 0 → ∀ I' : SmI, frM I I' → I' 107 = (dwS s (I 107) n.toNat).2.1 → Rq (.inl (some (vI (dwS s (I 107) n.toNat).2.2))) S I') : SC mi_X6_draw (d + 7) [vR (some 106), vI s, vI n] S I Rq := SC_of0 (Nat.le_of_ble_eq_true rfl) (b_X6_draw (S := sBud S 0 0) hM hW hB hT hR)