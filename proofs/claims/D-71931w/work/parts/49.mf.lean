/-! a move -/
set_option maxRecDepth 100000
theorem i113 {I : SmI} {k x : Int} : iSet I 113 k x 107 = I 107 := iSet_ne (by decide)
theorem iSet_back {I : SmI} {a : Nat} {k x y : Int} (h : I a k = y) : iSet (iSet I a k x) a k y = I := by
  funext b j
  rw [iSet_ap, iSet_ap]
  by_cases e : b = a ∧ j = k
  · rw [if_pos e, e.1, e.2, h]
  · rw [if_neg e, if_neg e]
theorem tf_01' {c : Prop} : tf c = 0 ∨ tf c = 1 := by
  by_cases h : c
  · exact Or.inr (tf_t h)
  · exact Or.inl (tf_f h)
/-- the posture that the spots tell -/
def mEnc (I : SmI) : Int := I 113 0 + 7 * I 113 1 + 49 * I 113 2 + 343 * I 113 3
/-- the posture behind a move, by spot -/
noncomputable def mMv (I : SmI) (t : Int) : Int := by
  classical exact if I 113 t = 0 then -4 else if mNx I t (I 113 t - 1) = I 107 (34 + 6 * t + 1) then mEnc (iSet I 113 t 0) else if mHold (iSet I 113 t (mNx I t (I 113 t - 1) + 1)) (mNx I t (I 113 t - 1)) (I 107 1).toNat then mEnc (iSet I 113 t (mNx I t (I 113 t - 1) + 1)) else -4
theorem b_X6_movedBy {d : Nat} {Rq : SmQ} {S : SmS} {I : SmI} {t : Int} (hM : MSk S) (h0 : 0 ≤ t) (h1 : t < I 107 1) (h2 : I 107 1 ≤ 4) (hz : ∀ k : Int, 0 ≤ k → k < 4 → 0 ≤ I 113 k ∧ I 113 k < 7) (hp : I 113 t ≠ 0 → 0 ≤ mNx I t (I 113 t - 1) ∧ mNx I t (I 113 t - 1) < 6) (hq : ∀ p : Int, 0 ≤ p → p < 6 → 0 ≤ I 107 (4 + 5 * p) ∧ I 107 (4 + 5 * p) ≤ 3) (hR : Rq (.inl (some (vI (mMv I t)))) S I) : SW mi_X6_movedBy 0 (d + 3) Rq [some (vR (some 106)), some (vI t), none, none, none, none] [] S I := by
  have hzt := hz t h0 (by omega)
  have key : ∀ x y z : Int, (0 ≤ x ∧ x < 7) → (y = 0 ∨ y = 1) → (if y = 1 then mEnc (iSet I 113 t x) else -4) = mMv I t → SW mi_X6_movedBy 67 (d + 3) Rq [some (vR (some 106)), some (vI t), some (vI (I 113 t)), some (vI z), some (vI y), none] [] S (iSet I 113 t x) := by
    intro x y z hx hy e
    have h81 : SW mi_X6_movedBy 81 (d + 3) Rq [some (vR (some 106)), some (vI t), some (vI (I 113 t)), some (vI z), some (vI y), none] [vI (mMv I t)] S (iSet I 113 t x) := by
      refine rv_X6_movedBy_81 ?_
      simp +contextual (disch := omega) only [tr_X6_movedBy_81, im_ic, im_lc, im_nul, im_iload, im_lload, im_aload, im_istore, im_astore, im_lstore, im_iinc, im_iadd, im_isub, im_imul, im_iand, im_ior, im_ishl, im_ishr, im_iushr, im_idiv, im_irem, im_ineg, im_i2l, im_l2i, im_i2b, im_i2s, im_ladd, im_lcmp, im_dup, im_pop, im_dup_x1, im_dup2, im_ceq, im_cne, im_clt, im_cge, im_cgt, im_cle, im_zeq, im_zne, im_zlt, im_zge, im_zgt, im_zle, im_ifnull, im_ifnn, im_acmpeq, im_acmpne, im_getI, im_getR, im_putI, im_putZ, im_putR, im_ald, im_iast, im_bast, im_sast, im_zast, im_aald, im_alen, im_new, im_newa, im_newq, im_tsw, im_lsw, tswA, lswA, im_callS_eq, im_callV_eq, chk_i, chk_T, dOk_i, tf_0, tf_n0, tf_1, tf_01, tf_F, tf_T, tf_em, tf_me, ↓reduceIte, Int.zero_add, Int.add_zero, Int.one_mul, Int.mul_one, Int.ediv_one, Int.sub_zero, im_ireturn, im_zreturn, im_areturn, im_return, im_objinit, popI_eq, popII_eq, popJ_eq, popJJ_eq, popR_eq, popRR_eq, popV_eq, popVV_eq, popA_eq, popIA_eq, popIIA_eq, popRA_eq, popRIA_eq, getI, getJ, getR, lget_0, lget_s, nlAt, cat1, wsum, List.set_cons_zero, List.set_cons_succ, List.take_succ_cons, List.take_zero, List.drop_succ_cons, List.drop_zero, List.reverse_cons, List.reverse_nil, List.nil_append, List.cons_append, List.length_cons, List.length_nil, true_and, and_true, and_self, ne_eq, not_false_eq_true, not_true_eq_false, Classical.not_not, false_or, or_false, true_or, or_true, imp_self, forall_const, forall_eq, implies_true, true_implies, false_implies, Nat.reduceAdd, Nat.reduceLeDiff, Nat.reduceEqDiff, Nat.reduceSub, Int.reduceNeg, Int.reduceEq, Int.reduceLT, Int.reduceLE, Int.reduceNe, Int.reduceAdd, Int.reduceSub, Nat.le_refl, Nat.zero_le, reduceCtorEq, Option.some.injEq, w32_i, MSk_t106 hM, MSk_p0 hM, MSk_t107 hM, MSk_n107 hM, MSk_p1 hM, MSk_t108 hM, MSk_n108 hM, MSk_p2 hM, MSk_t109 hM, MSk_n109 hM, MSk_p3 hM, MSk_t110 hM, MSk_n110 hM, MSk_p4 hM, MSk_t111 hM, MSk_n111 hM, MSk_p5 hM, MSk_t112 hM, MSk_n112 hM, MSk_p13 hM, MSk_t113 hM, MSk_n113 hM, MSk_p14 hM, MSk_t114 hM, MSk_n114 hM, MSk_p15 hM, MSk_t115 hM, MSk_n115 hM, MSk_p16 hM, MSk_t116 hM, MSk_n116 hM, MSk_p18 hM, MSk_t117 hM, MSk_n117 hM, MSk_p20 hM, MSk_t118 hM, MSk_n118 hM, MSk_p21 hM, MSk_t119 hM, MSk_n119 hM, MSk_p22 hM, MSk_t120 hM, MSk_n120 hM]
      rw [iSet_back rfl]
      exact hR
    refine rv_X6_movedBy_67 ?_
    simp +contextual (disch := omega) only [tr_X6_movedBy_67, im_ic, im_lc, im_nul, im_iload, im_lload, im_aload, im_istore, im_astore, im_lstore, im_iinc, im_iadd, im_isub, im_imul, im_iand, im_ior, im_ishl, im_ishr, im_iushr, im_idiv, im_irem, im_ineg, im_i2l, im_l2i, im_i2b, im_i2s, im_ladd, im_lcmp, im_dup, im_pop, im_dup_x1, im_dup2, im_ceq, im_cne, im_clt, im_cge, im_cgt, im_cle, im_zeq, im_zne, im_zlt, im_zge, im_zgt, im_zle, im_ifnull, im_ifnn, im_acmpeq, im_acmpne, im_getI, im_getR, im_putI, im_putZ, im_putR, im_ald, im_iast, im_bast, im_sast, im_zast, im_aald, im_alen, im_new, im_newa, im_newq, im_tsw, im_lsw, tswA, lswA, im_callS_eq, im_callV_eq, chk_i, chk_T, dOk_i, tf_0, tf_n0, tf_1, tf_01, tf_F, tf_T, tf_em, tf_me, ↓reduceIte, Int.zero_add, Int.add_zero, Int.one_mul, Int.mul_one, Int.ediv_one, Int.sub_zero, im_ireturn, im_zreturn, im_areturn, im_return, im_objinit, popI_eq, popII_eq, popJ_eq, popJJ_eq, popR_eq, popRR_eq, popV_eq, popVV_eq, popA_eq, popIA_eq, popIIA_eq, popRA_eq, popRIA_eq, getI, getJ, getR, lget_0, lget_s, nlAt, cat1, wsum, List.set_cons_zero, List.set_cons_succ, List.take_succ_cons, List.take_zero, List.drop_succ_cons, List.drop_zero, List.reverse_cons, List.reverse_nil, List.nil_append, List.cons_append, List.length_cons, List.length_nil, true_and, and_true, and_self, ne_eq, not_false_eq_true, not_true_eq_false, Classical.not_not, false_or, or_false, true_or, or_true, imp_self, forall_const, forall_eq, implies_true, true_implies, false_implies, Nat.reduceAdd, Nat.reduceLeDiff, Nat.reduceEqDiff, Nat.reduceSub, Int.reduceNeg, Int.reduceEq, Int.reduceLT, Int.reduceLE, Int.reduceNe, Int.reduceAdd, Int.reduceSub, Nat.le_refl, Nat.zero_le, reduceCtorEq, Option.some.injEq, w32_i, MSk_t106 hM, MSk_p0 hM, MSk_t107 hM, MSk_n107 hM, MSk_p1 hM, MSk_t108 hM, MSk_n108 hM, MSk_p2 hM, MSk_t109 hM, MSk_n109 hM, MSk_p3 hM, MSk_t110 hM, MSk_n110 hM, MSk_p4 hM, MSk_t111 hM, MSk_n111 hM, MSk_p5 hM, MSk_t112 hM, MSk_n112 hM, MSk_p13 hM, MSk_t113 hM, MSk_n113 hM, MSk_p14 hM, MSk_t114 hM, MSk_n114 hM, MSk_p15 hM, MSk_t115 hM, MSk_n115 hM, MSk_p16 hM, MSk_t116 hM, MSk_n116 hM, MSk_p18 hM, MSk_t117 hM, MSk_n117 hM, MSk_p20 hM, MSk_t118 hM, MSk_n118 hM, MSk_p21 hM, MSk_t119 hM, MSk_n119 hM, MSk_p22 hM, MSk_t120 hM, MSk_n120 hM, hM, im_p_X6_encode]
    refine ⟨fun a => ?_, fun a => ⟨fun k k0 k1 => ?_, ?_⟩⟩
    · rw [if_neg (by omega)] at e
      rw [← e, a] at h81
      exact h81
    · have := hz k k0 k1
      rw [iSet_ap]
      split <;> omega
    · rw [if_pos (by omega)] at e
      rw [← e] at h81
      exact h81
  refine rv_X6_movedBy_0 ?_
  simp +contextual (disch := omega) only [tr_X6_movedBy_0, im_ic, im_lc, im_nul, im_iload, im_lload, im_aload, im_istore, im_astore, im_lstore, im_iinc, im_iadd, im_isub, im_imul, im_iand, im_ior, im_ishl, im_ishr, im_iushr, im_idiv, im_irem, im_ineg, im_i2l, im_l2i, im_i2b, im_i2s, im_ladd, im_lcmp, im_dup, im_pop, im_dup_x1, im_dup2, im_ceq, im_cne, im_clt, im_cge, im_cgt, im_cle, im_zeq, im_zne, im_zlt, im_zge, im_zgt, im_zle, im_ifnull, im_ifnn, im_acmpeq, im_acmpne, im_getI, im_getR, im_putI, im_putZ, im_putR, im_ald, im_iast, im_bast, im_sast, im_zast, im_aald, im_alen, im_new, im_newa, im_newq, im_tsw, im_lsw, tswA, lswA, im_callS_eq, im_callV_eq, chk_i, chk_T, dOk_i, tf_0, tf_n0, tf_1, tf_01, tf_F, tf_T, tf_em, tf_me, ↓reduceIte, Int.zero_add, Int.add_zero, Int.one_mul, Int.mul_one, Int.ediv_one, Int.sub_zero, im_ireturn, im_zreturn, im_areturn, im_return, im_objinit, popI_eq, popII_eq, popJ_eq, popJJ_eq, popR_eq, popRR_eq, popV_eq, popVV_eq, popA_eq, popIA_eq, popIIA_eq, popRA_eq, popRIA_eq, getI, getJ, getR, lget_0, lget_s, nlAt, cat1, wsum, List.set_cons_zero, List.set_cons_succ, List.take_succ_cons, List.take_zero, List.drop_succ_cons, List.drop_zero, List.reverse_cons, List.reverse_nil, List.nil_append, List.cons_append, List.length_cons, List.length_nil, true_and, and_true, and_self, ne_eq, not_false_eq_true, not_true_eq_false, Classical.not_not, false_or, or_false, true_or, or_true, imp_self, forall_const, forall_eq, implies_true, true_implies, false_implies, Nat.reduceAdd, Nat.reduceLeDiff, Nat.reduceEqDiff, Nat.reduceSub, Int.reduceNeg, Int.reduceEq, Int.reduceLT, Int.reduceLE, Int.reduceNe, Int.reduceAdd, Int.reduceSub, Nat.le_refl, Nat.zero_le, reduceCtorEq, Option.some.injEq, w32_i, MSk_t106 hM, MSk_p0 hM, MSk_t107 hM, MSk_n107 hM, MSk_p1 hM, MSk_t108 hM, MSk_n108 hM, MSk_p2 hM, MSk_t109 hM, MSk_n109 hM, MSk_p3 hM, MSk_t110 hM, MSk_n110 hM, MSk_p4 hM, MSk_t111 hM, MSk_n111 hM, MSk_p5 hM, MSk_t112 hM, MSk_n112 hM, MSk_p13 hM, MSk_t113 hM, MSk_n113 hM, MSk_p14 hM, MSk_t114 hM, MSk_n114 hM, MSk_p15 hM, MSk_t115 hM, MSk_n115 hM, MSk_p16 hM, MSk_t116 hM, MSk_n116 hM, MSk_p18 hM, MSk_t117 hM, MSk_n117 hM, MSk_p20 hM, MSk_t118 hM, MSk_n118 hM, MSk_p21 hM, MSk_t119 hM, MSk_n119 hM, MSk_p22 hM, MSk_t120 hM, MSk_n120 hM, hM, im_p_X6_nextFrom, im_p_X6_ofTrain, im_p_X6_holds, im_p_X6_encode, i113]
  refine ⟨fun a => ?_, fun a => ?_⟩
  · have hpt := hp a
    have hqt := hq _ hpt.1 hpt.2
    refine ⟨fun b => ⟨⟨hpt.1, hpt.2, by omega, by omega, hqt.1, hqt.2⟩, ?_⟩, fun b => ?_⟩
    · refine key _ _ _ ⟨by omega, by omega⟩ tf_01' ?_
      unfold mMv
      rw [if_neg a, if_neg b]
      by_cases c : mHold (iSet I 113 t (mNx I t (I 113 t - 1) + 1)) (mNx I t (I 113 t - 1)) (I 107 1).toNat
      · rw [tf_t c, if_pos rfl, if_pos c]
      · rw [tf_f c, if_neg (by omega), if_neg c]
    · refine key 0 1 _ ⟨by omega, by omega⟩ (Or.inr rfl) ?_
      unfold mMv
      rw [if_neg a, if_pos b, if_pos rfl]
  · have e : mMv I t = -4 := by unfold mMv; rw [if_pos a]
    rw [e] at hR
    exact hR
theorem c_X6_movedBy {d : Nat} {Rq : SmQ} {S : SmS} {I : SmI} {t : Int} (hM : MSk S) (h0 : 0 ≤ t) (h1 : t < I 107 1) (h2 : I 107 1 ≤ 4) (hz : ∀ k : Int, 0 ≤ k → k < 4 → 0 ≤ I 113 k ∧ I 113 k < 7) (hp : I 113 t ≠ 0 → 0 ≤ mNx I t (I 113 t - 1) ∧ mNx I t (I 113 t - 1) < 6) (hq : ∀ p : Int, 0 ≤ p → p < 6 → 0 ≤ I 107 (4 + 5 * p) ∧ I 107 (4 + 5 * p) ≤ 3) (hR : Rq (.inl (some (vI (mMv I t)))) S I) : SC mi_X6_movedBy (d + 3) [vR (some 106), vI t] S I Rq := SC_of0 (Nat.le_of_ble_eq_true rfl) (b_X6_movedBy (S := sBud S 0 0) hM h0 h1 h2 hz hp hq hR)
def im_p_X6_movedBy (d : Nat) (l : SmL) (st : List SmV) (S : SmS) (I : SmI) (K : SmK) : Prop := popI st fun t st => popA st fun a1 st => dOk 3 d ∧ a1 = 106 ∧ (MSk S) ∧ (∀ k : Int, 0 ≤ k → k < 4 → 0 ≤ I 113 k ∧ I 113 k < 7) ∧ (I 113 t ≠ 0 → 0 ≤ mNx I t (I 113 t - 1) ∧ mNx I t (I 113 t - 1) < 6) ∧ (∀ p : Int, 0 ≤ p → p < 6 → 0 ≤ I 107 (4 + 5 * p) ∧ I 107 (4 + 5 * p) ≤ 3) ∧ chk ((0 ≤ t) ∧ (t < I 107 1) ∧ (I 107 1 ≤ 4)) ∧ sT S 106 = 11 ∧ wsum st ≤ 8 ∧ K l (vI (mMv I t) :: st) S I
theorem xv_p_X6_movedBy {M : SmM} {pc d idx : Nat} {Rq : SmQ} {K : SmK} (hd : decode (mC M) pc = .ok (.invokevirtual idx, 3)) (hw : GoodIn lw_all (wsV (mN M).cls idx RX6 (mN mi_X6_movedBy) (ws_ (mN mi_X6_movedBy) (mC mi_X6_movedBy) (mL mi_X6_movedBy) (mR mi_X6_movedBy)))) (hk : SmW M (pc + 3) d Rq K) : SmW M pc d Rq (fun l st S I => im_p_X6_movedBy d l st S I K) := by
  intro l st S I h
  obtain ⟨t, st1, rfl, hq1⟩ := popI_ex h
  obtain ⟨a1, st2, rfl, hq2⟩ := popA_ex hq1
  obtain ⟨hd9, rfl, hM, hz, hp, hq, ⟨h0, h1, h2⟩, hT9, hw9, h9⟩ := hq2
  obtain ⟨d9, rfl⟩ : ∃ d9, d = d9 + 3 + 1 := ⟨d - (3 + 1), by unfold dOk at hd9; omega⟩
  exact xv_callV (n := 1) hd cl_11 tg_11 ok_X6_movedBy rfl hw _ _ _ _ (show im_callV 1 11 mi_X6_movedBy (d9 + 3 + 1) _ _ S I from ⟨Nat.le_of_ble_eq_true rfl, hT9, hw9, c_X6_movedBy hM h0 h1 h2 hz hp hq (hk _ _ _ _ h9)⟩)