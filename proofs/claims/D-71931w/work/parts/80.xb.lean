/-! a line's posture -/
set_option maxRecDepth 100000
/-- X's digits of where a line's trains are -/
def lDg (b : Nat) (I : SmI) (t : Int) : Int := if t < I b 10 then (if I (b + 13) t = I (b + 11) t then 6 else I (b + 13) t) else 0
def hrn (f : Int → Int) : Nat → Int → Int
  | 0, _ => 0
  | k + 1, lo => f lo + 7 * hrn f k (lo + 1)
theorem hrn_in {f : Int → Int} (h : ∀ t : Int, 0 ≤ t → 0 ≤ f t ∧ f t ≤ 6) : ∀ (k : Nat) (lo : Int), 0 ≤ lo → k ≤ 4 → 0 ≤ hrn f k lo ∧ hrn f k lo < 7 ^ k := by
  intro k
  induction k with
  | zero => intro lo _ _; exact ⟨Int.le_refl _, by show (0 : Int) < 1; omega⟩
  | succ k ih =>
    intro lo h0 hk
    have a := ih (lo + 1) (by omega) (by omega)
    have c := h lo h0
    show 0 ≤ f lo + 7 * hrn f k (lo + 1) ∧ f lo + 7 * hrn f k (lo + 1) < 7 ^ (k + 1)
    rw [Int.pow_succ]
    omega
theorem b_X1_posture {d : Nat} {Rq : SmQ} {S : SmS} {I : SmI} {b : Nat} (hL : LnS b S) (h0 : 0 ≤ I b 10) (h1 : I b 10 ≤ 4) (hb : ∀ t : Int, 0 ≤ t → t < I b 10 → 0 ≤ I (b + 13) t ∧ I (b + 13) t < 6) (hR : Rq (.inl (some (vI (mEn (lDg b I))))) S I) : SW mi_X1_posture 0 d Rq [some (vR (some b)), none, none] [] S I := by
  have fd : ∀ t : Int, 0 ≤ t → 0 ≤ lDg b I t ∧ lDg b I t ≤ 6 := fun t t0 => by
    unfold lDg
    split
    · rename_i z
      have := hb t t0 z
      split <;> omega
    · omega
  have fin : hrn (lDg b I) (I b 10).toNat 0 = mEn (lDg b I) := by
    have z : ∀ t : Int, I b 10 ≤ t → lDg b I t = 0 := fun t ht => by unfold lDg; rw [if_neg (by omega)]
    have hc : I b 10 = 0 ∨ I b 10 = 1 ∨ I b 10 = 2 ∨ I b 10 = 3 ∨ I b 10 = 4 := by omega
    unfold mEn
    rcases hc with c | c | c | c | c
    · rw [c, z 0 (by omega), z 1 (by omega), z 2 (by omega), z 3 (by omega)]; rfl
    · rw [c, z 1 (by omega), z 2 (by omega), z 3 (by omega)]; show _ + 7 * 0 = _; omega
    · rw [c, z 2 (by omega), z 3 (by omega)]; show lDg b I 0 + 7 * (lDg b I (0 + 1) + 7 * 0) = _; rw [show (0 : Int) + 1 = 1 from rfl]; omega
    · rw [c, z 3 (by omega)]; show lDg b I 0 + 7 * (lDg b I (0 + 1) + 7 * (lDg b I (0 + 1 + 1) + 7 * 0)) = _; rw [show (0 : Int) + 1 = 1 from rfl, show (1 : Int) + 1 = 2 from rfl]; omega
    · rw [c]; show lDg b I 0 + 7 * (lDg b I (0 + 1) + 7 * (lDg b I (0 + 1 + 1) + 7 * (lDg b I (0 + 1 + 1 + 1) + 7 * 0))) = _; rw [show (0 : Int) + 1 = 1 from rfl, show (1 : Int) + 1 = 2 from rfl, show (2 : Int) + 1 = 3 from rfl]; omega
  have l := loop_up (P := fun (i : Nat) => SW mi_X1_posture 9 d Rq [some (vR (some b)), some (vI (hrn (lDg b I) i (I b 10 - i))), some (vI (I b 10 - 1 - i))] [] S I) (n := (I b 10).toNat) ?_ ?_
  · refine rv_X1_posture_0 ?_
    simp +contextual (disch := omega) only [tr_X1_posture_0, im_ic, im_lc, im_nul, im_iload, im_lload, im_aload, im_istore, im_astore, im_lstore, im_iinc, im_iadd, im_isub, im_imul, im_iand, im_ior, im_ishl, im_ishr, im_iushr, im_idiv, im_irem, im_ineg, im_i2l, im_l2i, im_i2b, im_i2s, im_ladd, im_lcmp, im_dup, im_pop, im_dup_x1, im_dup2, im_ceq, im_cne, im_clt, im_cge, im_cgt, im_cle, im_zeq, im_zne, im_zlt, im_zge, im_zgt, im_zle, im_ifnull, im_ifnn, im_acmpeq, im_acmpne, im_getI, im_getR, im_putI, im_putZ, im_putR, im_ald, im_iast, im_bast, im_sast, im_zast, im_aald, im_alen, im_new, im_newa, im_newq, im_tsw, im_lsw, tswA, lswA, im_callS_eq, im_callV_eq, chk_i, chk_T, dOk_i, tf_0, tf_n0, tf_1, tf_01, tf_F, tf_T, tf_em, tf_me, ↓reduceIte, Int.zero_add, Int.add_zero, Int.one_mul, Int.mul_one, Int.ediv_one, Int.sub_zero, im_ireturn, im_zreturn, im_areturn, im_return, im_objinit, popI_eq, popII_eq, popJ_eq, popJJ_eq, popR_eq, popRR_eq, popV_eq, popVV_eq, popA_eq, popIA_eq, popIIA_eq, popRA_eq, popRIA_eq, getI, getJ, getR, lget_0, lget_s, nlAt, cat1, wsum, List.set_cons_zero, List.set_cons_succ, List.take_succ_cons, List.take_zero, List.drop_succ_cons, List.drop_zero, List.reverse_cons, List.reverse_nil, List.nil_append, List.cons_append, List.length_cons, List.length_nil, true_and, and_true, and_self, ne_eq, not_false_eq_true, not_true_eq_false, Classical.not_not, false_or, or_false, true_or, or_true, imp_self, forall_const, forall_eq, implies_true, true_implies, false_implies, Nat.reduceAdd, Nat.reduceLeDiff, Nat.reduceEqDiff, Nat.reduceSub, Int.reduceNeg, Int.reduceEq, Int.reduceLT, Int.reduceLE, Int.reduceNe, Int.reduceAdd, Int.reduceSub, Nat.le_refl, Nat.zero_le, reduceCtorEq, Option.some.injEq, w32_i, LnS_t hL, LnS_p0 hL, LnS_t1 hL, LnS_n1 hL, LnS_rp hL, LnS_rt hL, LnS_rn hL, LnS_p1 hL, LnS_t8 hL, LnS_n8 hL, LnS_p2 hL, LnS_t9 hL, LnS_n9 hL, LnS_p4 hL, LnS_t10 hL, LnS_n10 hL, LnS_p5 hL, LnS_t11 hL, LnS_n11 hL, LnS_p6 hL, LnS_t12 hL, LnS_n12 hL, LnS_p7 hL, LnS_t13 hL, LnS_n13 hL, LnS_p8 hL, LnS_t14 hL, LnS_n14 hL, LnS_p9 hL, LnS_t15 hL, LnS_n15 hL]
    rw [show I b 10 - 1 - ((0 : Nat) : Int) = I b 10 - 1 by omega] at l
    exact l
  · have e : I b 10 - ((I b 10).toNat : Int) = 0 := by omega
    rw [e, fin]
    refine rv_X1_posture_9 ?_
    simp +contextual (disch := omega) only [tr_X1_posture_9, im_ic, im_lc, im_nul, im_iload, im_lload, im_aload, im_istore, im_astore, im_lstore, im_iinc, im_iadd, im_isub, im_imul, im_iand, im_ior, im_ishl, im_ishr, im_iushr, im_idiv, im_irem, im_ineg, im_i2l, im_l2i, im_i2b, im_i2s, im_ladd, im_lcmp, im_dup, im_pop, im_dup_x1, im_dup2, im_ceq, im_cne, im_clt, im_cge, im_cgt, im_cle, im_zeq, im_zne, im_zlt, im_zge, im_zgt, im_zle, im_ifnull, im_ifnn, im_acmpeq, im_acmpne, im_getI, im_getR, im_putI, im_putZ, im_putR, im_ald, im_iast, im_bast, im_sast, im_zast, im_aald, im_alen, im_new, im_newa, im_newq, im_tsw, im_lsw, tswA, lswA, im_callS_eq, im_callV_eq, chk_i, chk_T, dOk_i, tf_0, tf_n0, tf_1, tf_01, tf_F, tf_T, tf_em, tf_me, ↓reduceIte, Int.zero_add, Int.add_zero, Int.one_mul, Int.mul_one, Int.ediv_one, Int.sub_zero, im_ireturn, im_zreturn, im_areturn, im_return, im_objinit, popI_eq, popII_eq, popJ_eq, popJJ_eq, popR_eq, popRR_eq, popV_eq, popVV_eq, popA_eq, popIA_eq, popIIA_eq, popRA_eq, popRIA_eq, getI, getJ, getR, lget_0, lget_s, nlAt, cat1, wsum, List.set_cons_zero, List.set_cons_succ, List.take_succ_cons, List.take_zero, List.drop_succ_cons, List.drop_zero, List.reverse_cons, List.reverse_nil, List.nil_append, List.cons_append, List.length_cons, List.length_nil, true_and, and_true, and_self, ne_eq, not_false_eq_true, not_true_eq_false, Classical.not_not, false_or, or_false, true_or, or_true, imp_self, forall_const, forall_eq, implies_true, true_implies, false_implies, Nat.reduceAdd, Nat.reduceLeDiff, Nat.reduceEqDiff, Nat.reduceSub, Int.reduceNeg, Int.reduceEq, Int.reduceLT, Int.reduceLE, Int.reduceNe, Int.reduceAdd, Int.reduceSub, Nat.le_refl, Nat.zero_le, reduceCtorEq, Option.some.injEq, w32_i, LnS_t hL, LnS_p0 hL, LnS_t1 hL, LnS_n1 hL, LnS_rp hL, LnS_rt hL, LnS_rn hL, LnS_p1 hL, LnS_t8 hL, LnS_n8 hL, LnS_p2 hL, LnS_t9 hL, LnS_n9 hL, LnS_p4 hL, LnS_t10 hL, LnS_n10 hL, LnS_p5 hL, LnS_t11 hL, LnS_n11 hL, LnS_p6 hL, LnS_t12 hL, LnS_n12 hL, LnS_p7 hL, LnS_t13 hL, LnS_n13 hL, LnS_p8 hL, LnS_t14 hL, LnS_n14 hL, LnS_p9 hL, LnS_t15 hL, LnS_n15 hL]
    exact ⟨fun _ => hR, fun h => absurd (show I b 10 - 1 - ((I b 10).toNat : Int) < 0 by omega) h⟩
  · intro i hi ih
    have hb2 := hrn_in fd i (I b 10 - i) (by omega) (by omega)
    have h7 : (7 : Int) ^ i ≤ 343 := by
      have hc : i = 0 ∨ i = 1 ∨ i = 2 ∨ i = 3 := by omega
      rcases hc with rfl | rfl | rfl | rfl <;> decide
    have es : hrn (lDg b I) (i + 1) (I b 10 - ((i : Int) + 1)) = lDg b I (I b 10 - 1 - i) + 7 * hrn (lDg b I) i (I b 10 - i) := by
      show lDg b I (I b 10 - ((i : Int) + 1)) + 7 * hrn (lDg b I) i (I b 10 - ((i : Int) + 1) + 1) = _
      rw [show I b 10 - ((i : Int) + 1) = I b 10 - 1 - i by omega, show I b 10 - 1 - (i : Int) + 1 = I b 10 - i by omega]
    have hd := fd (I b 10 - 1 - i) (by omega)
    have ed : lDg b I (I b 10 - 1 - i) = if I (b + 13) (I b 10 - 1 - i) = I (b + 11) (I b 10 - 1 - i) then 6 else I (b + 13) (I b 10 - 1 - i) := by
      conv => lhs; unfold lDg
      rw [if_pos (by omega)]
    rw [cast_s, es, show I b 10 - 1 - ((i : Int) + 1) = I b 10 - 1 - i + -1 by omega, show lDg b I (I b 10 - 1 - i) + 7 * hrn (lDg b I) i (I b 10 - i) = 7 * hrn (lDg b I) i (I b 10 - i) + lDg b I (I b 10 - 1 - i) by omega] at ih
    generalize hrn (lDg b I) i (I b 10 - i) = C at *
    have hat := hb (I b 10 - 1 - i) (by omega) (by omega)
    refine rv_X1_posture_9 ?_
    simp +contextual (disch := omega) only [tr_X1_posture_9, im_ic, im_lc, im_nul, im_iload, im_lload, im_aload, im_istore, im_astore, im_lstore, im_iinc, im_iadd, im_isub, im_imul, im_iand, im_ior, im_ishl, im_ishr, im_iushr, im_idiv, im_irem, im_ineg, im_i2l, im_l2i, im_i2b, im_i2s, im_ladd, im_lcmp, im_dup, im_pop, im_dup_x1, im_dup2, im_ceq, im_cne, im_clt, im_cge, im_cgt, im_cle, im_zeq, im_zne, im_zlt, im_zge, im_zgt, im_zle, im_ifnull, im_ifnn, im_acmpeq, im_acmpne, im_getI, im_getR, im_putI, im_putZ, im_putR, im_ald, im_iast, im_bast, im_sast, im_zast, im_aald, im_alen, im_new, im_newa, im_newq, im_tsw, im_lsw, tswA, lswA, im_callS_eq, im_callV_eq, chk_i, chk_T, dOk_i, tf_0, tf_n0, tf_1, tf_01, tf_F, tf_T, tf_em, tf_me, ↓reduceIte, Int.zero_add, Int.add_zero, Int.one_mul, Int.mul_one, Int.ediv_one, Int.sub_zero, im_ireturn, im_zreturn, im_areturn, im_return, im_objinit, popI_eq, popII_eq, popJ_eq, popJJ_eq, popR_eq, popRR_eq, popV_eq, popVV_eq, popA_eq, popIA_eq, popIIA_eq, popRA_eq, popRIA_eq, getI, getJ, getR, lget_0, lget_s, nlAt, cat1, wsum, List.set_cons_zero, List.set_cons_succ, List.take_succ_cons, List.take_zero, List.drop_succ_cons, List.drop_zero, List.reverse_cons, List.reverse_nil, List.nil_append, List.cons_append, List.length_cons, List.length_nil, true_and, and_true, and_self, ne_eq, not_false_eq_true, not_true_eq_false, Classical.not_not, false_or, or_false, true_or, or_true, imp_self, forall_const, forall_eq, implies_true, true_implies, false_implies, Nat.reduceAdd, Nat.reduceLeDiff, Nat.reduceEqDiff, Nat.reduceSub, Int.reduceNeg, Int.reduceEq, Int.reduceLT, Int.reduceLE, Int.reduceNe, Int.reduceAdd, Int.reduceSub, Nat.le_refl, Nat.zero_le, reduceCtorEq, Option.some.injEq, w32_i, LnS_t hL, LnS_p0 hL, LnS_t1 hL, LnS_n1 hL, LnS_rp hL, LnS_rt hL, LnS_rn hL, LnS_p1 hL, LnS_t8 hL, LnS_n8 hL, LnS_p2 hL, LnS_t9 hL, LnS_n9 hL, LnS_p4 hL, LnS_t10 hL, LnS_n10 hL, LnS_p5 hL, LnS_t11 hL, LnS_n11 hL, LnS_p6 hL, LnS_t12 hL, LnS_n12 hL, LnS_p7 hL, LnS_t13 hL, LnS_n13 hL, LnS_p8 hL, LnS_t14 hL, LnS_n14 hL, LnS_p9 hL, LnS_t15 hL, LnS_n15 hL]
    refine ⟨fun h => absurd h (by omega), fun _ => ⟨fun h => ?_, fun h => ?_⟩⟩
    · rwa [ed, if_neg h] at ih
    · rwa [ed, if_pos h] at ih
theorem c_X1_posture {d : Nat} {Rq : SmQ} {S : SmS} {I : SmI} {b : Nat} (hL : LnS b S) (h0 : 0 ≤ I b 10) (h1 : I b 10 ≤ 4) (hb : ∀ t : Int, 0 ≤ t → t < I b 10 → 0 ≤ I (b + 13) t ∧ I (b + 13) t < 6) (hR : Rq (.inl (some (vI (mEn (lDg b I))))) S I) : SC mi_X1_posture d [vR (some b)] S I Rq := SC_of0 (Nat.le_of_ble_eq_true rfl) (b_X1_posture (S := sBud S 0 0) hL h0 h1 hb hR)
def im_p_X1_posture (d : Nat) (l : SmL) (st : List SmV) (S : SmS) (I : SmI) (K : SmK) : Prop := popA st fun b st => dOk 0 d ∧ (LnS b S) ∧ (∀ t : Int, 0 ≤ t → t < I b 10 → 0 ≤ I (b + 13) t ∧ I (b + 13) t < 6) ∧ chk ((0 ≤ I b 10) ∧ (I b 10 ≤ 4)) ∧ sT S b = 2 ∧ wsum st ≤ 8 ∧ K l (vI (mEn (lDg b I)) :: st) S I
theorem xv_p_X1_posture {M : SmM} {pc d idx : Nat} {Rq : SmQ} {K : SmK} (hd : decode (mC M) pc = .ok (.invokevirtual idx, 3)) (hw : GoodIn lw_all (wsV (mN M).cls idx RX1 (mN mi_X1_posture) (ws_ (mN mi_X1_posture) (mC mi_X1_posture) (mL mi_X1_posture) (mR mi_X1_posture)))) (hk : SmW M (pc + 3) d Rq K) : SmW M pc d Rq (fun l st S I => im_p_X1_posture d l st S I K) := by
  intro l st S I h
  obtain ⟨b, st1, rfl, hq1⟩ := popA_ex h
  obtain ⟨hd9, hL, hb, ⟨h0, h1⟩, hT9, hw9, h9⟩ := hq1
  obtain ⟨d9, rfl⟩ : ∃ d9, d = d9 + 0 + 1 := ⟨d - (0 + 1), by unfold dOk at hd9; omega⟩
  exact xv_callV (n := 0) hd cl_2 tg_2 ok_X1_posture rfl hw _ _ _ _ (show im_callV 0 2 mi_X1_posture (d9 + 0 + 1) _ _ S I from ⟨Nat.le_of_ble_eq_true rfl, hT9, hw9, c_X1_posture hL h0 h1 hb (hk _ _ _ _ h9)⟩)