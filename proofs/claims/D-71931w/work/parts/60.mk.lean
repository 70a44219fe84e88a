/-! a train goes; what stands against it; who is sent -/
set_option maxRecDepth 100000
theorem rwS_rwS {I : SmI} {r q : Int → Int} : rwS (rwS I r) q = rwS I q := rwS_eq rwS_st (fun b hb => by rw [rwS_ne hb, rwS_ne hb])
theorem rwS_self {I : SmI} : rwS I (I 107) = I := (rwS_eq rfl (fun _ _ => rfl)).symm
theorem WR_at {r : Int → Int} (h : WR r) : ∀ t : Int, 0 ≤ t → t < r 1 → 0 ≤ r (34 + 6 * t + 3) ∧ r (34 + 6 * t + 3) < 6 := fun t t0 t1 => by
  obtain ⟨w1, w2, w3, _⟩ := h.2.2.2 t t0 t1
  have := h.1.1
  by_cases z : r (34 + 6 * t) < r (34 + 6 * t + 1)
  · have := w3.1 z; omega
  · have := w3.2 z; omega
theorem WR_way {J : SmI} (h : WR (J 107)) {t : Int} (t0 : 0 ≤ t) (t1 : t < J 107 1) : tWay J t := by
  obtain ⟨w1, w2, w3, w4, w5, w6, w7⟩ := h.2.2.2 t t0 t1
  have := h.1.1
  have := WR_at h t t0 t1
  exact ⟨by omega, by omega, fun z => (w3.1 z).2, fun z => (w3.2 z).1, fun z => (w7 z).1⟩
theorem WR_mi {r : Int → Int} (h : WR r) : ∀ p : Int, 0 ≤ p → p < 6 → 0 ≤ r (4 + 5 * p + 4) ∧ r (4 + 5 * p + 4) ≤ 9 := fun p p0 p1 => (h.2.1 p p0 p1).2.2
theorem msl_in {J : SmI} (h : WR (J 107)) {t : Int} (t0 : 0 ≤ t) (t1 : t < J 107 1) : 0 ≤ msl J t ∧ msl J t ≤ 100 := by
  obtain ⟨w1, w2, w3, w4, w5, w6, w7⟩ := h.2.2.2 t t0 t1
  have h6 := h.1.1
  have n5 : mWy J t ≤ 5 := by unfold mWy; split <;> omega
  have s := sumTo_in (f := fun k => J 107 (4 + 5 * (if J 107 (34 + 6 * t) < J 107 (34 + 6 * t + 1) then J 107 (34 + 6 * t + 3) + k else J 107 (34 + 6 * t + 3) - 1 - k) + 4)) (n := mWy J t) (B := 9) (fun j hj => by
    refine WR_mi h _ ?_ ?_ <;> (unfold mWy at hj; split <;> rename_i z)
    · have := w3.1 z; omega
    · have := w3.2 z; rw [if_neg z] at hj; omega
    · have := w3.1 z; rw [if_pos z] at hj; omega
    · have := w3.2 z; omega)
  have s' : 0 ≤ msl J t ∧ msl J t ≤ (mWy J t : Int) * 9 := s
  omega
theorem pNow_rS {J : SmI} : pNow (rS (J 107)) = pNow J := rfl
theorem pNow_cg {J J' : SmI} (h : J 107 = J' 107) : pNow J = pNow J' := by rw [← pNow_rS (J := J), ← pNow_rS (J := J'), h]
theorem agn_cg {J J' : SmI} (h : J 107 = J' 107) (h4 : J 107 1 ≤ 4) {t : Int} (t0 : 0 ≤ t) (t1 : t < J 107 1) : agn J t = agn J' t := by
  have e1 := pNow_cg h
  have e2 : ∀ x, mNx J t x = mNx J' t x := fun x => by unfold mNx; rw [h]
  have e3 : mRB J = mRB J' := by funext p q t; unfold mRB; rw [h]
  have e4 : mvP J (pNow J') t = mvP J' (pNow J') t := mvP_congr h h4 t0 (by omega)
  have e5 : safP J (mvP J' (pNow J') t) = safP J' (mvP J' (pNow J') t) := propext (safP_congr h h4)
  unfold agn
  rw [e1, e4, e5, e2, e3, h]
theorem ahd_cg {J J' : SmI} (h : J 107 = J' 107) {q t u : Int} : ahd J q t u = ahd J' q t u := by
  have e : ∀ t, msl J t = msl J' t := fun t => by unfold msl mSg mWy; rw [h]
  unfold ahd
  rw [e, e]
theorem fBy_cg {J J' : SmI} (h : J 107 = J' 107) (h4 : J 107 1 ≤ 4) {q : Int} {n : Nat} (hn : (n : Int) ≤ J 107 1) : fBy J q n = fBy J' q n := by
  induction n with
  | zero => rfl
  | succ n ih =>
    have e := ih (by omega)
    have a := agn_cg h h4 (t := n) (by omega) (by omega)
    have b := @ahd_cg J J' h q n (fBy J q n)
    by_cases z : agn J n = 0 ∧ (fBy J q n = -4 ∨ ahd J q n (fBy J q n))
    · rw [(fBy_s J q n).1 z, (fBy_s J' q n).1 (by rw [← e, ← a, ← b]; exact z)]
    · rw [(fBy_s J q n).2 z, (fBy_s J' q n).2 (by rw [← e, ← a, ← b]; exact z), e]
theorem fR_cg {I : SmI} (h : WR (I 107)) {q : Int} : fR q (I 107) = fBy I q (I 107 1).toNat := by
  have := h.1.2.1
  exact fBy_cg (J := rS (I 107)) (J' := I) rfl this.2 (by show (((I 107 1).toNat : Nat) : Int) ≤ I 107 1; omega)
theorem b_X6_goes {d : Nat} {Rq : SmQ} {S : SmS} {I : SmI} {t : Int} (hM : MSk S) (hW : WR (I 107)) (h0 : 0 ≤ t) (h1 : t < I 107 1) (hs : I 107 (34 + 6 * t + 4) = 0) (hR : Rq (.inl none) S (rwS I (gGo (I 107) t))) : SW mi_X6_goes 0 (d + 2) Rq [some (vR (some 106)), some (vI t), none, none, none] [] S I := by
  have hn := hW.1
  have ha := WR_at hW t h0 h1
  obtain ⟨n1, n2, n3⟩ := mNx_in hW h0 h1 hs
  have en : mNx (rS (I 107)) t (I 107 (34 + 6 * t + 3)) = mNx I t (I 107 (34 + 6 * t + 3)) := rfl
  rw [en] at n1 n2 n3
  have mi := WR_mi hW _ n3 (by omega)
  refine rv_X6_goes_0 ?_
  simp +contextual (disch := omega) only [tr_X6_goes_0, im_ic, im_lc, im_nul, im_iload, im_lload, im_aload, im_istore, im_astore, im_lstore, im_iinc, im_iadd, im_isub, im_imul, im_iand, im_ior, im_ishl, im_ishr, im_iushr, im_idiv, im_irem, im_ineg, im_i2l, im_l2i, im_i2b, im_i2s, im_ladd, im_lcmp, im_dup, im_pop, im_dup_x1, im_dup2, im_ceq, im_cne, im_clt, im_cge, im_cgt, im_cle, im_zeq, im_zne, im_zlt, im_zge, im_zgt, im_zle, im_ifnull, im_ifnn, im_acmpeq, im_acmpne, im_getI, im_getR, im_putI, im_putZ, im_putR, im_ald, im_iast, im_bast, im_sast, im_zast, im_aald, im_alen, im_new, im_newa, im_newq, im_tsw, im_lsw, tswA, lswA, im_callS_eq, im_callV_eq, chk_i, chk_T, dOk_i, tf_0, tf_n0, tf_1, tf_01, tf_F, tf_T, tf_em, tf_me, ↓reduceIte, Int.zero_add, Int.add_zero, Int.one_mul, Int.mul_one, Int.ediv_one, Int.sub_zero, im_ireturn, im_zreturn, im_areturn, im_return, im_objinit, popI_eq, popII_eq, popJ_eq, popJJ_eq, popR_eq, popRR_eq, popV_eq, popVV_eq, popA_eq, popIA_eq, popIIA_eq, popRA_eq, popRIA_eq, getI, getJ, getR, lget_0, lget_s, nlAt, cat1, wsum, List.set_cons_zero, List.set_cons_succ, List.take_succ_cons, List.take_zero, List.drop_succ_cons, List.drop_zero, List.reverse_cons, List.reverse_nil, List.nil_append, List.cons_append, List.length_cons, List.length_nil, true_and, and_true, and_self, ne_eq, not_false_eq_true, not_true_eq_false, Classical.not_not, false_or, or_false, true_or, or_true, imp_self, forall_const, forall_eq, implies_true, true_implies, false_implies, Nat.reduceAdd, Nat.reduceLeDiff, Nat.reduceEqDiff, Nat.reduceSub, Int.reduceNeg, Int.reduceEq, Int.reduceLT, Int.reduceLE, Int.reduceNe, Int.reduceAdd, Int.reduceSub, Nat.le_refl, Nat.zero_le, reduceCtorEq, Option.some.injEq, w32_i, MSk_t106 hM, MSk_p0 hM, MSk_t107 hM, MSk_n107 hM, MSk_p1 hM, MSk_t108 hM, MSk_n108 hM, MSk_p2 hM, MSk_t109 hM, MSk_n109 hM, MSk_p3 hM, MSk_t110 hM, MSk_n110 hM, MSk_p4 hM, MSk_t111 hM, MSk_n111 hM, MSk_p5 hM, MSk_t112 hM, MSk_n112 hM, MSk_p13 hM, MSk_t113 hM, MSk_n113 hM, MSk_p14 hM, MSk_t114 hM, MSk_n114 hM, MSk_p15 hM, MSk_t115 hM, MSk_n115 hM, MSk_p16 hM, MSk_t116 hM, MSk_n116 hM, MSk_p18 hM, MSk_t117 hM, MSk_n117 hM, MSk_p20 hM, MSk_t118 hM, MSk_n118 hM, MSk_p21 hM, MSk_t119 hM, MSk_n119 hM, MSk_p22 hM, MSk_t120 hM, MSk_n120 hM, hM, im_p_X6_ofTrain, im_p_X6_nextFrom, im_p_X6_minutesOf, iSet_ne, iSet_k]
  have e : iSet (iSet (iSet I 107 (34 + 6 * t + 3) (mNx I t (I 107 (34 + 6 * t + 3)))) 107 (34 + 6 * t + 4) 1) 107 (34 + 6 * t + 5) (I 107 2 + I 107 (4 + 5 * (if I 107 (34 + 6 * t + 3) < mNx I t (I 107 (34 + 6 * t + 3)) then I 107 (34 + 6 * t + 3) else mNx I t (I 107 (34 + 6 * t + 3))) + 4)) = rwS I (gGo1 (I 107) t) := by
    refine rwS_eq ?_ (fun b hb => by rw [iSet_ne hb, iSet_ne hb, iSet_ne hb])
    funext c
    simp only [iSet_ap, true_and]
    unfold gGo1
    rw [en]
    by_cases c5 : c = 34 + 6 * t + 5
    · rw [if_pos c5, if_neg (show ¬ c = 34 + 6 * t + 3 by omega), if_neg (show ¬ c = 34 + 6 * t + 4 by omega), if_pos c5]
    · by_cases c4 : c = 34 + 6 * t + 4
      · rw [if_neg c5, if_pos c4, if_neg (show ¬ c = 34 + 6 * t + 3 by omega), if_pos c4]
      · rw [if_neg c5, if_neg c4, if_neg c4, if_neg c5]
  rw [e]
  have g3 : gGo1 (I 107) t 3 = I 107 3 := gGo1_o (by omega) (by omega) (by omega)
  refine c_X6_enters hM (by rw [rwS_st, g3]; omega) (by rw [rwS_st, g3]; omega) ?_
  rw [retK_n, rwS_st, rwS_rwS]
  refine rv_X6_goes_70 ?_
  simp +contextual (disch := omega) only [tr_X6_goes_70, im_ic, im_lc, im_nul, im_iload, im_lload, im_aload, im_istore, im_astore, im_lstore, im_iinc, im_iadd, im_isub, im_imul, im_iand, im_ior, im_ishl, im_ishr, im_iushr, im_idiv, im_irem, im_ineg, im_i2l, im_l2i, im_i2b, im_i2s, im_ladd, im_lcmp, im_dup, im_pop, im_dup_x1, im_dup2, im_ceq, im_cne, im_clt, im_cge, im_cgt, im_cle, im_zeq, im_zne, im_zlt, im_zge, im_zgt, im_zle, im_ifnull, im_ifnn, im_acmpeq, im_acmpne, im_getI, im_getR, im_putI, im_putZ, im_putR, im_ald, im_iast, im_bast, im_sast, im_zast, im_aald, im_alen, im_new, im_newa, im_newq, im_tsw, im_lsw, tswA, lswA, im_callS_eq, im_callV_eq, chk_i, chk_T, dOk_i, tf_0, tf_n0, tf_1, tf_01, tf_F, tf_T, tf_em, tf_me, ↓reduceIte, Int.zero_add, Int.add_zero, Int.one_mul, Int.mul_one, Int.ediv_one, Int.sub_zero, im_ireturn, im_zreturn, im_areturn, im_return, im_objinit, popI_eq, popII_eq, popJ_eq, popJJ_eq, popR_eq, popRR_eq, popV_eq, popVV_eq, popA_eq, popIA_eq, popIIA_eq, popRA_eq, popRIA_eq, getI, getJ, getR, lget_0, lget_s, nlAt, cat1, wsum, List.set_cons_zero, List.set_cons_succ, List.take_succ_cons, List.take_zero, List.drop_succ_cons, List.drop_zero, List.reverse_cons, List.reverse_nil, List.nil_append, List.cons_append, List.length_cons, List.length_nil, true_and, and_true, and_self, ne_eq, not_false_eq_true, not_true_eq_false, Classical.not_not, false_or, or_false, true_or, or_true, imp_self, forall_const, forall_eq, implies_true, true_implies, false_implies, Nat.reduceAdd, Nat.reduceLeDiff, Nat.reduceEqDiff, Nat.reduceSub, Int.reduceNeg, Int.reduceEq, Int.reduceLT, Int.reduceLE, Int.reduceNe, Int.reduceAdd, Int.reduceSub, Nat.le_refl, Nat.zero_le, reduceCtorEq, Option.some.injEq, w32_i]
  exact hR
theorem c_X6_goes {d : Nat} {Rq : SmQ} {S : SmS} {I : SmI} {t : Int} (hM : MSk S) (hW : WR (I 107)) (h0 : 0 ≤ t) (h1 : t < I 107 1) (hs : I 107 (34 + 6 * t + 4) = 0) (hR : Rq (.inl none) S (rwS I (gGo (I 107) t))) : SC mi_X6_goes (d + 2) [vR (some 106), vI t] S I Rq := SC_of0 (Nat.le_of_ble_eq_true rfl) (b_X6_goes (S := sBud S 0 0) hM hW h0 h1 hs hR)
theorem b_X6_against {d : Nat} {Rq : SmQ} {S : SmS} {I : SmI} {t : Int} (hM : MSk S) (hW : WR (I 107)) (h0 : 0 ≤ t) (h1 : t < I 107 1) (hS : I 107 (34 + 6 * t + 4) = 0 → mvP I (pNow I) t ≠ -4 → I 116 (mvP I (pNow I) t) = tf (safP I (mvP I (pNow I) t))) (hR : ∀ I' : SmI, (∀ b : Nat, b ≠ 113 → I' b = I b) → Rq (.inl (some (vI (agn I t)))) S I') : SW mi_X6_against 0 (d + 4) Rq [some (vR (some 106)), some (vI t), none, none] [] S I := by
  have hn := hW.1
  have ha := WR_at hW t h0 h1
  have hst := (hW.2.2.2 t h0 h1).2.2.2.1
  refine rv_X6_against_0 ?_
  simp +contextual (disch := omega) only [tr_X6_against_0, im_ic, im_lc, im_nul, im_iload, im_lload, im_aload, im_istore, im_astore, im_lstore, im_iinc, im_iadd, im_isub, im_imul, im_iand, im_ior, im_ishl, im_ishr, im_iushr, im_idiv, im_irem, im_ineg, im_i2l, im_l2i, im_i2b, im_i2s, im_ladd, im_lcmp, im_dup, im_pop, im_dup_x1, im_dup2, im_ceq, im_cne, im_clt, im_cge, im_cgt, im_cle, im_zeq, im_zne, im_zlt, im_zge, im_zgt, im_zle, im_ifnull, im_ifnn, im_acmpeq, im_acmpne, im_getI, im_getR, im_putI, im_putZ, im_putR, im_ald, im_iast, im_bast, im_sast, im_zast, im_aald, im_alen, im_new, im_newa, im_newq, im_tsw, im_lsw, tswA, lswA, im_callS_eq, im_callV_eq, chk_i, chk_T, dOk_i, tf_0, tf_n0, tf_1, tf_01, tf_F, tf_T, tf_em, tf_me, ↓reduceIte, Int.zero_add, Int.add_zero, Int.one_mul, Int.mul_one, Int.ediv_one, Int.sub_zero, im_ireturn, im_zreturn, im_areturn, im_return, im_objinit, popI_eq, popII_eq, popJ_eq, popJJ_eq, popR_eq, popRR_eq, popV_eq, popVV_eq, popA_eq, popIA_eq, popIIA_eq, popRA_eq, popRIA_eq, getI, getJ, getR, lget_0, lget_s, nlAt, cat1, wsum, List.set_cons_zero, List.set_cons_succ, List.take_succ_cons, List.take_zero, List.drop_succ_cons, List.drop_zero, List.reverse_cons, List.reverse_nil, List.nil_append, List.cons_append, List.length_cons, List.length_nil, true_and, and_true, and_self, ne_eq, not_false_eq_true, not_true_eq_false, Classical.not_not, false_or, or_false, true_or, or_true, imp_self, forall_const, forall_eq, implies_true, true_implies, false_implies, Nat.reduceAdd, Nat.reduceLeDiff, Nat.reduceEqDiff, Nat.reduceSub, Int.reduceNeg, Int.reduceEq, Int.reduceLT, Int.reduceLE, Int.reduceNe, Int.reduceAdd, Int.reduceSub, Nat.le_refl, Nat.zero_le, reduceCtorEq, Option.some.injEq, w32_i, MSk_t106 hM, MSk_p0 hM, MSk_t107 hM, MSk_n107 hM, MSk_p1 hM, MSk_t108 hM, MSk_n108 hM, MSk_p2 hM, MSk_t109 hM, MSk_n109 hM, MSk_p3 hM, MSk_t110 hM, MSk_n110 hM, MSk_p4 hM, MSk_t111 hM, MSk_n111 hM, MSk_p5 hM, MSk_t112 hM, MSk_n112 hM, MSk_p13 hM, MSk_t113 hM, MSk_n113 hM, MSk_p14 hM, MSk_t114 hM, MSk_n114 hM, MSk_p15 hM, MSk_t115 hM, MSk_n115 hM, MSk_p16 hM, MSk_t116 hM, MSk_n116 hM, MSk_p18 hM, MSk_t117 hM, MSk_n117 hM, MSk_p20 hM, MSk_t118 hM, MSk_n118 hM, MSk_p21 hM, MSk_t119 hM, MSk_n119 hM, MSk_p22 hM, MSk_t120 hM, MSk_n120 hM, hM, im_p_X6_ofTrain, im_p_X6_nextFrom, im_p_X6_runsBetween, im_p_X6_postureNow]
  have ok := pNow_ok hW
  unfold agn at hR
  refine ⟨fun a => ⟨WR_at hW, fun b => ⟨WR_at hW, ?_⟩, fun b => ?_⟩, fun a => ⟨fun b => ?_, fun b => ?_⟩⟩
  · refine c_X6_decode' hM ok.1.1 ok.1.2 (fun I2 f1 f2 => ?_)
    have fst := f1 107 (by decide)
    have fsf := f1 116 (by decide)
    obtain ⟨m1, m2, m3, m4, m5⟩ := mvb (c := pNow I) (t := t) fst (WR_mOk hW) ok f2 h0 h1
    rw [retK_n]
    have h9 := hR I2 f1
    rw [if_neg (fun z => z a), if_neg (fun z => z b)] at h9
    have hv := mvP_ok (WR_trB hW) ok h0 h1
    refine rv_X6_against_58 ?_
    simp +contextual (disch := omega) only [tr_X6_against_58, im_ic, im_lc, im_nul, im_iload, im_lload, im_aload, im_istore, im_astore, im_lstore, im_iinc, im_iadd, im_isub, im_imul, im_iand, im_ior, im_ishl, im_ishr, im_iushr, im_idiv, im_irem, im_ineg, im_i2l, im_l2i, im_i2b, im_i2s, im_ladd, im_lcmp, im_dup, im_pop, im_dup_x1, im_dup2, im_ceq, im_cne, im_clt, im_cge, im_cgt, im_cle, im_zeq, im_zne, im_zlt, im_zge, im_zgt, im_zle, im_ifnull, im_ifnn, im_acmpeq, im_acmpne, im_getI, im_getR, im_putI, im_putZ, im_putR, im_ald, im_iast, im_bast, im_sast, im_zast, im_aald, im_alen, im_new, im_newa, im_newq, im_tsw, im_lsw, tswA, lswA, im_callS_eq, im_callV_eq, chk_i, chk_T, dOk_i, tf_0, tf_n0, tf_1, tf_01, tf_F, tf_T, tf_em, tf_me, ↓reduceIte, Int.zero_add, Int.add_zero, Int.one_mul, Int.mul_one, Int.ediv_one, Int.sub_zero, im_ireturn, im_zreturn, im_areturn, im_return, im_objinit, popI_eq, popII_eq, popJ_eq, popJJ_eq, popR_eq, popRR_eq, popV_eq, popVV_eq, popA_eq, popIA_eq, popIIA_eq, popRA_eq, popRIA_eq, getI, getJ, getR, lget_0, lget_s, nlAt, cat1, wsum, List.set_cons_zero, List.set_cons_succ, List.take_succ_cons, List.take_zero, List.drop_succ_cons, List.drop_zero, List.reverse_cons, List.reverse_nil, List.nil_append, List.cons_append, List.length_cons, List.length_nil, true_and, and_true, and_self, ne_eq, not_false_eq_true, not_true_eq_false, Classical.not_not, false_or, or_false, true_or, or_true, imp_self, forall_const, forall_eq, implies_true, true_implies, false_implies, Nat.reduceAdd, Nat.reduceLeDiff, Nat.reduceEqDiff, Nat.reduceSub, Int.reduceNeg, Int.reduceEq, Int.reduceLT, Int.reduceLE, Int.reduceNe, Int.reduceAdd, Int.reduceSub, Nat.le_refl, Nat.zero_le, reduceCtorEq, Option.some.injEq, w32_i, MSk_t106 hM, MSk_p0 hM, MSk_t107 hM, MSk_n107 hM, MSk_p1 hM, MSk_t108 hM, MSk_n108 hM, MSk_p2 hM, MSk_t109 hM, MSk_n109 hM, MSk_p3 hM, MSk_t110 hM, MSk_n110 hM, MSk_p4 hM, MSk_t111 hM, MSk_n111 hM, MSk_p5 hM, MSk_t112 hM, MSk_n112 hM, MSk_p13 hM, MSk_t113 hM, MSk_n113 hM, MSk_p14 hM, MSk_t114 hM, MSk_n114 hM, MSk_p15 hM, MSk_t115 hM, MSk_n115 hM, MSk_p16 hM, MSk_t116 hM, MSk_n116 hM, MSk_p18 hM, MSk_t117 hM, MSk_n117 hM, MSk_p20 hM, MSk_t118 hM, MSk_n118 hM, MSk_p21 hM, MSk_t119 hM, MSk_n119 hM, MSk_p22 hM, MSk_t120 hM, MSk_n120 hM, hM, fst, fsf, im_p_X6_movedBy, m5]
    refine ⟨m2, m3, (WR_mOk hW).2, fun e => ?_, fun e => by rwa [if_pos e] at h9⟩
    rw [if_neg e] at h9
    have hs := hS a e
    refine ⟨(hv e).1.1, fun z => ?_, fun z => ?_⟩
    · rw [hs] at z
      rwa [if_neg (tf_0.mp z)] at h9
    · rw [hs] at z
      rwa [if_pos (tf_n0.mp z)] at h9
  · have := hR I (fun _ _ => rfl)
    rwa [if_neg (fun z => z a), if_pos b] at this
  · have := hR I (fun _ _ => rfl)
    rwa [if_pos a, if_neg b] at this
  · have := hR I (fun _ _ => rfl)
    rwa [if_pos a, if_pos b] at this
theorem c_X6_against {d : Nat} {Rq : SmQ} {S : SmS} {I : SmI} {t : Int} (hM : MSk S) (hW : WR (I 107)) (h0 : 0 ≤ t) (h1 : t < I 107 1) (hS : I 107 (34 + 6 * t + 4) = 0 → mvP I (pNow I) t ≠ -4 → I 116 (mvP I (pNow I) t) = tf (safP I (mvP I (pNow I) t))) (hR : ∀ I' : SmI, (∀ b : Nat, b ≠ 113 → I' b = I b) → Rq (.inl (some (vI (agn I t)))) S I') : SC mi_X6_against (d + 4) [vR (some 106), vI t] S I Rq := SC_of0 (Nat.le_of_ble_eq_true rfl) (b_X6_against (S := sBud S 0 0) hM hW h0 h1 hS hR)
theorem b_X6_firstBy {d : Nat} {Rq : SmQ} {S : SmS} {I : SmI} {q : Int} (hM : MSk S) (hW : WR (I 107)) (hS : ∀ t : Int, 0 ≤ t → t < I 107 1 → I 107 (34 + 6 * t + 4) = 0 → mvP I (pNow I) t ≠ -4 → I 116 (mvP I (pNow I) t) = tf (safP I (mvP I (pNow I) t))) (hR : ∀ I' : SmI, (∀ b : Nat, b ≠ 113 → I' b = I b) → Rq (.inl (some (vI (fR q (I 107))))) S I') : SW mi_X6_firstBy 0 (d + 5) Rq [some (vR (some 106)), some (vI q), none, none] [] S I := by
  refine rv_X6_firstBy_0 ?_
  simp +contextual (disch := omega) only [tr_X6_firstBy_0, im_ic, im_lc, im_nul, im_iload, im_lload, im_aload, im_istore, im_astore, im_lstore, im_iinc, im_iadd, im_isub, im_imul, im_iand, im_ior, im_ishl, im_ishr, im_iushr, im_idiv, im_irem, im_ineg, im_i2l, im_l2i, im_i2b, im_i2s, im_ladd, im_lcmp, im_dup, im_pop, im_dup_x1, im_dup2, im_ceq, im_cne, im_clt, im_cge, im_cgt, im_cle, im_zeq, im_zne, im_zlt, im_zge, im_zgt, im_zle, im_ifnull, im_ifnn, im_acmpeq, im_acmpne, im_getI, im_getR, im_putI, im_putZ, im_putR, im_ald, im_iast, im_bast, im_sast, im_zast, im_aald, im_alen, im_new, im_newa, im_newq, im_tsw, im_lsw, tswA, lswA, im_callS_eq, im_callV_eq, chk_i, chk_T, dOk_i, tf_0, tf_n0, tf_1, tf_01, tf_F, tf_T, tf_em, tf_me, ↓reduceIte, Int.zero_add, Int.add_zero, Int.one_mul, Int.mul_one, Int.ediv_one, Int.sub_zero, im_ireturn, im_zreturn, im_areturn, im_return, im_objinit, popI_eq, popII_eq, popJ_eq, popJJ_eq, popR_eq, popRR_eq, popV_eq, popVV_eq, popA_eq, popIA_eq, popIIA_eq, popRA_eq, popRIA_eq, getI, getJ, getR, lget_0, lget_s, nlAt, cat1, wsum, List.set_cons_zero, List.set_cons_succ, List.take_succ_cons, List.take_zero, List.drop_succ_cons, List.drop_zero, List.reverse_cons, List.reverse_nil, List.nil_append, List.cons_append, List.length_cons, List.length_nil, true_and, and_true, and_self, ne_eq, not_false_eq_true, not_true_eq_false, Classical.not_not, false_or, or_false, true_or, or_true, imp_self, forall_const, forall_eq, implies_true, true_implies, false_implies, Nat.reduceAdd, Nat.reduceLeDiff, Nat.reduceEqDiff, Nat.reduceSub, Int.reduceNeg, Int.reduceEq, Int.reduceLT, Int.reduceLE, Int.reduceNe, Int.reduceAdd, Int.reduceSub, Nat.le_refl, Nat.zero_le, reduceCtorEq, Option.some.injEq, w32_i]
  refine (loop_up (P := fun (k : Nat) => ∀ I' : SmI, (∀ b : Nat, b ≠ 113 → I' b = I b) → SW mi_X6_firstBy 5 _ _ [some (vR (some 106)), some (vI q), some (vI (fBy I q k)), some (vI k)] [] _ I') (n := (I 107 1).toNat) ?_ ?_) I (fun _ _ => rfl)
  · intro I' g
    have gst := g 107 (by decide)
    refine rv_X6_firstBy_5 ?_
    simp +contextual (disch := omega) only [tr_X6_firstBy_5, im_ic, im_lc, im_nul, im_iload, im_lload, im_aload, im_istore, im_astore, im_lstore, im_iinc, im_iadd, im_isub, im_imul, im_iand, im_ior, im_ishl, im_ishr, im_iushr, im_idiv, im_irem, im_ineg, im_i2l, im_l2i, im_i2b, im_i2s, im_ladd, im_lcmp, im_dup, im_pop, im_dup_x1, im_dup2, im_ceq, im_cne, im_clt, im_cge, im_cgt, im_cle, im_zeq, im_zne, im_zlt, im_zge, im_zgt, im_zle, im_ifnull, im_ifnn, im_acmpeq, im_acmpne, im_getI, im_getR, im_putI, im_putZ, im_putR, im_ald, im_iast, im_bast, im_sast, im_zast, im_aald, im_alen, im_new, im_newa, im_newq, im_tsw, im_lsw, tswA, lswA, im_callS_eq, im_callV_eq, chk_i, chk_T, dOk_i, tf_0, tf_n0, tf_1, tf_01, tf_F, tf_T, tf_em, tf_me, ↓reduceIte, Int.zero_add, Int.add_zero, Int.one_mul, Int.mul_one, Int.ediv_one, Int.sub_zero, im_ireturn, im_zreturn, im_areturn, im_return, im_objinit, popI_eq, popII_eq, popJ_eq, popJJ_eq, popR_eq, popRR_eq, popV_eq, popVV_eq, popA_eq, popIA_eq, popIIA_eq, popRA_eq, popRIA_eq, getI, getJ, getR, lget_0, lget_s, nlAt, cat1, wsum, List.set_cons_zero, List.set_cons_succ, List.take_succ_cons, List.take_zero, List.drop_succ_cons, List.drop_zero, List.reverse_cons, List.reverse_nil, List.nil_append, List.cons_append, List.length_cons, List.length_nil, true_and, and_true, and_self, ne_eq, not_false_eq_true, not_true_eq_false, Classical.not_not, false_or, or_false, true_or, or_true, imp_self, forall_const, forall_eq, implies_true, true_implies, false_implies, Nat.reduceAdd, Nat.reduceLeDiff, Nat.reduceEqDiff, Nat.reduceSub, Int.reduceNeg, Int.reduceEq, Int.reduceLT, Int.reduceLE, Int.reduceNe, Int.reduceAdd, Int.reduceSub, Nat.le_refl, Nat.zero_le, reduceCtorEq, Option.some.injEq, w32_i, MSk_t106 hM, MSk_p0 hM, MSk_t107 hM, MSk_n107 hM, MSk_p1 hM, MSk_t108 hM, MSk_n108 hM, MSk_p2 hM, MSk_t109 hM, MSk_n109 hM, MSk_p3 hM, MSk_t110 hM, MSk_n110 hM, MSk_p4 hM, MSk_t111 hM, MSk_n111 hM, MSk_p5 hM, MSk_t112 hM, MSk_n112 hM, MSk_p13 hM, MSk_t113 hM, MSk_n113 hM, MSk_p14 hM, MSk_t114 hM, MSk_n114 hM, MSk_p15 hM, MSk_t115 hM, MSk_n115 hM, MSk_p16 hM, MSk_t116 hM, MSk_n116 hM, MSk_p18 hM, MSk_t117 hM, MSk_n117 hM, MSk_p20 hM, MSk_t118 hM, MSk_n118 hM, MSk_p21 hM, MSk_t119 hM, MSk_n119 hM, MSk_p22 hM, MSk_t120 hM, MSk_n120 hM, gst]
    have := hR I' g
    rw [fR_cg hW] at this
    exact ⟨fun _ => this, fun h => absurd (show I 107 1 ≤ ((I 107 1).toNat : Int) by omega) h⟩
  · intro k hk ih I' g
    have hn := hW.1
    have gst := g 107 (by decide)
    have gsf := g 116 (by decide)
    have hW' : WR (I' 107) := by rw [gst]; exact hW
    have ep := pNow_cg gst
    have em := fun c t (t0 : 0 ≤ t) (t1 : t < 4) => mvP_congr (c := c) (t := t) gst (by rw [gst]; omega) t0 t1
    have hfs := fBy_s I q k
    have hin := fBy_in I q k
    refine rv_X6_firstBy_5 ?_
    simp +contextual (disch := omega) only [tr_X6_firstBy_5, im_ic, im_lc, im_nul, im_iload, im_lload, im_aload, im_istore, im_astore, im_lstore, im_iinc, im_iadd, im_isub, im_imul, im_iand, im_ior, im_ishl, im_ishr, im_iushr, im_idiv, im_irem, im_ineg, im_i2l, im_l2i, im_i2b, im_i2s, im_ladd, im_lcmp, im_dup, im_pop, im_dup_x1, im_dup2, im_ceq, im_cne, im_clt, im_cge, im_cgt, im_cle, im_zeq, im_zne, im_zlt, im_zge, im_zgt, im_zle, im_ifnull, im_ifnn, im_acmpeq, im_acmpne, im_getI, im_getR, im_putI, im_putZ, im_putR, im_ald, im_iast, im_bast, im_sast, im_zast, im_aald, im_alen, im_new, im_newa, im_newq, im_tsw, im_lsw, tswA, lswA, im_callS_eq, im_callV_eq, chk_i, chk_T, dOk_i, tf_0, tf_n0, tf_1, tf_01, tf_F, tf_T, tf_em, tf_me, ↓reduceIte, Int.zero_add, Int.add_zero, Int.one_mul, Int.mul_one, Int.ediv_one, Int.sub_zero, im_ireturn, im_zreturn, im_areturn, im_return, im_objinit, popI_eq, popII_eq, popJ_eq, popJJ_eq, popR_eq, popRR_eq, popV_eq, popVV_eq, popA_eq, popIA_eq, popIIA_eq, popRA_eq, popRIA_eq, getI, getJ, getR, lget_0, lget_s, nlAt, cat1, wsum, List.set_cons_zero, List.set_cons_succ, List.take_succ_cons, List.take_zero, List.drop_succ_cons, List.drop_zero, List.reverse_cons, List.reverse_nil, List.nil_append, List.cons_append, List.length_cons, List.length_nil, true_and, and_true, and_self, ne_eq, not_false_eq_true, not_true_eq_false, Classical.not_not, false_or, or_false, true_or, or_true, imp_self, forall_const, forall_eq, implies_true, true_implies, false_implies, Nat.reduceAdd, Nat.reduceLeDiff, Nat.reduceEqDiff, Nat.reduceSub, Int.reduceNeg, Int.reduceEq, Int.reduceLT, Int.reduceLE, Int.reduceNe, Int.reduceAdd, Int.reduceSub, Nat.le_refl, Nat.zero_le, reduceCtorEq, Option.some.injEq, w32_i, MSk_t106 hM, MSk_p0 hM, MSk_t107 hM, MSk_n107 hM, MSk_p1 hM, MSk_t108 hM, MSk_n108 hM, MSk_p2 hM, MSk_t109 hM, MSk_n109 hM, MSk_p3 hM, MSk_t110 hM, MSk_n110 hM, MSk_p4 hM, MSk_t111 hM, MSk_n111 hM, MSk_p5 hM, MSk_t112 hM, MSk_n112 hM, MSk_p13 hM, MSk_t113 hM, MSk_n113 hM, MSk_p14 hM, MSk_t114 hM, MSk_n114 hM, MSk_p15 hM, MSk_t115 hM, MSk_n115 hM, MSk_p16 hM, MSk_t116 hM, MSk_n116 hM, MSk_p18 hM, MSk_t117 hM, MSk_n117 hM, MSk_p20 hM, MSk_t118 hM, MSk_n118 hM, MSk_p21 hM, MSk_t119 hM, MSk_n119 hM, MSk_p22 hM, MSk_t120 hM, MSk_n120 hM, gst]
    refine ⟨fun h => absurd h (by omega), fun _ => ?_⟩
    refine c_X6_against hM hW' (by omega) (by rw [gst]; omega) ?_ (fun I2 g2 => ?_)
    · rw [gst, gsf, ep, em _ _ (by omega) (by omega)]
      intro a b
      rw [hS k (by omega) (by omega) a b]
      exact tf_iff (safP_congr gst (by rw [gst]; omega)).symm
    · rw [retK_v, agn_cg gst (by rw [gst]; omega) (by omega) (by rw [gst]; omega)]
      have g3 : ∀ b : Nat, b ≠ 113 → I2 b = I b := fun b hb => (g2 b hb).trans (g b hb)
      have g3s := g3 107 (by decide)
      have next := ih I2 g3
      have go : ∀ x : Int, x = fBy I q (k + 1) → SW mi_X6_firstBy 5 (d + 5) Rq [some (vR (some 106)), some (vI q), some (vI x), some (vI ((k : Int) + 1))] [] S I2 := fun x hx => by
        rw [← hx] at next
        refine SW_as next ?_ (by first | rfl | grind) (by first | rfl | grind) (by first | rfl | grind)
        simp only [leL_nil, leL_none, leL_some, Option.some.injEq, vI_inj, vR_inj, true_and, and_true]
        try grind
      have em1 : ∀ t u, ahd I2 q t u = ahd I q t u := fun t u => ahd_cg g3s
      refine rv_X6_firstBy_20 ?_
      simp +contextual (disch := omega) only [tr_X6_firstBy_20, im_ic, im_lc, im_nul, im_iload, im_lload, im_aload, im_istore, im_astore, im_lstore, im_iinc, im_iadd, im_isub, im_imul, im_iand, im_ior, im_ishl, im_ishr, im_iushr, im_idiv, im_irem, im_ineg, im_i2l, im_l2i, im_i2b, im_i2s, im_ladd, im_lcmp, im_dup, im_pop, im_dup_x1, im_dup2, im_ceq, im_cne, im_clt, im_cge, im_cgt, im_cle, im_zeq, im_zne, im_zlt, im_zge, im_zgt, im_zle, im_ifnull, im_ifnn, im_acmpeq, im_acmpne, im_getI, im_getR, im_putI, im_putZ, im_putR, im_ald, im_iast, im_bast, im_sast, im_zast, im_aald, im_alen, im_new, im_newa, im_newq, im_tsw, im_lsw, tswA, lswA, im_callS_eq, im_callV_eq, chk_i, chk_T, dOk_i, tf_0, tf_n0, tf_1, tf_01, tf_F, tf_T, tf_em, tf_me, ↓reduceIte, Int.zero_add, Int.add_zero, Int.one_mul, Int.mul_one, Int.ediv_one, Int.sub_zero, im_ireturn, im_zreturn, im_areturn, im_return, im_objinit, popI_eq, popII_eq, popJ_eq, popJJ_eq, popR_eq, popRR_eq, popV_eq, popVV_eq, popA_eq, popIA_eq, popIIA_eq, popRA_eq, popRIA_eq, getI, getJ, getR, lget_0, lget_s, nlAt, cat1, wsum, List.set_cons_zero, List.set_cons_succ, List.take_succ_cons, List.take_zero, List.drop_succ_cons, List.drop_zero, List.reverse_cons, List.reverse_nil, List.nil_append, List.cons_append, List.length_cons, List.length_nil, true_and, and_true, and_self, ne_eq, not_false_eq_true, not_true_eq_false, Classical.not_not, false_or, or_false, true_or, or_true, imp_self, forall_const, forall_eq, implies_true, true_implies, false_implies, Nat.reduceAdd, Nat.reduceLeDiff, Nat.reduceEqDiff, Nat.reduceSub, Int.reduceNeg, Int.reduceEq, Int.reduceLT, Int.reduceLE, Int.reduceNe, Int.reduceAdd, Int.reduceSub, Nat.le_refl, Nat.zero_le, reduceCtorEq, Option.some.injEq, w32_i, MSk_t106 hM, MSk_p0 hM, MSk_t107 hM, MSk_n107 hM, MSk_p1 hM, MSk_t108 hM, MSk_n108 hM, MSk_p2 hM, MSk_t109 hM, MSk_n109 hM, MSk_p3 hM, MSk_t110 hM, MSk_n110 hM, MSk_p4 hM, MSk_t111 hM, MSk_n111 hM, MSk_p5 hM, MSk_t112 hM, MSk_n112 hM, MSk_p13 hM, MSk_t113 hM, MSk_n113 hM, MSk_p14 hM, MSk_t114 hM, MSk_n114 hM, MSk_p15 hM, MSk_t115 hM, MSk_n115 hM, MSk_p16 hM, MSk_t116 hM, MSk_n116 hM, MSk_p18 hM, MSk_t117 hM, MSk_n117 hM, MSk_p20 hM, MSk_t118 hM, MSk_n118 hM, MSk_p21 hM, MSk_t119 hM, MSk_n119 hM, MSk_p22 hM, MSk_t120 hM, MSk_n120 hM, hM, im_p_X6_isAhead, g3s, em1]
      refine ⟨fun a => go _ (hfs.2 (fun z => a z.1)).symm, fun a => ⟨fun b => go _ (hfs.1 ⟨a, Or.inl b⟩).symm, fun b => ?_⟩⟩
      have hf := hin.resolve_left b
      have hW2 : WR (I2 107) := by rw [g3s]; exact hW
      refine ⟨WR_way hW2 (by omega) (by rw [g3s]; omega), WR_way hW2 hf.1 (by rw [g3s]; omega), WR_mi hW, ⟨msl_in hW2 (by omega) (by rw [g3s]; omega), msl_in hW2 hf.1 (by rw [g3s]; omega)⟩, fun c => go _ (hfs.2 (fun z => z.2.elim b c)).symm, fun c => go _ (hfs.1 ⟨a, Or.inr c⟩).symm⟩
theorem c_X6_firstBy {d : Nat} {Rq : SmQ} {S : SmS} {I : SmI} {q : Int} (hM : MSk S) (hW : WR (I 107)) (hS : ∀ t : Int, 0 ≤ t → t < I 107 1 → I 107 (34 + 6 * t + 4) = 0 → mvP I (pNow I) t ≠ -4 → I 116 (mvP I (pNow I) t) = tf (safP I (mvP I (pNow I) t))) (hR : ∀ I' : SmI, (∀ b : Nat, b ≠ 113 → I' b = I b) → Rq (.inl (some (vI (fR q (I 107))))) S I') : SC mi_X6_firstBy (d + 5) [vR (some 106), vI q] S I Rq := SC_of0 (Nat.le_of_ble_eq_true rfl) (b_X6_firstBy (S := sBud S 0 0) hM hW hS hR)
/-- what explore found of an earlier row still holds -/
def sfA (J0 : SmI) (c0 : Int) (I : SmI) : Prop := ∀ b, rchP J0 c0 b → I 116 b = tf (safP J0 b)
def okA (J0 : SmI) (c0 : Int) (r : Int → Int) : Prop := mOk J0 ∧ okP J0 c0 ∧ statE (J0 107) r ∧ rchP J0 c0 (pNow (rS r))
theorem sfA_S {J0 I : SmI} {c0 : Int} (hW : WR (I 107)) (h : okA J0 c0 (I 107)) (hs : sfA J0 c0 I) : ∀ t : Int, 0 ≤ t → t < I 107 1 → I 107 (34 + 6 * t + 4) = 0 → mvP I (pNow I) t ≠ -4 → I 116 (mvP I (pNow I) t) = tf (safP I (mvP I (pNow I) t)) := by
  intro t t0 t1 _ hn
  obtain ⟨h1, h2, h3, h4⟩ := h
  have h4' : rchP J0 c0 (pNow I) := h4
  have ok := (rchP_ok h1.1 h2 h4').1
  have e := mvP_stat h3 h1 ok t0 (by rw [h3.1]; exact t1)
  rw [← e] at hn ⊢
  have hst : stpP J0 (pNow I) (mvP J0 (pNow I) t) := ⟨t, t0, by rw [h3.1]; exact t1, hn, rfl⟩
  rw [hs _ (rchP_snoc h4' hst)]
  exact tf_iff (safP_stat h3 h1 (stpP_ok h1.1 ok hst).1)
theorem okA_go {J0 : SmI} {c0 : Int} {r : Int → Int} (hW : WR r) (h : okA J0 c0 r) {t : Int} (t0 : 0 ≤ t) (t1 : t < r 1) (ha : agn (rS r) t = 0) : okA J0 c0 (gGo r t) := by
  obtain ⟨h1, h2, h3, h4⟩ := h
  obtain ⟨g1, g2, g3, g4, g5, g6⟩ := go_all hW t0 t1 ha
  refine ⟨h1, h2, statE_trans h3 g4, ?_⟩
  rw [g6]
  have hn := (agn_0.mp ha).2.2.1
  have ok := (rchP_ok h1.1 h2 h4).1
  have t1' : t < J0 107 1 := by rw [h3.1]; exact t1
  have e : mvP J0 (pNow (rS r)) t = mvP (rS r) (pNow (rS r)) t := mvP_stat (J := J0) (J' := rS r) h3 h1 ok t0 t1'
  exact rchP_snoc h4 ⟨t, t0, t1', by rw [e]; exact hn, e.symm⟩
theorem okA_on {J0 : SmI} {c0 : Int} {r : Int → Int} (hW : WR r) (h : okA J0 c0 r) {m : Int} (m0 : 0 ≤ m) (m1 : r 2 + m ≤ 1000000) : okA J0 c0 (gOn r m) := by
  obtain ⟨h1, h2, h3, h4⟩ := h
  exact ⟨h1, h2, statE_trans h3 gOn_stat, by rw [pNow_on hW m0 m1]; exact h4⟩
theorem runN_WR {q : Int} : ∀ (n : Nat) (r r' : Int → Int), runN q n r r' → WR r → WR r' ∧ (n : Int) + pH r' ≤ pH r ∧ r' 2 = r 2 ∧ statE r r' := by
  intro n
  induction n with
  | zero => rintro r r' ⟨rfl, _⟩ h; exact ⟨h, by omega, rfl, statE_refl⟩
  | succ n ih =>
    rintro r r' ⟨h1, h2⟩ h
    obtain ⟨t0, t1, ha⟩ := fR_in h h1
    obtain ⟨g1, g2, g3, g4, g5, g6⟩ := go_all h t0 t1 ha
    obtain ⟨a, b, c, d⟩ := ih _ _ h2 g1
    exact ⟨a, by omega, c.trans g5, statE_trans g4 d⟩
theorem b_X6_sends {d : Nat} {Rq : SmQ} {S : SmS} {I : SmI} {q : Int} {n : Nat} {r' : Int → Int} {J0 : SmI} {c0 : Int} (hM : MSk S) (hW : WR (I 107)) (hA : okA J0 c0 (I 107)) (hS : sfA J0 c0 I) (hrun : runN q n (I 107) r') (hR : ∀ I' : SmI, I' 107 = r' → okA J0 c0 r' → (∀ b : Nat, b ≠ 107 → b ≠ 113 → I' b = I b) → Rq (.inl (some (vI n))) S I') : SW mi_X6_sends 0 (d + 6) Rq [some (vR (some 106)), some (vI q), none, none] [] S I := by
  have hp := pH_in hW
  have key : ∀ (m : Nat) (k : Int) (I2 : SmI), 0 ≤ k → k + m = n → WR (I2 107) → okA J0 c0 (I2 107) → (∀ b : Nat, b ≠ 107 → b ≠ 113 → I2 b = I b) → runN q m (I2 107) r' → SW mi_X6_sends 8 (d + 6) Rq [some (vR (some 106)), some (vI q), some (vI k), some (vI (fR q (I2 107)))] [] S I2 := by
    intro m
    induction m with
    | zero =>
      rintro k I2 k0 hk hW2 hA2 g ⟨e, hf⟩
      have := hR I2 e.symm (e ▸ hA2) g
      refine rv_X6_sends_8 ?_
      simp +contextual (disch := omega) only [tr_X6_sends_8, im_ic, im_lc, im_nul, im_iload, im_lload, im_aload, im_istore, im_astore, im_lstore, im_iinc, im_iadd, im_isub, im_imul, im_iand, im_ior, im_ishl, im_ishr, im_iushr, im_idiv, im_irem, im_ineg, im_i2l, im_l2i, im_i2b, im_i2s, im_ladd, im_lcmp, im_dup, im_pop, im_dup_x1, im_dup2, im_ceq, im_cne, im_clt, im_cge, im_cgt, im_cle, im_zeq, im_zne, im_zlt, im_zge, im_zgt, im_zle, im_ifnull, im_ifnn, im_acmpeq, im_acmpne, im_getI, im_getR, im_putI, im_putZ, im_putR, im_ald, im_iast, im_bast, im_sast, im_zast, im_aald, im_alen, im_new, im_newa, im_newq, im_tsw, im_lsw, tswA, lswA, im_callS_eq, im_callV_eq, chk_i, chk_T, dOk_i, tf_0, tf_n0, tf_1, tf_01, tf_F, tf_T, tf_em, tf_me, ↓reduceIte, Int.zero_add, Int.add_zero, Int.one_mul, Int.mul_one, Int.ediv_one, Int.sub_zero, im_ireturn, im_zreturn, im_areturn, im_return, im_objinit, popI_eq, popII_eq, popJ_eq, popJJ_eq, popR_eq, popRR_eq, popV_eq, popVV_eq, popA_eq, popIA_eq, popIIA_eq, popRA_eq, popRIA_eq, getI, getJ, getR, lget_0, lget_s, nlAt, cat1, wsum, List.set_cons_zero, List.set_cons_succ, List.take_succ_cons, List.take_zero, List.drop_succ_cons, List.drop_zero, List.reverse_cons, List.reverse_nil, List.nil_append, List.cons_append, List.length_cons, List.length_nil, true_and, and_true, and_self, ne_eq, not_false_eq_true, not_true_eq_false, Classical.not_not, false_or, or_false, true_or, or_true, imp_self, forall_const, forall_eq, implies_true, true_implies, false_implies, Nat.reduceAdd, Nat.reduceLeDiff, Nat.reduceEqDiff, Nat.reduceSub, Int.reduceNeg, Int.reduceEq, Int.reduceLT, Int.reduceLE, Int.reduceNe, Int.reduceAdd, Int.reduceSub, Nat.le_refl, Nat.zero_le, reduceCtorEq, Option.some.injEq, w32_i, MSk_t106 hM, MSk_p0 hM, MSk_t107 hM, MSk_n107 hM, MSk_p1 hM, MSk_t108 hM, MSk_n108 hM, MSk_p2 hM, MSk_t109 hM, MSk_n109 hM, MSk_p3 hM, MSk_t110 hM, MSk_n110 hM, MSk_p4 hM, MSk_t111 hM, MSk_n111 hM, MSk_p5 hM, MSk_t112 hM, MSk_n112 hM, MSk_p13 hM, MSk_t113 hM, MSk_n113 hM, MSk_p14 hM, MSk_t114 hM, MSk_n114 hM, MSk_p15 hM, MSk_t115 hM, MSk_n115 hM, MSk_p16 hM, MSk_t116 hM, MSk_n116 hM, MSk_p18 hM, MSk_t117 hM, MSk_n117 hM, MSk_p20 hM, MSk_t118 hM, MSk_n118 hM, MSk_p21 hM, MSk_t119 hM, MSk_n119 hM, MSk_p22 hM, MSk_t120 hM, MSk_n120 hM, hf]
      rw [show k = (n : Int) by omega]
      exact this
    | succ m ih =>
      rintro k I2 k0 hk hW2 hA2 g ⟨hf, hrun2⟩
      obtain ⟨t0, t1, ha⟩ := fR_in hW2 hf
      obtain ⟨g1, _⟩ := go_all hW2 t0 t1 ha
      have hA3 := okA_go hW2 hA2 t0 t1 ha
      have hb := (pH_in hW2).2
      have hn := (runN_WR _ _ _ hrun hW).2.1
      have hp' := (pH_in (runN_WR _ _ _ hrun hW).1).1
      refine rv_X6_sends_8 ?_
      simp +contextual (disch := omega) only [tr_X6_sends_8, im_ic, im_lc, im_nul, im_iload, im_lload, im_aload, im_istore, im_astore, im_lstore, im_iinc, im_iadd, im_isub, im_imul, im_iand, im_ior, im_ishl, im_ishr, im_iushr, im_idiv, im_irem, im_ineg, im_i2l, im_l2i, im_i2b, im_i2s, im_ladd, im_lcmp, im_dup, im_pop, im_dup_x1, im_dup2, im_ceq, im_cne, im_clt, im_cge, im_cgt, im_cle, im_zeq, im_zne, im_zlt, im_zge, im_zgt, im_zle, im_ifnull, im_ifnn, im_acmpeq, im_acmpne, im_getI, im_getR, im_putI, im_putZ, im_putR, im_ald, im_iast, im_bast, im_sast, im_zast, im_aald, im_alen, im_new, im_newa, im_newq, im_tsw, im_lsw, tswA, lswA, im_callS_eq, im_callV_eq, chk_i, chk_T, dOk_i, tf_0, tf_n0, tf_1, tf_01, tf_F, tf_T, tf_em, tf_me, ↓reduceIte, Int.zero_add, Int.add_zero, Int.one_mul, Int.mul_one, Int.ediv_one, Int.sub_zero, im_ireturn, im_zreturn, im_areturn, im_return, im_objinit, popI_eq, popII_eq, popJ_eq, popJJ_eq, popR_eq, popRR_eq, popV_eq, popVV_eq, popA_eq, popIA_eq, popIIA_eq, popRA_eq, popRIA_eq, getI, getJ, getR, lget_0, lget_s, nlAt, cat1, wsum, List.set_cons_zero, List.set_cons_succ, List.take_succ_cons, List.take_zero, List.drop_succ_cons, List.drop_zero, List.reverse_cons, List.reverse_nil, List.nil_append, List.cons_append, List.length_cons, List.length_nil, true_and, and_true, and_self, ne_eq, not_false_eq_true, not_true_eq_false, Classical.not_not, false_or, or_false, true_or, or_true, imp_self, forall_const, forall_eq, implies_true, true_implies, false_implies, Nat.reduceAdd, Nat.reduceLeDiff, Nat.reduceEqDiff, Nat.reduceSub, Int.reduceNeg, Int.reduceEq, Int.reduceLT, Int.reduceLE, Int.reduceNe, Int.reduceAdd, Int.reduceSub, Nat.le_refl, Nat.zero_le, reduceCtorEq, Option.some.injEq, w32_i, MSk_t106 hM, MSk_p0 hM, MSk_t107 hM, MSk_n107 hM, MSk_p1 hM, MSk_t108 hM, MSk_n108 hM, MSk_p2 hM, MSk_t109 hM, MSk_n109 hM, MSk_p3 hM, MSk_t110 hM, MSk_n110 hM, MSk_p4 hM, MSk_t111 hM, MSk_n111 hM, MSk_p5 hM, MSk_t112 hM, MSk_n112 hM, MSk_p13 hM, MSk_t113 hM, MSk_n113 hM, MSk_p14 hM, MSk_t114 hM, MSk_n114 hM, MSk_p15 hM, MSk_t115 hM, MSk_n115 hM, MSk_p16 hM, MSk_t116 hM, MSk_n116 hM, MSk_p18 hM, MSk_t117 hM, MSk_n117 hM, MSk_p20 hM, MSk_t118 hM, MSk_n118 hM, MSk_p21 hM, MSk_t119 hM, MSk_n119 hM, MSk_p22 hM, MSk_t120 hM, MSk_n120 hM]
      refine ⟨fun h => absurd h hf, fun _ => ?_⟩
      refine c_X6_goes hM hW2 t0 t1 (agn_0.mp ha).1 ?_
      rw [retK_n]
      refine rv_X6_sends_19 ?_
      simp +contextual (disch := omega) only [tr_X6_sends_19, im_ic, im_lc, im_nul, im_iload, im_lload, im_aload, im_istore, im_astore, im_lstore, im_iinc, im_iadd, im_isub, im_imul, im_iand, im_ior, im_ishl, im_ishr, im_iushr, im_idiv, im_irem, im_ineg, im_i2l, im_l2i, im_i2b, im_i2s, im_ladd, im_lcmp, im_dup, im_pop, im_dup_x1, im_dup2, im_ceq, im_cne, im_clt, im_cge, im_cgt, im_cle, im_zeq, im_zne, im_zlt, im_zge, im_zgt, im_zle, im_ifnull, im_ifnn, im_acmpeq, im_acmpne, im_getI, im_getR, im_putI, im_putZ, im_putR, im_ald, im_iast, im_bast, im_sast, im_zast, im_aald, im_alen, im_new, im_newa, im_newq, im_tsw, im_lsw, tswA, lswA, im_callS_eq, im_callV_eq, chk_i, chk_T, dOk_i, tf_0, tf_n0, tf_1, tf_01, tf_F, tf_T, tf_em, tf_me, ↓reduceIte, Int.zero_add, Int.add_zero, Int.one_mul, Int.mul_one, Int.ediv_one, Int.sub_zero, im_ireturn, im_zreturn, im_areturn, im_return, im_objinit, popI_eq, popII_eq, popJ_eq, popJJ_eq, popR_eq, popRR_eq, popV_eq, popVV_eq, popA_eq, popIA_eq, popIIA_eq, popRA_eq, popRIA_eq, getI, getJ, getR, lget_0, lget_s, nlAt, cat1, wsum, List.set_cons_zero, List.set_cons_succ, List.take_succ_cons, List.take_zero, List.drop_succ_cons, List.drop_zero, List.reverse_cons, List.reverse_nil, List.nil_append, List.cons_append, List.length_cons, List.length_nil, true_and, and_true, and_self, ne_eq, not_false_eq_true, not_true_eq_false, Classical.not_not, false_or, or_false, true_or, or_true, imp_self, forall_const, forall_eq, implies_true, true_implies, false_implies, Nat.reduceAdd, Nat.reduceLeDiff, Nat.reduceEqDiff, Nat.reduceSub, Int.reduceNeg, Int.reduceEq, Int.reduceLT, Int.reduceLE, Int.reduceNe, Int.reduceAdd, Int.reduceSub, Nat.le_refl, Nat.zero_le, reduceCtorEq, Option.some.injEq, w32_i, MSk_t106 hM, MSk_p0 hM, MSk_t107 hM, MSk_n107 hM, MSk_p1 hM, MSk_t108 hM, MSk_n108 hM, MSk_p2 hM, MSk_t109 hM, MSk_n109 hM, MSk_p3 hM, MSk_t110 hM, MSk_n110 hM, MSk_p4 hM, MSk_t111 hM, MSk_n111 hM, MSk_p5 hM, MSk_t112 hM, MSk_n112 hM, MSk_p13 hM, MSk_t113 hM, MSk_n113 hM, MSk_p14 hM, MSk_t114 hM, MSk_n114 hM, MSk_p15 hM, MSk_t115 hM, MSk_n115 hM, MSk_p16 hM, MSk_t116 hM, MSk_n116 hM, MSk_p18 hM, MSk_t117 hM, MSk_n117 hM, MSk_p20 hM, MSk_t118 hM, MSk_n118 hM, MSk_p21 hM, MSk_t119 hM, MSk_n119 hM, MSk_p22 hM, MSk_t120 hM, MSk_n120 hM]
      refine c_X6_firstBy hM (by rw [rwS_st]; exact g1) ?_ (fun I3 g3 => ?_)
      · refine sfA_S (by rw [rwS_st]; exact g1) (by rw [rwS_st]; exact hA3) (fun b hb => ?_)
        rw [rwS_ne (by decide), g 116 (by decide) (by decide)]
        exact hS b hb
      · have e3 : I3 107 = gGo (I2 107) (fR q (I2 107)) := by rw [g3 107 (by decide), rwS_st]
        have next := ih (k + 1) I3 (by omega) (by omega) (by rw [e3]; exact g1) (by rw [e3]; exact hA3) (fun b h1 h2 => by rw [g3 b h2, rwS_ne h1, g b h1 h2]) (by rw [e3]; exact hrun2)
        rw [retK_v, rwS_st, ← e3]
        refine rv_X6_sends_27 ?_
        simp +contextual (disch := omega) only [tr_X6_sends_27, im_ic, im_lc, im_nul, im_iload, im_lload, im_aload, im_istore, im_astore, im_lstore, im_iinc, im_iadd, im_isub, im_imul, im_iand, im_ior, im_ishl, im_ishr, im_iushr, im_idiv, im_irem, im_ineg, im_i2l, im_l2i, im_i2b, im_i2s, im_ladd, im_lcmp, im_dup, im_pop, im_dup_x1, im_dup2, im_ceq, im_cne, im_clt, im_cge, im_cgt, im_cle, im_zeq, im_zne, im_zlt, im_zge, im_zgt, im_zle, im_ifnull, im_ifnn, im_acmpeq, im_acmpne, im_getI, im_getR, im_putI, im_putZ, im_putR, im_ald, im_iast, im_bast, im_sast, im_zast, im_aald, im_alen, im_new, im_newa, im_newq, im_tsw, im_lsw, tswA, lswA, im_callS_eq, im_callV_eq, chk_i, chk_T, dOk_i, tf_0, tf_n0, tf_1, tf_01, tf_F, tf_T, tf_em, tf_me, ↓reduceIte, Int.zero_add, Int.add_zero, Int.one_mul, Int.mul_one, Int.ediv_one, Int.sub_zero, im_ireturn, im_zreturn, im_areturn, im_return, im_objinit, popI_eq, popII_eq, popJ_eq, popJJ_eq, popR_eq, popRR_eq, popV_eq, popVV_eq, popA_eq, popIA_eq, popIIA_eq, popRA_eq, popRIA_eq, getI, getJ, getR, lget_0, lget_s, nlAt, cat1, wsum, List.set_cons_zero, List.set_cons_succ, List.take_succ_cons, List.take_zero, List.drop_succ_cons, List.drop_zero, List.reverse_cons, List.reverse_nil, List.nil_append, List.cons_append, List.length_cons, List.length_nil, true_and, and_true, and_self, ne_eq, not_false_eq_true, not_true_eq_false, Classical.not_not, false_or, or_false, true_or, or_true, imp_self, forall_const, forall_eq, implies_true, true_implies, false_implies, Nat.reduceAdd, Nat.reduceLeDiff, Nat.reduceEqDiff, Nat.reduceSub, Int.reduceNeg, Int.reduceEq, Int.reduceLT, Int.reduceLE, Int.reduceNe, Int.reduceAdd, Int.reduceSub, Nat.le_refl, Nat.zero_le, reduceCtorEq, Option.some.injEq, w32_i]
        refine SW_as next ?_ (by first | rfl | grind) (by first | rfl | grind) (by first | rfl | grind)
        simp only [leL_nil, leL_none, leL_some, Option.some.injEq, vI_inj, vR_inj, true_and, and_true]
        try grind
  refine rv_X6_sends_0 ?_
  simp +contextual (disch := omega) only [tr_X6_sends_0, im_ic, im_lc, im_nul, im_iload, im_lload, im_aload, im_istore, im_astore, im_lstore, im_iinc, im_iadd, im_isub, im_imul, im_iand, im_ior, im_ishl, im_ishr, im_iushr, im_idiv, im_irem, im_ineg, im_i2l, im_l2i, im_i2b, im_i2s, im_ladd, im_lcmp, im_dup, im_pop, im_dup_x1, im_dup2, im_ceq, im_cne, im_clt, im_cge, im_cgt, im_cle, im_zeq, im_zne, im_zlt, im_zge, im_zgt, im_zle, im_ifnull, im_ifnn, im_acmpeq, im_acmpne, im_getI, im_getR, im_putI, im_putZ, im_putR, im_ald, im_iast, im_bast, im_sast, im_zast, im_aald, im_alen, im_new, im_newa, im_newq, im_tsw, im_lsw, tswA, lswA, im_callS_eq, im_callV_eq, chk_i, chk_T, dOk_i, tf_0, tf_n0, tf_1, tf_01, tf_F, tf_T, tf_em, tf_me, ↓reduceIte, Int.zero_add, Int.add_zero, Int.one_mul, Int.mul_one, Int.ediv_one, Int.sub_zero, im_ireturn, im_zreturn, im_areturn, im_return, im_objinit, popI_eq, popII_eq, popJ_eq, popJJ_eq, popR_eq, popRR_eq, popV_eq, popVV_eq, popA_eq, popIA_eq, popIIA_eq, popRA_eq, popRIA_eq, getI, getJ, getR, lget_0, lget_s, nlAt, cat1, wsum, List.set_cons_zero, List.set_cons_succ, List.take_succ_cons, List.take_zero, List.drop_succ_cons, List.drop_zero, List.reverse_cons, List.reverse_nil, List.nil_append, List.cons_append, List.length_cons, List.length_nil, true_and, and_true, and_self, ne_eq, not_false_eq_true, not_true_eq_false, Classical.not_not, false_or, or_false, true_or, or_true, imp_self, forall_const, forall_eq, implies_true, true_implies, false_implies, Nat.reduceAdd, Nat.reduceLeDiff, Nat.reduceEqDiff, Nat.reduceSub, Int.reduceNeg, Int.reduceEq, Int.reduceLT, Int.reduceLE, Int.reduceNe, Int.reduceAdd, Int.reduceSub, Nat.le_refl, Nat.zero_le, reduceCtorEq, Option.some.injEq, w32_i, MSk_t106 hM, MSk_p0 hM, MSk_t107 hM, MSk_n107 hM, MSk_p1 hM, MSk_t108 hM, MSk_n108 hM, MSk_p2 hM, MSk_t109 hM, MSk_n109 hM, MSk_p3 hM, MSk_t110 hM, MSk_n110 hM, MSk_p4 hM, MSk_t111 hM, MSk_n111 hM, MSk_p5 hM, MSk_t112 hM, MSk_n112 hM, MSk_p13 hM, MSk_t113 hM, MSk_n113 hM, MSk_p14 hM, MSk_t114 hM, MSk_n114 hM, MSk_p15 hM, MSk_t115 hM, MSk_n115 hM, MSk_p16 hM, MSk_t116 hM, MSk_n116 hM, MSk_p18 hM, MSk_t117 hM, MSk_n117 hM, MSk_p20 hM, MSk_t118 hM, MSk_n118 hM, MSk_p21 hM, MSk_t119 hM, MSk_n119 hM, MSk_p22 hM, MSk_t120 hM, MSk_n120 hM]
  refine c_X6_firstBy hM hW (sfA_S hW hA hS) (fun I3 g3 => ?_)
  have e3 : I3 107 = I 107 := g3 107 (by decide)
  have next := key n 0 I3 (by omega) (by omega) (by rw [e3]; exact hW) (by rw [e3]; exact hA) (fun b h1 h2 => g3 b h2) (by rw [e3]; exact hrun)
  rw [e3] at next
  rw [retK_v]
  refine rv_X6_sends_7 ?_
  simp +contextual (disch := omega) only [tr_X6_sends_7, im_ic, im_lc, im_nul, im_iload, im_lload, im_aload, im_istore, im_astore, im_lstore, im_iinc, im_iadd, im_isub, im_imul, im_iand, im_ior, im_ishl, im_ishr, im_iushr, im_idiv, im_irem, im_ineg, im_i2l, im_l2i, im_i2b, im_i2s, im_ladd, im_lcmp, im_dup, im_pop, im_dup_x1, im_dup2, im_ceq, im_cne, im_clt, im_cge, im_cgt, im_cle, im_zeq, im_zne, im_zlt, im_zge, im_zgt, im_zle, im_ifnull, im_ifnn, im_acmpeq, im_acmpne, im_getI, im_getR, im_putI, im_putZ, im_putR, im_ald, im_iast, im_bast, im_sast, im_zast, im_aald, im_alen, im_new, im_newa, im_newq, im_tsw, im_lsw, tswA, lswA, im_callS_eq, im_callV_eq, chk_i, chk_T, dOk_i, tf_0, tf_n0, tf_1, tf_01, tf_F, tf_T, tf_em, tf_me, ↓reduceIte, Int.zero_add, Int.add_zero, Int.one_mul, Int.mul_one, Int.ediv_one, Int.sub_zero, im_ireturn, im_zreturn, im_areturn, im_return, im_objinit, popI_eq, popII_eq, popJ_eq, popJJ_eq, popR_eq, popRR_eq, popV_eq, popVV_eq, popA_eq, popIA_eq, popIIA_eq, popRA_eq, popRIA_eq, getI, getJ, getR, lget_0, lget_s, nlAt, cat1, wsum, List.set_cons_zero, List.set_cons_succ, List.take_succ_cons, List.take_zero, List.drop_succ_cons, List.drop_zero, List.reverse_cons, List.reverse_nil, List.nil_append, List.cons_append, List.length_cons, List.length_nil, true_and, and_true, and_self, ne_eq, not_false_eq_true, not_true_eq_false, Classical.not_not, false_or, or_false, true_or, or_true, imp_self, forall_const, forall_eq, implies_true, true_implies, false_implies, Nat.reduceAdd, Nat.reduceLeDiff, Nat.reduceEqDiff, Nat.reduceSub, Int.reduceNeg, Int.reduceEq, Int.reduceLT, Int.reduceLE, Int.reduceNe, Int.reduceAdd, Int.reduceSub, Nat.le_refl, Nat.zero_le, reduceCtorEq, Option.some.injEq, w32_i]
  exact next
theorem c_X6_sends {d : Nat} {Rq : SmQ} {S : SmS} {I : SmI} {q : Int} {n : Nat} {r' : Int → Int} {J0 : SmI} {c0 : Int} (hM : MSk S) (hW : WR (I 107)) (hA : okA J0 c0 (I 107)) (hS : sfA J0 c0 I) (hrun : runN q n (I 107) r') (hR : ∀ I' : SmI, I' 107 = r' → okA J0 c0 r' → (∀ b : Nat, b ≠ 107 → b ≠ 113 → I' b = I b) → Rq (.inl (some (vI n))) S I') : SC mi_X6_sends (d + 6) [vR (some 106), vI q] S I Rq := SC_of0 (Nat.le_of_ble_eq_true rfl) (b_X6_sends (S := sBud S 0 0) hM hW hA hS hrun hR)