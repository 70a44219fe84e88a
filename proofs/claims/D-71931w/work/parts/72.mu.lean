/-! outcomes in a row; a train's line -/
set_option maxRecDepth 100000
/-- the model stands so behind an outcome (0, token) or (fault, place) -/
def ocS (w : Int) (I : SmI) (o : Int × Int) : Prop := 0 ≤ o.1 ∧ (o.1 = 0 → tkS I o.2 ∧ I 106 12 = w) ∧ (o.1 ≠ 0 → I 106 11 = o.1 ∧ I 106 12 = o.2)
noncomputable def bnd (o : Int × Int) (f : Int → Int × Int) : Int × Int := if o.1 ≠ 0 then o else f o.2
theorem bnd_0 {o : Int × Int} {f : Int → Int × Int} (h : (bnd o f).1 = 0) : o.1 = 0 ∧ bnd o f = f o.2 := by
  unfold bnd at *
  by_cases e : o.1 = 0
  · exact ⟨e, if_neg (fun z => z e)⟩
  · rw [if_pos e] at h; exact absurd h e
theorem nxT_pos {T : Int → Int} {n q : Int} : 0 ≤ (nxT T n q).1 := by unfold nxT; split <;> (show (0 : Int) ≤ _; omega)
theorem nmT_pos {T : Int → Int} {n a b c q : Int} : 0 ≤ (nmT T n a b c q).1 := by
  unfold nmT
  split
  · show (0 : Int) ≤ 2; omega
  · split
    · show (0 : Int) ≤ 3; omega
    · split
      · show (0 : Int) ≤ 4; omega
      · exact nxT_pos
theorem ocS_D {w : Int} {I : SmI} {o : Int × Int} {k x : Int} (h : ocS w I o) : ocS w (iSet I 108 k x) o := ⟨h.1, fun z => ⟨tkS_D (h.2.1 z).1, by rw [iSet_ne (by decide)]; exact (h.2.1 z).2⟩, fun z => by rw [iSet_ne (by decide)]; exact h.2.2 z⟩
theorem ocS_O {J I : SmI} {o : Int × Int} (h : tkO J I o) (hp : 0 ≤ o.1) : ocS (J 106 12) I o := ⟨hp, h.2.1, h.2.2⟩
theorem ocS_F {w : Int} {I : SmI} {o : Int × Int} (h : ocS w I o) (e : o.1 ≠ 0) : 0 < I 106 11 := by
  rw [(h.2.2 e).1]
  have := h.1
  omega
theorem c_rnB {d : Nat} {Rq : SmQ} {S : SmS} {I : SmI} {a b c w : Int} {o : Int × Int} (hM : MSk S) (h6 : I 106 6 ≤ 160) (ho : ocS w I o) (hR : ∀ (I' : SmI) (v : Int), frT I I' → ocS w I' (bnd o (nmT (I 112) (I 106 6) a b c)) → ((bnd o (nmT (I 112) (I 106 6) a b c)).1 = 0 → v = lxF (I 112) (I 106 6) o.2) → (0 ≤ v ∧ v ≤ 99) → Rq (.inl (some (vI v))) S I') : SC mi_X6_readNumber (d + 2) [vR (some 106), vI a, vI b, vI c] S I Rq := by
  by_cases e : o.1 = 0
  · have k := ho.2.1 e
    refine c_X6_readNumber hM h6 k.1 (fun I' v h1 h2 h3 => ?_)
    have eb : bnd o (nmT (I 112) (I 106 6) a b c) = nmT (I 112) (I 106 6) a b c o.2 := if_neg (fun z => z e)
    rw [eb] at hR
    exact hR I' v h1.1 (by have := ocS_O h1 nmT_pos; rw [k.2] at this; exact this) h2 h3
  · have eb : bnd o (nmT (I 112) (I 106 6) a b c) = o := if_pos e
    rw [eb] at hR
    exact c_X6_readNumberF hM (ocS_F ho e) (hR I 0 frT_refl ho (fun z => absurd z e) (by omega))
theorem c_rdB {d : Nat} {Rq : SmQ} {S : SmS} {I : SmI} {w : Int} {o : Int × Int} (hM : MSk S) (h6 : I 106 6 ≤ 160) (ho : ocS w I o) (hR : ∀ (I' : SmI), frT I I' → ocS w I' (bnd o (nxT (I 112) (I 106 6))) → Rq (.inl none) S I') : SC mi_X6_reads (d + 1) [vR (some 106)] S I Rq := by
  by_cases e : o.1 = 0
  · obtain ⟨k, kw⟩ := ho.2.1 e
    have li := lx_in (T := I 112) k.1.1 k.1.2
    have k0 := k.1
    have eb : bnd o (nxT (I 112) (I 106 6)) = nxT (I 112) (I 106 6) o.2 := if_neg (fun z => z e)
    rw [eb] at hR
    refine c_X6_reads hM (by rw [k.2.1]; omega) (by rw [k.2.1]; omega) h6 k.2.2.2.2.2 (fun I' h => ?_)
    have := ocS_O (lxR_O k frT_refl rfl h) nxT_pos
    rw [kw] at this
    exact hR I' h.1 this
  · have eb : bnd o (nxT (I 112) (I 106 6)) = o := if_pos e
    rw [eb] at hR
    exact c_X6_readsF hM (ocS_F ho e) (hR I frT_refl ho)
/-- a train's line: from the first number on -/
noncomputable def tr1 (T : Int → Int) (n : Int) (o : Int × Int) : Int × Int := bnd o (nmT T n 0 5 (-4))
noncomputable def tr2 (T : Int → Int) (n : Int) (o : Int × Int) : Int × Int := bnd (tr1 T n o) (nmT T n 0 5 (lxF T n o.2))
noncomputable def tr3 (T : Int → Int) (n : Int) (o : Int × Int) : Int × Int := bnd (tr2 T n o) (nmT T n 1 20 (-4))
noncomputable def trD (T : Int → Int) (n c : Int) (o : Int × Int) (D : Int → Int) : Int → Int := updD (updD (updD (updD (updD (updD D c (lxF T n o.2)) (c + 1) (lxF T n (tr1 T n o).2)) (c + 2) (lxF T n (tr2 T n o).2)) (c + 3) (lxF T n o.2)) (c + 4) 0) (c + 5) (-4)
theorem rt_67 {d : Nat} {Rq : SmQ} {S : SmS} {I : SmI} {c v : Int} (hM : MSk S) (hc : 34 ≤ c ∧ c ≤ 52) (h1 : 0 ≤ I 108 1 ∧ I 108 1 ≤ 4) (hR : Rq (.inl none) S (iSet (iSet (iSet (iSet (iSet I 108 (c + 2) v) 108 (c + 3) (I 108 c)) 108 (c + 4) 0) 108 (c + 5) (-4)) 108 1 (I 108 1 + 1))) : SW mi_X6_readTrain 67 (d + 3) Rq [some (vR (some 106)), some (vI c)] [vI v, vI (c + 2), vR (some 108)] S I := by
  refine rv_X6_readTrain_67 ?_
  simp +contextual (disch := omega) only [tr_X6_readTrain_67, im_ic, im_lc, im_nul, im_iload, im_lload, im_aload, im_istore, im_astore, im_lstore, im_iinc, im_iadd, im_isub, im_imul, im_iand, im_ior, im_ishl, im_ishr, im_iushr, im_idiv, im_irem, im_ineg, im_i2l, im_l2i, im_i2b, im_i2s, im_ladd, im_lcmp, im_dup, im_pop, im_dup_x1, im_dup2, im_ceq, im_cne, im_clt, im_cge, im_cgt, im_cle, im_zeq, im_zne, im_zlt, im_zge, im_zgt, im_zle, im_ifnull, im_ifnn, im_acmpeq, im_acmpne, im_getI, im_getR, im_putI, im_putZ, im_putR, im_ald, im_iast, im_bast, im_sast, im_zast, im_aald, im_alen, im_new, im_newa, im_newq, im_tsw, im_lsw, tswA, lswA, im_callS_eq, im_callV_eq, chk_i, chk_T, dOk_i, tf_0, tf_n0, tf_1, tf_01, tf_F, tf_T, tf_em, tf_me, ↓reduceIte, Int.zero_add, Int.add_zero, Int.one_mul, Int.mul_one, Int.ediv_one, Int.sub_zero, im_ireturn, im_zreturn, im_areturn, im_return, im_objinit, popI_eq, popII_eq, popJ_eq, popJJ_eq, popR_eq, popRR_eq, popV_eq, popVV_eq, popA_eq, popIA_eq, popIIA_eq, popRA_eq, popRIA_eq, getI, getJ, getR, lget_0, lget_s, nlAt, cat1, wsum, List.set_cons_zero, List.set_cons_succ, List.take_succ_cons, List.take_zero, List.drop_succ_cons, List.drop_zero, List.reverse_cons, List.reverse_nil, List.nil_append, List.cons_append, List.length_cons, List.length_nil, true_and, and_true, and_self, ne_eq, not_false_eq_true, not_true_eq_false, Classical.not_not, false_or, or_false, true_or, or_true, imp_self, forall_const, forall_eq, implies_true, true_implies, false_implies, Nat.reduceAdd, Nat.reduceLeDiff, Nat.reduceEqDiff, Nat.reduceSub, Int.reduceNeg, Int.reduceEq, Int.reduceLT, Int.reduceLE, Int.reduceNe, Int.reduceAdd, Int.reduceSub, Nat.le_refl, Nat.zero_le, reduceCtorEq, Option.some.injEq, w32_i, MSk_t106 hM, MSk_p0 hM, MSk_t107 hM, MSk_n107 hM, MSk_p1 hM, MSk_t108 hM, MSk_n108 hM, MSk_p2 hM, MSk_t109 hM, MSk_n109 hM, MSk_p3 hM, MSk_t110 hM, MSk_n110 hM, MSk_p4 hM, MSk_t111 hM, MSk_n111 hM, MSk_p5 hM, MSk_t112 hM, MSk_n112 hM, MSk_p13 hM, MSk_t113 hM, MSk_n113 hM, MSk_p14 hM, MSk_t114 hM, MSk_n114 hM, MSk_p15 hM, MSk_t115 hM, MSk_n115 hM, MSk_p16 hM, MSk_t116 hM, MSk_n116 hM, MSk_p18 hM, MSk_t117 hM, MSk_n117 hM, MSk_p20 hM, MSk_t118 hM, MSk_n118 hM, MSk_p21 hM, MSk_t119 hM, MSk_n119 hM, MSk_p22 hM, MSk_t120 hM, MSk_n120 hM, iSet_k]
  exact hR
theorem rt_50 {d : Nat} {Rq : SmQ} {S : SmS} {I : SmI} {c v : Int} (hM : MSk S) (hc : 34 ≤ c ∧ c ≤ 52) (nx : SC mi_X6_readNumber (d + 2) [vR (some 106), vI 1, vI 20, vI (-4)] S (iSet I 108 (c + 1) v) (retK mi_X6_readTrain 64 67 (d + 3) Rq [some (vR (some 106)), some (vI c)] [vI (c + 2), vR (some 108)])) : SW mi_X6_readTrain 50 (d + 3) Rq [some (vR (some 106)), some (vI c)] [vI v, vI (c + 1), vR (some 108)] S I := by
  refine rv_X6_readTrain_50 ?_
  simp +contextual (disch := omega) only [tr_X6_readTrain_50, im_ic, im_lc, im_nul, im_iload, im_lload, im_aload, im_istore, im_astore, im_lstore, im_iinc, im_iadd, im_isub, im_imul, im_iand, im_ior, im_ishl, im_ishr, im_iushr, im_idiv, im_irem, im_ineg, im_i2l, im_l2i, im_i2b, im_i2s, im_ladd, im_lcmp, im_dup, im_pop, im_dup_x1, im_dup2, im_ceq, im_cne, im_clt, im_cge, im_cgt, im_cle, im_zeq, im_zne, im_zlt, im_zge, im_zgt, im_zle, im_ifnull, im_ifnn, im_acmpeq, im_acmpne, im_getI, im_getR, im_putI, im_putZ, im_putR, im_ald, im_iast, im_bast, im_sast, im_zast, im_aald, im_alen, im_new, im_newa, im_newq, im_tsw, im_lsw, tswA, lswA, im_callS_eq, im_callV_eq, chk_i, chk_T, dOk_i, tf_0, tf_n0, tf_1, tf_01, tf_F, tf_T, tf_em, tf_me, ↓reduceIte, Int.zero_add, Int.add_zero, Int.one_mul, Int.mul_one, Int.ediv_one, Int.sub_zero, im_ireturn, im_zreturn, im_areturn, im_return, im_objinit, popI_eq, popII_eq, popJ_eq, popJJ_eq, popR_eq, popRR_eq, popV_eq, popVV_eq, popA_eq, popIA_eq, popIIA_eq, popRA_eq, popRIA_eq, getI, getJ, getR, lget_0, lget_s, nlAt, cat1, wsum, List.set_cons_zero, List.set_cons_succ, List.take_succ_cons, List.take_zero, List.drop_succ_cons, List.drop_zero, List.reverse_cons, List.reverse_nil, List.nil_append, List.cons_append, List.length_cons, List.length_nil, true_and, and_true, and_self, ne_eq, not_false_eq_true, not_true_eq_false, Classical.not_not, false_or, or_false, true_or, or_true, imp_self, forall_const, forall_eq, implies_true, true_implies, false_implies, Nat.reduceAdd, Nat.reduceLeDiff, Nat.reduceEqDiff, Nat.reduceSub, Int.reduceNeg, Int.reduceEq, Int.reduceLT, Int.reduceLE, Int.reduceNe, Int.reduceAdd, Int.reduceSub, Nat.le_refl, Nat.zero_le, reduceCtorEq, Option.some.injEq, w32_i, MSk_t106 hM, MSk_p0 hM, MSk_t107 hM, MSk_n107 hM, MSk_p1 hM, MSk_t108 hM, MSk_n108 hM, MSk_p2 hM, MSk_t109 hM, MSk_n109 hM, MSk_p3 hM, MSk_t110 hM, MSk_n110 hM, MSk_p4 hM, MSk_t111 hM, MSk_n111 hM, MSk_p5 hM, MSk_t112 hM, MSk_n112 hM, MSk_p13 hM, MSk_t113 hM, MSk_n113 hM, MSk_p14 hM, MSk_t114 hM, MSk_n114 hM, MSk_p15 hM, MSk_t115 hM, MSk_n115 hM, MSk_p16 hM, MSk_t116 hM, MSk_n116 hM, MSk_p18 hM, MSk_t117 hM, MSk_n117 hM, MSk_p20 hM, MSk_t118 hM, MSk_n118 hM, MSk_p21 hM, MSk_t119 hM, MSk_n119 hM, MSk_p22 hM, MSk_t120 hM, MSk_n120 hM]
  exact nx
theorem rt_28 {d : Nat} {Rq : SmQ} {S : SmS} {I : SmI} {c v : Int} (hM : MSk S) (hc : 34 ≤ c ∧ c ≤ 52) (nx : SC mi_X6_readNumber (d + 2) [vR (some 106), vI 0, vI 5, vI v] S (iSet I 108 c v) (retK mi_X6_readTrain 47 50 (d + 3) Rq [some (vR (some 106)), some (vI c)] [vI (c + 1), vR (some 108)])) : SW mi_X6_readTrain 28 (d + 3) Rq [some (vR (some 106)), some (vI c)] [vI v, vI c, vR (some 108)] S I := by
  refine rv_X6_readTrain_28 ?_
  simp +contextual (disch := omega) only [tr_X6_readTrain_28, im_ic, im_lc, im_nul, im_iload, im_lload, im_aload, im_istore, im_astore, im_lstore, im_iinc, im_iadd, im_isub, im_imul, im_iand, im_ior, im_ishl, im_ishr, im_iushr, im_idiv, im_irem, im_ineg, im_i2l, im_l2i, im_i2b, im_i2s, im_ladd, im_lcmp, im_dup, im_pop, im_dup_x1, im_dup2, im_ceq, im_cne, im_clt, im_cge, im_cgt, im_cle, im_zeq, im_zne, im_zlt, im_zge, im_zgt, im_zle, im_ifnull, im_ifnn, im_acmpeq, im_acmpne, im_getI, im_getR, im_putI, im_putZ, im_putR, im_ald, im_iast, im_bast, im_sast, im_zast, im_aald, im_alen, im_new, im_newa, im_newq, im_tsw, im_lsw, tswA, lswA, im_callS_eq, im_callV_eq, chk_i, chk_T, dOk_i, tf_0, tf_n0, tf_1, tf_01, tf_F, tf_T, tf_em, tf_me, ↓reduceIte, Int.zero_add, Int.add_zero, Int.one_mul, Int.mul_one, Int.ediv_one, Int.sub_zero, im_ireturn, im_zreturn, im_areturn, im_return, im_objinit, popI_eq, popII_eq, popJ_eq, popJJ_eq, popR_eq, popRR_eq, popV_eq, popVV_eq, popA_eq, popIA_eq, popIIA_eq, popRA_eq, popRIA_eq, getI, getJ, getR, lget_0, lget_s, nlAt, cat1, wsum, List.set_cons_zero, List.set_cons_succ, List.take_succ_cons, List.take_zero, List.drop_succ_cons, List.drop_zero, List.reverse_cons, List.reverse_nil, List.nil_append, List.cons_append, List.length_cons, List.length_nil, true_and, and_true, and_self, ne_eq, not_false_eq_true, not_true_eq_false, Classical.not_not, false_or, or_false, true_or, or_true, imp_self, forall_const, forall_eq, implies_true, true_implies, false_implies, Nat.reduceAdd, Nat.reduceLeDiff, Nat.reduceEqDiff, Nat.reduceSub, Int.reduceNeg, Int.reduceEq, Int.reduceLT, Int.reduceLE, Int.reduceNe, Int.reduceAdd, Int.reduceSub, Nat.le_refl, Nat.zero_le, reduceCtorEq, Option.some.injEq, w32_i, MSk_t106 hM, MSk_p0 hM, MSk_t107 hM, MSk_n107 hM, MSk_p1 hM, MSk_t108 hM, MSk_n108 hM, MSk_p2 hM, MSk_t109 hM, MSk_n109 hM, MSk_p3 hM, MSk_t110 hM, MSk_n110 hM, MSk_p4 hM, MSk_t111 hM, MSk_n111 hM, MSk_p5 hM, MSk_t112 hM, MSk_n112 hM, MSk_p13 hM, MSk_t113 hM, MSk_n113 hM, MSk_p14 hM, MSk_t114 hM, MSk_n114 hM, MSk_p15 hM, MSk_t115 hM, MSk_n115 hM, MSk_p16 hM, MSk_t116 hM, MSk_n116 hM, MSk_p18 hM, MSk_t117 hM, MSk_n117 hM, MSk_p20 hM, MSk_t118 hM, MSk_n118 hM, MSk_p21 hM, MSk_t119 hM, MSk_n119 hM, MSk_p22 hM, MSk_t120 hM, MSk_n120 hM, iSet_eq]
  exact nx
theorem b_X6_readTrain {d : Nat} {Rq : SmQ} {S : SmS} {I : SmI} {w : Int} {o : Int × Int} (hM : MSk S) (h6 : I 106 6 ≤ 160) (ho : ocS w I o) (hD : 0 ≤ I 108 1 ∧ I 108 1 < 4) (hR : ∀ I' : SmI, frD I I' → ocS w I' (tr3 (I 112) (I 106 6) o) → ((tr3 (I 112) (I 106 6) o).1 = 0 → I' 108 = updD (trD (I 112) (I 106 6) (34 + 6 * I 108 1) o (I 108)) 1 (I 108 1 + 1)) → Rq (.inl none) S I') : SW mi_X6_readTrain 0 (d + 3) Rq [some (vR (some 106)), none] [] S I := by
  obtain ⟨c, hc⟩ : ∃ c, c = 34 + 6 * I 108 1 := ⟨_, rfl⟩
  rw [← hc] at hR
  have cb : 34 ≤ c ∧ c ≤ 52 := by omega
  refine rv_X6_readTrain_0 ?_
  simp +contextual (disch := omega) only [tr_X6_readTrain_0, im_ic, im_lc, im_nul, im_iload, im_lload, im_aload, im_istore, im_astore, im_lstore, im_iinc, im_iadd, im_isub, im_imul, im_iand, im_ior, im_ishl, im_ishr, im_iushr, im_idiv, im_irem, im_ineg, im_i2l, im_l2i, im_i2b, im_i2s, im_ladd, im_lcmp, im_dup, im_pop, im_dup_x1, im_dup2, im_ceq, im_cne, im_clt, im_cge, im_cgt, im_cle, im_zeq, im_zne, im_zlt, im_zge, im_zgt, im_zle, im_ifnull, im_ifnn, im_acmpeq, im_acmpne, im_getI, im_getR, im_putI, im_putZ, im_putR, im_ald, im_iast, im_bast, im_sast, im_zast, im_aald, im_alen, im_new, im_newa, im_newq, im_tsw, im_lsw, tswA, lswA, im_callS_eq, im_callV_eq, chk_i, chk_T, dOk_i, tf_0, tf_n0, tf_1, tf_01, tf_F, tf_T, tf_em, tf_me, ↓reduceIte, Int.zero_add, Int.add_zero, Int.one_mul, Int.mul_one, Int.ediv_one, Int.sub_zero, im_ireturn, im_zreturn, im_areturn, im_return, im_objinit, popI_eq, popII_eq, popJ_eq, popJJ_eq, popR_eq, popRR_eq, popV_eq, popVV_eq, popA_eq, popIA_eq, popIIA_eq, popRA_eq, popRIA_eq, getI, getJ, getR, lget_0, lget_s, nlAt, cat1, wsum, List.set_cons_zero, List.set_cons_succ, List.take_succ_cons, List.take_zero, List.drop_succ_cons, List.drop_zero, List.reverse_cons, List.reverse_nil, List.nil_append, List.cons_append, List.length_cons, List.length_nil, true_and, and_true, and_self, ne_eq, not_false_eq_true, not_true_eq_false, Classical.not_not, false_or, or_false, true_or, or_true, imp_self, forall_const, forall_eq, implies_true, true_implies, false_implies, Nat.reduceAdd, Nat.reduceLeDiff, Nat.reduceEqDiff, Nat.reduceSub, Int.reduceNeg, Int.reduceEq, Int.reduceLT, Int.reduceLE, Int.reduceNe, Int.reduceAdd, Int.reduceSub, Nat.le_refl, Nat.zero_le, reduceCtorEq, Option.some.injEq, w32_i, MSk_t106 hM, MSk_p0 hM, MSk_t107 hM, MSk_n107 hM, MSk_p1 hM, MSk_t108 hM, MSk_n108 hM, MSk_p2 hM, MSk_t109 hM, MSk_n109 hM, MSk_p3 hM, MSk_t110 hM, MSk_n110 hM, MSk_p4 hM, MSk_t111 hM, MSk_n111 hM, MSk_p5 hM, MSk_t112 hM, MSk_n112 hM, MSk_p13 hM, MSk_t113 hM, MSk_n113 hM, MSk_p14 hM, MSk_t114 hM, MSk_n114 hM, MSk_p15 hM, MSk_t115 hM, MSk_n115 hM, MSk_p16 hM, MSk_t116 hM, MSk_n116 hM, MSk_p18 hM, MSk_t117 hM, MSk_n117 hM, MSk_p20 hM, MSk_t118 hM, MSk_n118 hM, MSk_p21 hM, MSk_t119 hM, MSk_n119 hM, MSk_p22 hM, MSk_t120 hM, MSk_n120 hM]
  rw [← hc]
  refine c_rnB hM h6 ho (fun I1 v1 f1 o1 e1 b1 => ?_)
  have d1 : I1 108 = I 108 := f1.1 108 (by decide)
  have t1 : I1 112 = I 112 := f1.1 112 (by decide)
  have n1 : I1 106 6 = I 106 6 := f1.2 6 (by omega)
  rw [retK_v]
  refine rt_28 hM cb ?_
  have hv1 : bnd (bnd o (nmT (I 112) (I 106 6) 0 5 (-4))) (nmT (I 112) (I 106 6) 0 5 v1) = tr2 (I 112) (I 106 6) o := by
    unfold tr2 tr1
    by_cases z : (bnd o (nmT (I 112) (I 106 6) 0 5 (-4))).1 = 0
    · rw [e1 z]
    · unfold bnd at z ⊢
      rw [if_pos z, if_pos z]
  refine c_rnB hM (by rw [iSet_ne (by decide), n1]; exact h6) (ocS_D o1) (fun I2 v2 f2 o2 e2 b2 => ?_)
  rw [iSet_ne (v := 112) (by decide), iSet_ne (v := 106) (by decide), t1, n1] at o2 e2
  rw [hv1] at o2 e2
  have d2 : I2 108 = updD (I 108) c v1 := (f2.1 108 (by decide)).trans (by rw [iSet_up, d1])
  have t2 : I2 112 = I 112 := (f2.1 112 (by decide)).trans (by rw [iSet_ne (by decide), t1])
  have n2 : I2 106 6 = I 106 6 := (f2.2 6 (by omega)).trans (by rw [iSet_ne (by decide), n1])
  rw [retK_v]
  refine rt_50 hM cb ?_
  refine c_rnB hM (by rw [iSet_ne (by decide), n2]; exact h6) (ocS_D o2) (fun I3 v3 f3 o3 e3 b3 => ?_)
  rw [iSet_ne (v := 112) (by decide), iSet_ne (v := 106) (by decide), t2, n2] at o3 e3
  have d3 : I3 108 = updD (updD (I 108) c v1) (c + 1) v2 := (f3.1 108 (by decide)).trans (by rw [iSet_up, d2])
  have q1 : I3 108 1 = I 108 1 := by rw [d3, updD_ne (by omega), updD_ne (by omega)]
  have qc : I3 108 c = v1 := by rw [d3, updD_ne (by omega), updD_same]
  rw [retK_v]
  refine rt_67 hM cb (by omega) ?_
  refine hR _ ?_ (ocS_D (ocS_D (ocS_D (ocS_D (ocS_D o3))))) (fun z => ?_)
  · exact frD_trans (frD_T f1) (frD_trans frD_set (frD_trans (frD_T f2) (frD_trans frD_set (frD_trans (frD_T f3) (frD_trans frD_set (frD_trans frD_set (frD_trans frD_set (frD_trans frD_set frD_set))))))))
  · have z2 := bnd_0 (show (bnd (tr2 (I 112) (I 106 6) o) _).1 = 0 from z)
    have z1 := bnd_0 (show (bnd (tr1 (I 112) (I 106 6) o) _).1 = 0 from z2.1)
    have w1 := e1 z1.1
    have w2 := e2 z2.1
    have w3 := e3 z
    rw [iSet_up, iSet_up, iSet_up, iSet_up, iSet_up, q1, qc, d3, w1, w2, w3]
    rfl
theorem c_X6_readTrain {d : Nat} {Rq : SmQ} {S : SmS} {I : SmI} {w : Int} {o : Int × Int} (hM : MSk S) (h6 : I 106 6 ≤ 160) (ho : ocS w I o) (hD : 0 ≤ I 108 1 ∧ I 108 1 < 4) (hR : ∀ I' : SmI, frD I I' → ocS w I' (tr3 (I 112) (I 106 6) o) → ((tr3 (I 112) (I 106 6) o).1 = 0 → I' 108 = updD (trD (I 112) (I 106 6) (34 + 6 * I 108 1) o (I 108)) 1 (I 108 1 + 1)) → Rq (.inl none) S I') : SC mi_X6_readTrain (d + 3) [vR (some 106)] S I Rq := SC_of0 (Nat.le_of_ble_eq_true rfl) (b_X6_readTrain (S := sBud S 0 0) hM h6 ho hD hR)