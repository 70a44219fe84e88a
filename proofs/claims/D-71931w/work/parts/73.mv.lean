/-! a line of the text -/
set_option maxRecDepth 100000
def w5T (T : Int → Int) (n q a b c d e : Int) : Prop := lxS T n q = 1 ∧ lxP T n q - lxB T n q = 5 ∧ byT T n (lxB T n q) = a ∧ byT T n (lxB T n q + 1) = b ∧ byT T n (lxB T n q + 2) = c ∧ byT T n (lxB T n q + 3) = d ∧ byT T n (lxB T n q + 4) = e
def w7T (T : Int → Int) (n q a b c d e f g : Int) : Prop := lxS T n q = 1 ∧ lxP T n q - lxB T n q = 7 ∧ byT T n (lxB T n q) = a ∧ byT T n (lxB T n q + 1) = b ∧ byT T n (lxB T n q + 2) = c ∧ byT T n (lxB T n q + 3) = d ∧ byT T n (lxB T n q + 4) = e ∧ byT T n (lxB T n q + 5) = f ∧ byT T n (lxB T n q + 6) = g
noncomputable def lnT (T : Int → Int) (n q : Int) : Int := by
  classical exact if w5T T n q 112 108 97 99 101 then 0 else if w5T T n q 116 114 97 105 110 then 2 else if w7T T n q 115 101 99 116 105 111 110 then 1 else -4
theorem lnI_T {I : SmI} {q : Int} (h : tkS I q) : lnI I = lnT (I 112) (I 106 6) q := by
  obtain ⟨t0, t7, t8, t9, _⟩ := h
  unfold lnI lnT w5I w7I w5T w7T
  rw [t7, t8, t9]
theorem lnT_in {T : Int → Int} {n q : Int} : lnT T n q = 0 ∨ lnT T n q = 2 ∨ lnT T n q = 1 ∨ lnT T n q = -4 := by
  unfold lnT
  split
  · omega
  · split
    · omega
    · split <;> omega
/-- requires behind an outcome -/
noncomputable def rqT (T : Int → Int) (n : Int) (g c : Int) (o : Int × Int) : Int × Int := if o.1 ≠ 0 then o else if g = 0 then (c, lxB T n o.2) else o
theorem c_rqB {d : Nat} {Rq : SmQ} {S : SmS} {I : SmI} {g c w : Int} {o : Int × Int} (hM : MSk S) (hc : 0 < c) (ho : ocS w I o) (hR : ∀ (I' : SmI), frT I I' → ocS w I' (rqT (I 112) (I 106 6) g c o) → Rq (.inl none) S I') : SC mi_X6_requires d [vR (some 106), vI g, vI c] S I Rq := by
  unfold rqT at hR
  by_cases e : o.1 = 0
  · have k := ho.2.1 e
    rw [if_neg (fun z => z e)] at hR
    by_cases z : g = 0
    · rw [if_pos z] at hR
      refine c_X6_requires hM (fun y => absurd (k.1.2.2.2.2.2) (y.resolve_left (fun y => y z))) (fun _ _ => ?_)
      refine hR _ (frT_set (frT_set frT_refl (by omega) (by omega)) (by omega) (by omega)) ⟨by show 0 ≤ c; omega, fun y => absurd (show c = 0 from y) (by omega), fun _ => ⟨by rw [iSet_k (by omega), iSet_eq], by rw [iSet_eq]; exact k.1.2.2.1⟩⟩
    · rw [if_neg z] at hR
      exact c_X6_requires hM (fun _ => hR I frT_refl ho) (fun y => absurd y z)
  · rw [if_pos e] at hR
    exact c_X6_requires hM (fun _ => hR I frT_refl ho) (fun _ y => absurd y (by have := ocS_F ho e; omega))
/-- what a line gives: the outcome, the draft -/
def roomT (D : Int → Int) (l : Int) : Prop := if l = 0 then D 0 < 6 else if l = 2 then D 1 < 4 else 0 < D 0
noncomputable def bodT (T : Int → Int) (n : Int) (D : Int → Int) (l : Int) (o : Int × Int) : Int × Int := if o.1 ≠ 0 then o else if l = 0 then ((plA T n (4 + 5 * D 0) o.2 D).1, (plA T n (4 + 5 * D 0) o.2 D).2.1) else if l = 2 then tr3 T n o else nmT T n 1 9 (-4) o.2
noncomputable def bodD (T : Int → Int) (n : Int) (D : Int → Int) (l : Int) (o : Int × Int) : Int → Int := if l = 0 then updD (plA T n (4 + 5 * D 0) o.2 D).2.2 0 (D 0 + 1) else if l = 2 then updD (trD T n (34 + 6 * D 1) o D) 1 (D 1 + 1) else updD D (4 + 5 * (D 0 - 1) + 4) (lxF T n o.2)
noncomputable def headT (T : Int → Int) (n : Int) (D : Int → Int) (q : Int) : Int × Int :=
  bnd (rqT T n (tf (lnT T n q = -4 ∨ roomT D (lnT T n q))) 5 (rqT T n (if lnT T n q = -4 then 0 else 1) 2 (0, q))) (nxT T n)
noncomputable def lineT (T : Int → Int) (n : Int) (D : Int → Int) (q : Int) : Int × Int := bnd (rqT T n (if lxS T n (bodT T n D (lnT T n q) (headT T n D q)).2 = 3 then 1 else 0) 2 (bodT T n D (lnT T n q) (headT T n D q))) (nxT T n)
theorem plF_pos {T : Int → Int} {n c : Int} : ∀ (m : Nat) (q : Int) (D : Int → Int), 0 ≤ (plF T n c m q D).1 := by
  intro m
  induction m with
  | zero => intro q D; exact Int.le_refl _
  | succ m ih =>
    intro q D
    unfold plF
    split
    · split
      · exact nmT_pos
      · exact ih _ _
    · exact Int.le_refl _
theorem plA_pos {T : Int → Int} {n c q : Int} {D : Int → Int} : 0 ≤ (plA T n c q D).1 := by
  unfold plA
  split
  · exact nmT_pos
  · exact plF_pos _ _ _
theorem rl_108 {d : Nat} {Rq : SmQ} {S : SmS} {I : SmI} {l w : Int} {o : Int × Int} (hM : MSk S) (h6 : I 106 6 ≤ 160) (ho : ocS w I o) (hR : ∀ I' : SmI, frT I I' → ocS w I' (bnd (rqT (I 112) (I 106 6) (if lxS (I 112) (I 106 6) o.2 = 3 then 1 else 0) 2 o) (nxT (I 112) (I 106 6))) → Rq (.inl none) S I') : SW mi_X6_readLine 108 (d + 4) Rq [some (vR (some 106)), some (vI l)] [] S I := by
  have fin : ∀ (I2 : SmI) (o2 : Int × Int), frT I I2 → ocS w I2 o2 → o2 = rqT (I 112) (I 106 6) (if lxS (I 112) (I 106 6) o.2 = 3 then 1 else 0) 2 o → SW mi_X6_readLine 133 (d + 4) Rq [some (vR (some 106)), some (vI l)] [] S I2 := by
    intro I2 o2 f2 ho2 e2
    have t2 : I2 112 = I 112 := f2.1 112 (by decide)
    have n2 : I2 106 6 = I 106 6 := f2.2 6 (by omega)
    refine rv_X6_readLine_133 ?_
    simp +contextual (disch := omega) only [tr_X6_readLine_133, im_ic, im_lc, im_nul, im_iload, im_lload, im_aload, im_istore, im_astore, im_lstore, im_iinc, im_iadd, im_isub, im_imul, im_iand, im_ior, im_ishl, im_ishr, im_iushr, im_idiv, im_irem, im_ineg, im_i2l, im_l2i, im_i2b, im_i2s, im_ladd, im_lcmp, im_dup, im_pop, im_dup_x1, im_dup2, im_ceq, im_cne, im_clt, im_cge, im_cgt, im_cle, im_zeq, im_zne, im_zlt, im_zge, im_zgt, im_zle, im_ifnull, im_ifnn, im_acmpeq, im_acmpne, im_getI, im_getR, im_putI, im_putZ, im_putR, im_ald, im_iast, im_bast, im_sast, im_zast, im_aald, im_alen, im_new, im_newa, im_newq, im_tsw, im_lsw, tswA, lswA, im_callS_eq, im_callV_eq, chk_i, chk_T, dOk_i, tf_0, tf_n0, tf_1, tf_01, tf_F, tf_T, tf_em, tf_me, ↓reduceIte, Int.zero_add, Int.add_zero, Int.one_mul, Int.mul_one, Int.ediv_one, Int.sub_zero, im_ireturn, im_zreturn, im_areturn, im_return, im_objinit, popI_eq, popII_eq, popJ_eq, popJJ_eq, popR_eq, popRR_eq, popV_eq, popVV_eq, popA_eq, popIA_eq, popIIA_eq, popRA_eq, popRIA_eq, getI, getJ, getR, lget_0, lget_s, nlAt, cat1, wsum, List.set_cons_zero, List.set_cons_succ, List.take_succ_cons, List.take_zero, List.drop_succ_cons, List.drop_zero, List.reverse_cons, List.reverse_nil, List.nil_append, List.cons_append, List.length_cons, List.length_nil, true_and, and_true, and_self, ne_eq, not_false_eq_true, not_true_eq_false, Classical.not_not, false_or, or_false, true_or, or_true, imp_self, forall_const, forall_eq, implies_true, true_implies, false_implies, Nat.reduceAdd, Nat.reduceLeDiff, Nat.reduceEqDiff, Nat.reduceSub, Int.reduceNeg, Int.reduceEq, Int.reduceLT, Int.reduceLE, Int.reduceNe, Int.reduceAdd, Int.reduceSub, Nat.le_refl, Nat.zero_le, reduceCtorEq, Option.some.injEq, w32_i, MSk_t106 hM, MSk_p0 hM, MSk_t107 hM, MSk_n107 hM, MSk_p1 hM, MSk_t108 hM, MSk_n108 hM, MSk_p2 hM, MSk_t109 hM, MSk_n109 hM, MSk_p3 hM, MSk_t110 hM, MSk_n110 hM, MSk_p4 hM, MSk_t111 hM, MSk_n111 hM, MSk_p5 hM, MSk_t112 hM, MSk_n112 hM, MSk_p13 hM, MSk_t113 hM, MSk_n113 hM, MSk_p14 hM, MSk_t114 hM, MSk_n114 hM, MSk_p15 hM, MSk_t115 hM, MSk_n115 hM, MSk_p16 hM, MSk_t116 hM, MSk_n116 hM, MSk_p18 hM, MSk_t117 hM, MSk_n117 hM, MSk_p20 hM, MSk_t118 hM, MSk_n118 hM, MSk_p21 hM, MSk_t119 hM, MSk_n119 hM, MSk_p22 hM, MSk_t120 hM, MSk_n120 hM]
    refine c_rdB hM (by rw [n2]; exact h6) ho2 (fun I3 f3 ho3 => ?_)
    rw [t2, n2, e2] at ho3
    rw [retK_n]
    have h9 := hR I3 (frT_trans f2 f3) ho3
    refine rv_X6_readLine_137 ?_
    simp +contextual (disch := omega) only [tr_X6_readLine_137, im_ic, im_lc, im_nul, im_iload, im_lload, im_aload, im_istore, im_astore, im_lstore, im_iinc, im_iadd, im_isub, im_imul, im_iand, im_ior, im_ishl, im_ishr, im_iushr, im_idiv, im_irem, im_ineg, im_i2l, im_l2i, im_i2b, im_i2s, im_ladd, im_lcmp, im_dup, im_pop, im_dup_x1, im_dup2, im_ceq, im_cne, im_clt, im_cge, im_cgt, im_cle, im_zeq, im_zne, im_zlt, im_zge, im_zgt, im_zle, im_ifnull, im_ifnn, im_acmpeq, im_acmpne, im_getI, im_getR, im_putI, im_putZ, im_putR, im_ald, im_iast, im_bast, im_sast, im_zast, im_aald, im_alen, im_new, im_newa, im_newq, im_tsw, im_lsw, tswA, lswA, im_callS_eq, im_callV_eq, chk_i, chk_T, dOk_i, tf_0, tf_n0, tf_1, tf_01, tf_F, tf_T, tf_em, tf_me, ↓reduceIte, Int.zero_add, Int.add_zero, Int.one_mul, Int.mul_one, Int.ediv_one, Int.sub_zero, im_ireturn, im_zreturn, im_areturn, im_return, im_objinit, popI_eq, popII_eq, popJ_eq, popJJ_eq, popR_eq, popRR_eq, popV_eq, popVV_eq, popA_eq, popIA_eq, popIIA_eq, popRA_eq, popRIA_eq, getI, getJ, getR, lget_0, lget_s, nlAt, cat1, wsum, List.set_cons_zero, List.set_cons_succ, List.take_succ_cons, List.take_zero, List.drop_succ_cons, List.drop_zero, List.reverse_cons, List.reverse_nil, List.nil_append, List.cons_append, List.length_cons, List.length_nil, true_and, and_true, and_self, ne_eq, not_false_eq_true, not_true_eq_false, Classical.not_not, false_or, or_false, true_or, or_true, imp_self, forall_const, forall_eq, implies_true, true_implies, false_implies, Nat.reduceAdd, Nat.reduceLeDiff, Nat.reduceEqDiff, Nat.reduceSub, Int.reduceNeg, Int.reduceEq, Int.reduceLT, Int.reduceLE, Int.reduceNe, Int.reduceAdd, Int.reduceSub, Nat.le_refl, Nat.zero_le, reduceCtorEq, Option.some.injEq, w32_i]
    exact h9
  have rq : ∀ g : Int, g = (if lxS (I 112) (I 106 6) o.2 = 3 then 1 else 0) → SC mi_X6_requires (d + 3) [vR (some 106), vI g, vI 2] S I (retK mi_X6_readLine 130 133 (d + 4) Rq [some (vR (some 106)), some (vI l)] []) := fun g hg => by
    refine c_rqB hM (by omega) ho (fun I2 f2 ho2 => ?_)
    rw [retK_n]
    exact fin I2 _ f2 ho2 (by rw [hg])
  refine rv_X6_readLine_108 ?_
  simp +contextual (disch := omega) only [tr_X6_readLine_108, im_ic, im_lc, im_nul, im_iload, im_lload, im_aload, im_istore, im_astore, im_lstore, im_iinc, im_iadd, im_isub, im_imul, im_iand, im_ior, im_ishl, im_ishr, im_iushr, im_idiv, im_irem, im_ineg, im_i2l, im_l2i, im_i2b, im_i2s, im_ladd, im_lcmp, im_dup, im_pop, im_dup_x1, im_dup2, im_ceq, im_cne, im_clt, im_cge, im_cgt, im_cle, im_zeq, im_zne, im_zlt, im_zge, im_zgt, im_zle, im_ifnull, im_ifnn, im_acmpeq, im_acmpne, im_getI, im_getR, im_putI, im_putZ, im_putR, im_ald, im_iast, im_bast, im_sast, im_zast, im_aald, im_alen, im_new, im_newa, im_newq, im_tsw, im_lsw, tswA, lswA, im_callS_eq, im_callV_eq, chk_i, chk_T, dOk_i, tf_0, tf_n0, tf_1, tf_01, tf_F, tf_T, tf_em, tf_me, ↓reduceIte, Int.zero_add, Int.add_zero, Int.one_mul, Int.mul_one, Int.ediv_one, Int.sub_zero, im_ireturn, im_zreturn, im_areturn, im_return, im_objinit, popI_eq, popII_eq, popJ_eq, popJJ_eq, popR_eq, popRR_eq, popV_eq, popVV_eq, popA_eq, popIA_eq, popIIA_eq, popRA_eq, popRIA_eq, getI, getJ, getR, lget_0, lget_s, nlAt, cat1, wsum, List.set_cons_zero, List.set_cons_succ, List.take_succ_cons, List.take_zero, List.drop_succ_cons, List.drop_zero, List.reverse_cons, List.reverse_nil, List.nil_append, List.cons_append, List.length_cons, List.length_nil, true_and, and_true, and_self, ne_eq, not_false_eq_true, not_true_eq_false, Classical.not_not, false_or, or_false, true_or, or_true, imp_self, forall_const, forall_eq, implies_true, true_implies, false_implies, Nat.reduceAdd, Nat.reduceLeDiff, Nat.reduceEqDiff, Nat.reduceSub, Int.reduceNeg, Int.reduceEq, Int.reduceLT, Int.reduceLE, Int.reduceNe, Int.reduceAdd, Int.reduceSub, Nat.le_refl, Nat.zero_le, reduceCtorEq, Option.some.injEq, w32_i, MSk_t106 hM, MSk_p0 hM, MSk_t107 hM, MSk_n107 hM, MSk_p1 hM, MSk_t108 hM, MSk_n108 hM, MSk_p2 hM, MSk_t109 hM, MSk_n109 hM, MSk_p3 hM, MSk_t110 hM, MSk_n110 hM, MSk_p4 hM, MSk_t111 hM, MSk_n111 hM, MSk_p5 hM, MSk_t112 hM, MSk_n112 hM, MSk_p13 hM, MSk_t113 hM, MSk_n113 hM, MSk_p14 hM, MSk_t114 hM, MSk_n114 hM, MSk_p15 hM, MSk_t115 hM, MSk_n115 hM, MSk_p16 hM, MSk_t116 hM, MSk_n116 hM, MSk_p18 hM, MSk_t117 hM, MSk_n117 hM, MSk_p20 hM, MSk_t118 hM, MSk_n118 hM, MSk_p21 hM, MSk_t119 hM, MSk_n119 hM, MSk_p22 hM, MSk_t120 hM, MSk_n120 hM]
  refine ⟨fun z => ?_, fun z => ?_⟩
  · have e : o.1 ≠ 0 := fun y => z (ho.2.1 y).1.2.2.2.2.2
    exact fin I o frT_refl ho (by unfold rqT; rw [if_pos e])
  · have e : o.1 = 0 := Classical.byContradiction fun y => by
      have := ocS_F ho y
      omega
    have s9 := (ho.2.1 e).1.2.2.2.1
    rw [s9]
    exact ⟨fun y => rq 0 (by rw [if_neg y]), fun y => rq 1 (by rw [if_pos y])⟩
theorem rl_107 {d : Nat} {Rq : SmQ} {S : SmS} {I : SmI} {l v p : Int} (hp : 0 ≤ p ∧ p < 238) (hM : MSk S) (nx : SW mi_X6_readLine 108 (d + 4) Rq [some (vR (some 106)), some (vI l)] [] S (iSet I 108 p v)) : SW mi_X6_readLine 107 (d + 4) Rq [some (vR (some 106)), some (vI l)] [vI v, vI p, vR (some 108)] S I := by
  refine rv_X6_readLine_107 ?_
  simp +contextual (disch := omega) only [tr_X6_readLine_107, im_ic, im_lc, im_nul, im_iload, im_lload, im_aload, im_istore, im_astore, im_lstore, im_iinc, im_iadd, im_isub, im_imul, im_iand, im_ior, im_ishl, im_ishr, im_iushr, im_idiv, im_irem, im_ineg, im_i2l, im_l2i, im_i2b, im_i2s, im_ladd, im_lcmp, im_dup, im_pop, im_dup_x1, im_dup2, im_ceq, im_cne, im_clt, im_cge, im_cgt, im_cle, im_zeq, im_zne, im_zlt, im_zge, im_zgt, im_zle, im_ifnull, im_ifnn, im_acmpeq, im_acmpne, im_getI, im_getR, im_putI, im_putZ, im_putR, im_ald, im_iast, im_bast, im_sast, im_zast, im_aald, im_alen, im_new, im_newa, im_newq, im_tsw, im_lsw, tswA, lswA, im_callS_eq, im_callV_eq, chk_i, chk_T, dOk_i, tf_0, tf_n0, tf_1, tf_01, tf_F, tf_T, tf_em, tf_me, ↓reduceIte, Int.zero_add, Int.add_zero, Int.one_mul, Int.mul_one, Int.ediv_one, Int.sub_zero, im_ireturn, im_zreturn, im_areturn, im_return, im_objinit, popI_eq, popII_eq, popJ_eq, popJJ_eq, popR_eq, popRR_eq, popV_eq, popVV_eq, popA_eq, popIA_eq, popIIA_eq, popRA_eq, popRIA_eq, getI, getJ, getR, lget_0, lget_s, nlAt, cat1, wsum, List.set_cons_zero, List.set_cons_succ, List.take_succ_cons, List.take_zero, List.drop_succ_cons, List.drop_zero, List.reverse_cons, List.reverse_nil, List.nil_append, List.cons_append, List.length_cons, List.length_nil, true_and, and_true, and_self, ne_eq, not_false_eq_true, not_true_eq_false, Classical.not_not, false_or, or_false, true_or, or_true, imp_self, forall_const, forall_eq, implies_true, true_implies, false_implies, Nat.reduceAdd, Nat.reduceLeDiff, Nat.reduceEqDiff, Nat.reduceSub, Int.reduceNeg, Int.reduceEq, Int.reduceLT, Int.reduceLE, Int.reduceNe, Int.reduceAdd, Int.reduceSub, Nat.le_refl, Nat.zero_le, reduceCtorEq, Option.some.injEq, w32_i, MSk_t106 hM, MSk_p0 hM, MSk_t107 hM, MSk_n107 hM, MSk_p1 hM, MSk_t108 hM, MSk_n108 hM, MSk_p2 hM, MSk_t109 hM, MSk_n109 hM, MSk_p3 hM, MSk_t110 hM, MSk_n110 hM, MSk_p4 hM, MSk_t111 hM, MSk_n111 hM, MSk_p5 hM, MSk_t112 hM, MSk_n112 hM, MSk_p13 hM, MSk_t113 hM, MSk_n113 hM, MSk_p14 hM, MSk_t114 hM, MSk_n114 hM, MSk_p15 hM, MSk_t115 hM, MSk_n115 hM, MSk_p16 hM, MSk_t116 hM, MSk_n116 hM, MSk_p18 hM, MSk_t117 hM, MSk_n117 hM, MSk_p20 hM, MSk_t118 hM, MSk_n118 hM, MSk_p21 hM, MSk_t119 hM, MSk_n119 hM, MSk_p22 hM, MSk_t120 hM, MSk_n120 hM]
  exact nx
theorem rl_49 {d : Nat} {Rq : SmQ} {S : SmS} {I : SmI} {l : Int} (hM : MSk S) (hD : 0 ≤ I 108 0 ∧ I 108 0 ≤ 6) (nF : 0 < I 106 11 → Rq (.inl none) S I) (n0 : l = 0 → I 106 11 = 0 → SC mi_X6_readPlace (d + 3) [vR (some 106)] S I (retK mi_X6_readLine 62 65 (d + 4) Rq [some (vR (some 106)), some (vI l)] [])) (n2 : l = 2 → I 106 11 = 0 → SC mi_X6_readTrain (d + 3) [vR (some 106)] S I (retK mi_X6_readLine 74 77 (d + 4) Rq [some (vR (some 106)), some (vI l)] [])) (n1 : l ≠ 0 → l ≠ 2 → I 106 11 = 0 → SC mi_X6_readNumber (d + 3) [vR (some 106), vI 1, vI 9, vI (-4)] S I (retK mi_X6_readLine 104 107 (d + 4) Rq [some (vR (some 106)), some (vI l)] [vI (4 + 5 * (I 108 0 - 1) + 4), vR (some 108)])) (h11 : 0 ≤ I 106 11) : SW mi_X6_readLine 49 (d + 4) Rq [some (vR (some 106)), some (vI l)] [] S I := by
  refine rv_X6_readLine_49 ?_
  simp +contextual (disch := omega) only [tr_X6_readLine_49, im_ic, im_lc, im_nul, im_iload, im_lload, im_aload, im_istore, im_astore, im_lstore, im_iinc, im_iadd, im_isub, im_imul, im_iand, im_ior, im_ishl, im_ishr, im_iushr, im_idiv, im_irem, im_ineg, im_i2l, im_l2i, im_i2b, im_i2s, im_ladd, im_lcmp, im_dup, im_pop, im_dup_x1, im_dup2, im_ceq, im_cne, im_clt, im_cge, im_cgt, im_cle, im_zeq, im_zne, im_zlt, im_zge, im_zgt, im_zle, im_ifnull, im_ifnn, im_acmpeq, im_acmpne, im_getI, im_getR, im_putI, im_putZ, im_putR, im_ald, im_iast, im_bast, im_sast, im_zast, im_aald, im_alen, im_new, im_newa, im_newq, im_tsw, im_lsw, tswA, lswA, im_callS_eq, im_callV_eq, chk_i, chk_T, dOk_i, tf_0, tf_n0, tf_1, tf_01, tf_F, tf_T, tf_em, tf_me, ↓reduceIte, Int.zero_add, Int.add_zero, Int.one_mul, Int.mul_one, Int.ediv_one, Int.sub_zero, im_ireturn, im_zreturn, im_areturn, im_return, im_objinit, popI_eq, popII_eq, popJ_eq, popJJ_eq, popR_eq, popRR_eq, popV_eq, popVV_eq, popA_eq, popIA_eq, popIIA_eq, popRA_eq, popRIA_eq, getI, getJ, getR, lget_0, lget_s, nlAt, cat1, wsum, List.set_cons_zero, List.set_cons_succ, List.take_succ_cons, List.take_zero, List.drop_succ_cons, List.drop_zero, List.reverse_cons, List.reverse_nil, List.nil_append, List.cons_append, List.length_cons, List.length_nil, true_and, and_true, and_self, ne_eq, not_false_eq_true, not_true_eq_false, Classical.not_not, false_or, or_false, true_or, or_true, imp_self, forall_const, forall_eq, implies_true, true_implies, false_implies, Nat.reduceAdd, Nat.reduceLeDiff, Nat.reduceEqDiff, Nat.reduceSub, Int.reduceNeg, Int.reduceEq, Int.reduceLT, Int.reduceLE, Int.reduceNe, Int.reduceAdd, Int.reduceSub, Nat.le_refl, Nat.zero_le, reduceCtorEq, Option.some.injEq, w32_i, MSk_t106 hM, MSk_p0 hM, MSk_t107 hM, MSk_n107 hM, MSk_p1 hM, MSk_t108 hM, MSk_n108 hM, MSk_p2 hM, MSk_t109 hM, MSk_n109 hM, MSk_p3 hM, MSk_t110 hM, MSk_n110 hM, MSk_p4 hM, MSk_t111 hM, MSk_n111 hM, MSk_p5 hM, MSk_t112 hM, MSk_n112 hM, MSk_p13 hM, MSk_t113 hM, MSk_n113 hM, MSk_p14 hM, MSk_t114 hM, MSk_n114 hM, MSk_p15 hM, MSk_t115 hM, MSk_n115 hM, MSk_p16 hM, MSk_t116 hM, MSk_n116 hM, MSk_p18 hM, MSk_t117 hM, MSk_n117 hM, MSk_p20 hM, MSk_t118 hM, MSk_n118 hM, MSk_p21 hM, MSk_t119 hM, MSk_n119 hM, MSk_p22 hM, MSk_t120 hM, MSk_n120 hM]
  refine ⟨fun z => ⟨fun a => ⟨fun b => n1 a b (by omega), fun b => ?_⟩, fun a => ?_⟩, fun z => nF (by omega)⟩
  · have := n2 b (by omega)
    rw [b] at this
    exact this
  · have := n0 a (by omega)
    rw [a] at this
    exact this
theorem b_X6_readLine {d : Nat} {Rq : SmQ} {S : SmS} {I : SmI} {w q : Int} (hM : MSk S) (h6 : I 106 6 ≤ 160) (ho : ocS w I (0, q)) (hD : (0 ≤ I 108 0 ∧ I 108 0 ≤ 6) ∧ 0 ≤ I 108 1 ∧ I 108 1 ≤ 4) (hR : ∀ I' : SmI, frD I I' → ocS w I' (lineT (I 112) (I 106 6) (I 108) q) → ((lineT (I 112) (I 106 6) (I 108) q).1 = 0 → I' 108 = bodD (I 112) (I 106 6) (I 108) (lnT (I 112) (I 106 6) q) (headT (I 112) (I 106 6) (I 108) q)) → Rq (.inl none) S I') : SW mi_X6_readLine 0 (d + 4) Rq [some (vR (some 106)), none] [] S I := by
  have tk := (ho.2.1 rfl).1
  have tk0 : 0 ≤ q ∧ q ≤ I 106 6 := tk.1
  have tk7 : I 106 7 = lxP (I 112) (I 106 6) q := tk.2.1
  have tk8 : I 106 8 = lxB (I 112) (I 106 6) q := tk.2.2.1
  have li := lx_in (T := I 112) tk0.1 tk0.2
  have e1 : ∀ I1 : SmI, frT I I1 → I1 112 = I 112 ∧ I1 106 6 = I 106 6 ∧ I1 108 = I 108 := fun I1 f => ⟨f.1 112 (by decide), f.2 6 (by omega), f.1 108 (by decide)⟩
  have hlr := lnT_in (T := I 112) (n := I 106 6) (q := q)
  unfold lineT headT at hR
  refine rv_X6_readLine_0 ?_
  simp +contextual (disch := omega) only [tr_X6_readLine_0, im_ic, im_lc, im_nul, im_iload, im_lload, im_aload, im_istore, im_astore, im_lstore, im_iinc, im_iadd, im_isub, im_imul, im_iand, im_ior, im_ishl, im_ishr, im_iushr, im_idiv, im_irem, im_ineg, im_i2l, im_l2i, im_i2b, im_i2s, im_ladd, im_lcmp, im_dup, im_pop, im_dup_x1, im_dup2, im_ceq, im_cne, im_clt, im_cge, im_cgt, im_cle, im_zeq, im_zne, im_zlt, im_zge, im_zgt, im_zle, im_ifnull, im_ifnn, im_acmpeq, im_acmpne, im_getI, im_getR, im_putI, im_putZ, im_putR, im_ald, im_iast, im_bast, im_sast, im_zast, im_aald, im_alen, im_new, im_newa, im_newq, im_tsw, im_lsw, tswA, lswA, im_callS_eq, im_callV_eq, chk_i, chk_T, dOk_i, tf_0, tf_n0, tf_1, tf_01, tf_F, tf_T, tf_em, tf_me, ↓reduceIte, Int.zero_add, Int.add_zero, Int.one_mul, Int.mul_one, Int.ediv_one, Int.sub_zero, im_ireturn, im_zreturn, im_areturn, im_return, im_objinit, popI_eq, popII_eq, popJ_eq, popJJ_eq, popR_eq, popRR_eq, popV_eq, popVV_eq, popA_eq, popIA_eq, popIIA_eq, popRA_eq, popRIA_eq, getI, getJ, getR, lget_0, lget_s, nlAt, cat1, wsum, List.set_cons_zero, List.set_cons_succ, List.take_succ_cons, List.take_zero, List.drop_succ_cons, List.drop_zero, List.reverse_cons, List.reverse_nil, List.nil_append, List.cons_append, List.length_cons, List.length_nil, true_and, and_true, and_self, ne_eq, not_false_eq_true, not_true_eq_false, Classical.not_not, false_or, or_false, true_or, or_true, imp_self, forall_const, forall_eq, implies_true, true_implies, false_implies, Nat.reduceAdd, Nat.reduceLeDiff, Nat.reduceEqDiff, Nat.reduceSub, Int.reduceNeg, Int.reduceEq, Int.reduceLT, Int.reduceLE, Int.reduceNe, Int.reduceAdd, Int.reduceSub, Nat.le_refl, Nat.zero_le, reduceCtorEq, Option.some.injEq, w32_i, MSk_t106 hM, MSk_p0 hM, MSk_t107 hM, MSk_n107 hM, MSk_p1 hM, MSk_t108 hM, MSk_n108 hM, MSk_p2 hM, MSk_t109 hM, MSk_n109 hM, MSk_p3 hM, MSk_t110 hM, MSk_n110 hM, MSk_p4 hM, MSk_t111 hM, MSk_n111 hM, MSk_p5 hM, MSk_t112 hM, MSk_n112 hM, MSk_p13 hM, MSk_t113 hM, MSk_n113 hM, MSk_p14 hM, MSk_t114 hM, MSk_n114 hM, MSk_p15 hM, MSk_t115 hM, MSk_n115 hM, MSk_p16 hM, MSk_t116 hM, MSk_n116 hM, MSk_p18 hM, MSk_t117 hM, MSk_n117 hM, MSk_p20 hM, MSk_t118 hM, MSk_n118 hM, MSk_p21 hM, MSk_t119 hM, MSk_n119 hM, MSk_p22 hM, MSk_t120 hM, MSk_n120 hM]
  refine c_X6_lineNow hM (by rw [tk8]; omega) (by rw [tk8, tk7]; omega) (by rw [tk7]; omega) h6 ?_
  rw [retK_v, lnI_T tk]
  show SW _ _ _ _ _ [vI (lnT (I 112) (I 106 6) q)] _ _
  generalize hl : lnT (I 112) (I 106 6) q = l at *
  -- behind the head
  obtain ⟨oh, hoh⟩ : ∃ oh, oh = bnd (rqT (I 112) (I 106 6) (tf (l = -4 ∨ roomT (I 108) l)) 5 (rqT (I 112) (I 106 6) (if l = -4 then 0 else 1) 2 (0, q))) (nxT (I 112) (I 106 6)) := ⟨_, rfl⟩
  rw [← hoh] at hR
  have hg : oh.1 = 0 → l ≠ -4 ∧ roomT (I 108) l := by
    intro z
    rw [hoh] at z
    have z1 := (bnd_0 z).1
    unfold rqT at z1
    by_cases y : l = -4
    · rw [if_pos y] at z1
      simp at z1
    · rw [if_neg y] at z1
      refine ⟨y, Classical.byContradiction fun x => ?_⟩
      rw [tf_f (fun w => w.elim y x)] at z1
      simp at z1
  have close : ∀ (I4 : SmI) (o4 : Int × Int), frD I I4 → ocS w I4 o4 → o4 = bodT (I 112) (I 106 6) (I 108) l oh → (o4.1 = 0 → I4 108 = bodD (I 112) (I 106 6) (I 108) l oh) → SW mi_X6_readLine 108 (d + 4) Rq [some (vR (some 106)), some (vI l)] [] S I4 := by
    intro I4 o4 f4 ho4 h4 hd
    have t4 : I4 112 = I 112 := f4.1 112 (by decide) (by decide)
    have n4 : I4 106 6 = I 106 6 := f4.2 6 (by omega)
    refine rl_108 hM (by rw [n4]; exact h6) ho4 (fun I5 f5 ho5 => ?_)
    rw [t4, n4, h4] at ho5
    refine hR I5 (frD_trans f4 (frD_T f5)) ho5 (fun z => ?_)
    rw [f5.1 108 (by decide)]
    refine hd ?_
    have z1 := (bnd_0 z).1
    rw [h4]
    refine Classical.byContradiction fun y => ?_
    unfold rqT at z1
    rw [if_pos y] at z1
    exact y z1
  have l49 : ∀ (I3 : SmI), frT I I3 → ocS w I3 oh → SW mi_X6_readLine 49 (d + 4) Rq [some (vR (some 106)), some (vI l)] [] S I3 := by
    intro I3 f3 ho3
    obtain ⟨t3, n3, d3⟩ := e1 I3 f3
    have h11 : 0 ≤ I3 106 11 := by
      by_cases z : oh.1 = 0
      · rw [(ho3.2.1 z).1.2.2.2.2.2]; omega
      · have := ocS_F ho3 z; omega
    have ok : I3 106 11 = 0 → oh.1 = 0 := fun z => Classical.byContradiction fun y => by have := ocS_F ho3 y; omega
    refine rl_49 hM (by rw [d3]; exact hD.1) (fun z => ?_) (fun y z => ?_) (fun y z => ?_) (fun y y2 z => ?_) h11
    · have e : oh.1 ≠ 0 := fun y => by
        have := (ho3.2.1 y).1.2.2.2.2.2
        omega
      have eb : bodT (I 112) (I 106 6) (I 108) l oh = oh := by unfold bodT; rw [if_pos e]
      have er : ∀ g, rqT (I 112) (I 106 6) g 2 oh = oh := fun g => by unfold rqT; rw [if_pos e]
      have en : bnd oh (nxT (I 112) (I 106 6)) = oh := if_pos e
      rw [eb, er, en] at hR
      exact hR I3 (frD_T f3) ho3 (fun w => absurd w e)
    · have oz := ok z
      have hr := (hg oz).2
      have hr' : I 108 0 < 6 := by unfold roomT at hr; rwa [if_pos y] at hr
      have tk3 := ho3.2.1 oz
      refine c_X6_readPlace hM (by rw [n3]; exact h6) tk3.1 (by rw [d3]; omega) (fun I4 f4 h4 h5 => ?_)
      rw [t3, n3, d3] at h4 h5
      rw [retK_n]
      have eb : bodT (I 112) (I 106 6) (I 108) l oh = ((plA (I 112) (I 106 6) (4 + 5 * I 108 0) oh.2 (I 108)).1, (plA (I 112) (I 106 6) (4 + 5 * I 108 0) oh.2 (I 108)).2.1) := by unfold bodT; rw [if_neg (fun w => w oz), if_pos y]
      have ed : bodD (I 112) (I 106 6) (I 108) l oh = updD (plA (I 112) (I 106 6) (4 + 5 * I 108 0) oh.2 (I 108)).2.2 0 (I 108 0 + 1) := by unfold bodD; rw [if_pos y]
      have c := close I4 _ (frD_trans (frD_T f3) f4) ⟨plA_pos, fun w => ⟨(h4 w).1, by rw [(h4 w).2.2]; exact tk3.2⟩, fun w => h5 w⟩ eb.symm (fun w => by rw [ed]; exact (h4 w).2.1)
      refine rv_X6_readLine_65 ?_
      simp +contextual (disch := omega) only [tr_X6_readLine_65, im_ic, im_lc, im_nul, im_iload, im_lload, im_aload, im_istore, im_astore, im_lstore, im_iinc, im_iadd, im_isub, im_imul, im_iand, im_ior, im_ishl, im_ishr, im_iushr, im_idiv, im_irem, im_ineg, im_i2l, im_l2i, im_i2b, im_i2s, im_ladd, im_lcmp, im_dup, im_pop, im_dup_x1, im_dup2, im_ceq, im_cne, im_clt, im_cge, im_cgt, im_cle, im_zeq, im_zne, im_zlt, im_zge, im_zgt, im_zle, im_ifnull, im_ifnn, im_acmpeq, im_acmpne, im_getI, im_getR, im_putI, im_putZ, im_putR, im_ald, im_iast, im_bast, im_sast, im_zast, im_aald, im_alen, im_new, im_newa, im_newq, im_tsw, im_lsw, tswA, lswA, im_callS_eq, im_callV_eq, chk_i, chk_T, dOk_i, tf_0, tf_n0, tf_1, tf_01, tf_F, tf_T, tf_em, tf_me, ↓reduceIte, Int.zero_add, Int.add_zero, Int.one_mul, Int.mul_one, Int.ediv_one, Int.sub_zero, im_ireturn, im_zreturn, im_areturn, im_return, im_objinit, popI_eq, popII_eq, popJ_eq, popJJ_eq, popR_eq, popRR_eq, popV_eq, popVV_eq, popA_eq, popIA_eq, popIIA_eq, popRA_eq, popRIA_eq, getI, getJ, getR, lget_0, lget_s, nlAt, cat1, wsum, List.set_cons_zero, List.set_cons_succ, List.take_succ_cons, List.take_zero, List.drop_succ_cons, List.drop_zero, List.reverse_cons, List.reverse_nil, List.nil_append, List.cons_append, List.length_cons, List.length_nil, true_and, and_true, and_self, ne_eq, not_false_eq_true, not_true_eq_false, Classical.not_not, false_or, or_false, true_or, or_true, imp_self, forall_const, forall_eq, implies_true, true_implies, false_implies, Nat.reduceAdd, Nat.reduceLeDiff, Nat.reduceEqDiff, Nat.reduceSub, Int.reduceNeg, Int.reduceEq, Int.reduceLT, Int.reduceLE, Int.reduceNe, Int.reduceAdd, Int.reduceSub, Nat.le_refl, Nat.zero_le, reduceCtorEq, Option.some.injEq, w32_i]
      exact c
    · have oz := ok z
      have hr := (hg oz).2
      have hr' : I 108 1 < 4 := by unfold roomT at hr; rwa [if_neg (by omega), if_pos y] at hr
      refine c_X6_readTrain hM (by rw [n3]; exact h6) ho3 (by rw [d3]; omega) (fun I4 f4 h4 h5 => ?_)
      rw [t3, n3] at h4 h5
      rw [d3] at h5
      rw [retK_n]
      have eb : bodT (I 112) (I 106 6) (I 108) l oh = tr3 (I 112) (I 106 6) oh := by unfold bodT; rw [if_neg (fun w => w oz), if_neg (by omega), if_pos y]
      have ed : bodD (I 112) (I 106 6) (I 108) l oh = updD (trD (I 112) (I 106 6) (34 + 6 * I 108 1) oh (I 108)) 1 (I 108 1 + 1) := by unfold bodD; rw [if_neg (by omega), if_pos y]
      have c := close I4 _ (frD_trans (frD_T f3) f4) h4 eb.symm (fun w => by rw [ed]; exact h5 w)
      refine rv_X6_readLine_77 ?_
      simp +contextual (disch := omega) only [tr_X6_readLine_77, im_ic, im_lc, im_nul, im_iload, im_lload, im_aload, im_istore, im_astore, im_lstore, im_iinc, im_iadd, im_isub, im_imul, im_iand, im_ior, im_ishl, im_ishr, im_iushr, im_idiv, im_irem, im_ineg, im_i2l, im_l2i, im_i2b, im_i2s, im_ladd, im_lcmp, im_dup, im_pop, im_dup_x1, im_dup2, im_ceq, im_cne, im_clt, im_cge, im_cgt, im_cle, im_zeq, im_zne, im_zlt, im_zge, im_zgt, im_zle, im_ifnull, im_ifnn, im_acmpeq, im_acmpne, im_getI, im_getR, im_putI, im_putZ, im_putR, im_ald, im_iast, im_bast, im_sast, im_zast, im_aald, im_alen, im_new, im_newa, im_newq, im_tsw, im_lsw, tswA, lswA, im_callS_eq, im_callV_eq, chk_i, chk_T, dOk_i, tf_0, tf_n0, tf_1, tf_01, tf_F, tf_T, tf_em, tf_me, ↓reduceIte, Int.zero_add, Int.add_zero, Int.one_mul, Int.mul_one, Int.ediv_one, Int.sub_zero, im_ireturn, im_zreturn, im_areturn, im_return, im_objinit, popI_eq, popII_eq, popJ_eq, popJJ_eq, popR_eq, popRR_eq, popV_eq, popVV_eq, popA_eq, popIA_eq, popIIA_eq, popRA_eq, popRIA_eq, getI, getJ, getR, lget_0, lget_s, nlAt, cat1, wsum, List.set_cons_zero, List.set_cons_succ, List.take_succ_cons, List.take_zero, List.drop_succ_cons, List.drop_zero, List.reverse_cons, List.reverse_nil, List.nil_append, List.cons_append, List.length_cons, List.length_nil, true_and, and_true, and_self, ne_eq, not_false_eq_true, not_true_eq_false, Classical.not_not, false_or, or_false, true_or, or_true, imp_self, forall_const, forall_eq, implies_true, true_implies, false_implies, Nat.reduceAdd, Nat.reduceLeDiff, Nat.reduceEqDiff, Nat.reduceSub, Int.reduceNeg, Int.reduceEq, Int.reduceLT, Int.reduceLE, Int.reduceNe, Int.reduceAdd, Int.reduceSub, Nat.le_refl, Nat.zero_le, reduceCtorEq, Option.some.injEq, w32_i]
      exact c
    · have oz := ok z
      have hr := (hg oz).2
      have hr' : 0 < I 108 0 := by unfold roomT at hr; rwa [if_neg y, if_neg y2] at hr
      refine c_rnB hM (by rw [n3]; exact h6) ho3 (fun I4 v f4 h4 h5 hb => ?_)
      rw [t3, n3] at h4 h5
      rw [retK_v, d3]
      have e0 : bnd oh (nmT (I 112) (I 106 6) 1 9 (-4)) = nmT (I 112) (I 106 6) 1 9 (-4) oh.2 := if_neg (fun w => w oz)
      rw [e0] at h4 h5
      have d4 : I4 108 = I 108 := (f4.1 108 (by decide)).trans d3
      have eb : bodT (I 112) (I 106 6) (I 108) l oh = nmT (I 112) (I 106 6) 1 9 (-4) oh.2 := by unfold bodT; rw [if_neg (fun w => w oz), if_neg y, if_neg y2]
      have ed : bodD (I 112) (I 106 6) (I 108) l oh = updD (I 108) (4 + 5 * (I 108 0 - 1) + 4) (lxF (I 112) (I 106 6) oh.2) := by unfold bodD; rw [if_neg y, if_neg y2]
      refine rl_107 (by omega) hM ?_
      exact close _ _ (frD_trans (frD_T f3) (frD_trans (frD_T f4) frD_set)) (ocS_D h4) eb.symm (fun w => by rw [ed, iSet_up, d4, h5 w])
  have l45 : ∀ (I2 : SmI) (o2 : Int × Int), frT I I2 → ocS w I2 o2 → o2 = rqT (I 112) (I 106 6) (tf (l = -4 ∨ roomT (I 108) l)) 5 (rqT (I 112) (I 106 6) (if l = -4 then 0 else 1) 2 (0, q)) → SW mi_X6_readLine 45 (d + 4) Rq [some (vR (some 106)), some (vI l)] [] S I2 := by
    intro I2 o2 f2 ho2 h2
    obtain ⟨t2, n2, d2⟩ := e1 I2 f2
    refine rv_X6_readLine_45 ?_
    simp +contextual (disch := omega) only [tr_X6_readLine_45, im_ic, im_lc, im_nul, im_iload, im_lload, im_aload, im_istore, im_astore, im_lstore, im_iinc, im_iadd, im_isub, im_imul, im_iand, im_ior, im_ishl, im_ishr, im_iushr, im_idiv, im_irem, im_ineg, im_i2l, im_l2i, im_i2b, im_i2s, im_ladd, im_lcmp, im_dup, im_pop, im_dup_x1, im_dup2, im_ceq, im_cne, im_clt, im_cge, im_cgt, im_cle, im_zeq, im_zne, im_zlt, im_zge, im_zgt, im_zle, im_ifnull, im_ifnn, im_acmpeq, im_acmpne, im_getI, im_getR, im_putI, im_putZ, im_putR, im_ald, im_iast, im_bast, im_sast, im_zast, im_aald, im_alen, im_new, im_newa, im_newq, im_tsw, im_lsw, tswA, lswA, im_callS_eq, im_callV_eq, chk_i, chk_T, dOk_i, tf_0, tf_n0, tf_1, tf_01, tf_F, tf_T, tf_em, tf_me, ↓reduceIte, Int.zero_add, Int.add_zero, Int.one_mul, Int.mul_one, Int.ediv_one, Int.sub_zero, im_ireturn, im_zreturn, im_areturn, im_return, im_objinit, popI_eq, popII_eq, popJ_eq, popJJ_eq, popR_eq, popRR_eq, popV_eq, popVV_eq, popA_eq, popIA_eq, popIIA_eq, popRA_eq, popRIA_eq, getI, getJ, getR, lget_0, lget_s, nlAt, cat1, wsum, List.set_cons_zero, List.set_cons_succ, List.take_succ_cons, List.take_zero, List.drop_succ_cons, List.drop_zero, List.reverse_cons, List.reverse_nil, List.nil_append, List.cons_append, List.length_cons, List.length_nil, true_and, and_true, and_self, ne_eq, not_false_eq_true, not_true_eq_false, Classical.not_not, false_or, or_false, true_or, or_true, imp_self, forall_const, forall_eq, implies_true, true_implies, false_implies, Nat.reduceAdd, Nat.reduceLeDiff, Nat.reduceEqDiff, Nat.reduceSub, Int.reduceNeg, Int.reduceEq, Int.reduceLT, Int.reduceLE, Int.reduceNe, Int.reduceAdd, Int.reduceSub, Nat.le_refl, Nat.zero_le, reduceCtorEq, Option.some.injEq, w32_i, MSk_t106 hM, MSk_p0 hM, MSk_t107 hM, MSk_n107 hM, MSk_p1 hM, MSk_t108 hM, MSk_n108 hM, MSk_p2 hM, MSk_t109 hM, MSk_n109 hM, MSk_p3 hM, MSk_t110 hM, MSk_n110 hM, MSk_p4 hM, MSk_t111 hM, MSk_n111 hM, MSk_p5 hM, MSk_t112 hM, MSk_n112 hM, MSk_p13 hM, MSk_t113 hM, MSk_n113 hM, MSk_p14 hM, MSk_t114 hM, MSk_n114 hM, MSk_p15 hM, MSk_t115 hM, MSk_n115 hM, MSk_p16 hM, MSk_t116 hM, MSk_n116 hM, MSk_p18 hM, MSk_t117 hM, MSk_n117 hM, MSk_p20 hM, MSk_t118 hM, MSk_n118 hM, MSk_p21 hM, MSk_t119 hM, MSk_n119 hM, MSk_p22 hM, MSk_t120 hM, MSk_n120 hM]
    refine c_rdB hM (by rw [n2]; exact h6) ho2 (fun I3 f3 ho3 => ?_)
    rw [t2, n2, h2, ← hoh] at ho3
    rw [retK_n]
    exact l49 I3 (frT_trans f2 f3) ho3
  have l21 : ∀ (I1 : SmI) (o1 : Int × Int), frT I I1 → ocS w I1 o1 → o1 = rqT (I 112) (I 106 6) (if l = -4 then 0 else 1) 2 (0, q) → SW mi_X6_readLine 21 (d + 4) Rq [some (vR (some 106)), some (vI l)] [] S I1 := by
    intro I1 o1 f1 ho1 h1
    obtain ⟨t1, n1, d1⟩ := e1 I1 f1
    have rq5 : ∀ g : Int, g = tf (l = -4 ∨ roomT (I 108) l) → SC mi_X6_requires (d + 3) [vR (some 106), vI g, vI 5] S I1 (retK mi_X6_readLine 42 45 (d + 4) Rq [some (vR (some 106)), some (vI l)] []) := fun g hg => by
      refine c_rqB hM (by omega) ho1 (fun I2 f2 ho2 => ?_)
      rw [t1, n1, h1, hg] at ho2
      rw [retK_n]
      exact l45 I2 _ (frT_trans f1 f2) ho2 rfl
    refine rv_X6_readLine_21 ?_
    simp +contextual (disch := omega) only [tr_X6_readLine_21, im_ic, im_lc, im_nul, im_iload, im_lload, im_aload, im_istore, im_astore, im_lstore, im_iinc, im_iadd, im_isub, im_imul, im_iand, im_ior, im_ishl, im_ishr, im_iushr, im_idiv, im_irem, im_ineg, im_i2l, im_l2i, im_i2b, im_i2s, im_ladd, im_lcmp, im_dup, im_pop, im_dup_x1, im_dup2, im_ceq, im_cne, im_clt, im_cge, im_cgt, im_cle, im_zeq, im_zne, im_zlt, im_zge, im_zgt, im_zle, im_ifnull, im_ifnn, im_acmpeq, im_acmpne, im_getI, im_getR, im_putI, im_putZ, im_putR, im_ald, im_iast, im_bast, im_sast, im_zast, im_aald, im_alen, im_new, im_newa, im_newq, im_tsw, im_lsw, tswA, lswA, im_callS_eq, im_callV_eq, chk_i, chk_T, dOk_i, tf_0, tf_n0, tf_1, tf_01, tf_F, tf_T, tf_em, tf_me, ↓reduceIte, Int.zero_add, Int.add_zero, Int.one_mul, Int.mul_one, Int.ediv_one, Int.sub_zero, im_ireturn, im_zreturn, im_areturn, im_return, im_objinit, popI_eq, popII_eq, popJ_eq, popJJ_eq, popR_eq, popRR_eq, popV_eq, popVV_eq, popA_eq, popIA_eq, popIIA_eq, popRA_eq, popRIA_eq, getI, getJ, getR, lget_0, lget_s, nlAt, cat1, wsum, List.set_cons_zero, List.set_cons_succ, List.take_succ_cons, List.take_zero, List.drop_succ_cons, List.drop_zero, List.reverse_cons, List.reverse_nil, List.nil_append, List.cons_append, List.length_cons, List.length_nil, true_and, and_true, and_self, ne_eq, not_false_eq_true, not_true_eq_false, Classical.not_not, false_or, or_false, true_or, or_true, imp_self, forall_const, forall_eq, implies_true, true_implies, false_implies, Nat.reduceAdd, Nat.reduceLeDiff, Nat.reduceEqDiff, Nat.reduceSub, Int.reduceNeg, Int.reduceEq, Int.reduceLT, Int.reduceLE, Int.reduceNe, Int.reduceAdd, Int.reduceSub, Nat.le_refl, Nat.zero_le, reduceCtorEq, Option.some.injEq, w32_i, MSk_t106 hM, MSk_p0 hM, MSk_t107 hM, MSk_n107 hM, MSk_p1 hM, MSk_t108 hM, MSk_n108 hM, MSk_p2 hM, MSk_t109 hM, MSk_n109 hM, MSk_p3 hM, MSk_t110 hM, MSk_n110 hM, MSk_p4 hM, MSk_t111 hM, MSk_n111 hM, MSk_p5 hM, MSk_t112 hM, MSk_n112 hM, MSk_p13 hM, MSk_t113 hM, MSk_n113 hM, MSk_p14 hM, MSk_t114 hM, MSk_n114 hM, MSk_p15 hM, MSk_t115 hM, MSk_n115 hM, MSk_p16 hM, MSk_t116 hM, MSk_n116 hM, MSk_p18 hM, MSk_t117 hM, MSk_n117 hM, MSk_p20 hM, MSk_t118 hM, MSk_n118 hM, MSk_p21 hM, MSk_t119 hM, MSk_n119 hM, MSk_p22 hM, MSk_t120 hM, MSk_n120 hM]
    refine ⟨fun z => ?_, fun z => ?_⟩
    · have := rq5 1 (by rw [tf_t (Or.inl z)])
      rw [z] at this
      exact this
    · refine c_X6_hasRoom hM ?_
      rw [retK_v, d1]
      have er : (if l = 0 then I 108 0 < 6 else if l = 2 then I 108 1 < 4 else 0 < I 108 0) = roomT (I 108) l := rfl
      refine rv_X6_readLine_33 ?_
      simp +contextual (disch := omega) only [tr_X6_readLine_33, im_ic, im_lc, im_nul, im_iload, im_lload, im_aload, im_istore, im_astore, im_lstore, im_iinc, im_iadd, im_isub, im_imul, im_iand, im_ior, im_ishl, im_ishr, im_iushr, im_idiv, im_irem, im_ineg, im_i2l, im_l2i, im_i2b, im_i2s, im_ladd, im_lcmp, im_dup, im_pop, im_dup_x1, im_dup2, im_ceq, im_cne, im_clt, im_cge, im_cgt, im_cle, im_zeq, im_zne, im_zlt, im_zge, im_zgt, im_zle, im_ifnull, im_ifnn, im_acmpeq, im_acmpne, im_getI, im_getR, im_putI, im_putZ, im_putR, im_ald, im_iast, im_bast, im_sast, im_zast, im_aald, im_alen, im_new, im_newa, im_newq, im_tsw, im_lsw, tswA, lswA, im_callS_eq, im_callV_eq, chk_i, chk_T, dOk_i, tf_0, tf_n0, tf_1, tf_01, tf_F, tf_T, tf_em, tf_me, ↓reduceIte, Int.zero_add, Int.add_zero, Int.one_mul, Int.mul_one, Int.ediv_one, Int.sub_zero, im_ireturn, im_zreturn, im_areturn, im_return, im_objinit, popI_eq, popII_eq, popJ_eq, popJJ_eq, popR_eq, popRR_eq, popV_eq, popVV_eq, popA_eq, popIA_eq, popIIA_eq, popRA_eq, popRIA_eq, getI, getJ, getR, lget_0, lget_s, nlAt, cat1, wsum, List.set_cons_zero, List.set_cons_succ, List.take_succ_cons, List.take_zero, List.drop_succ_cons, List.drop_zero, List.reverse_cons, List.reverse_nil, List.nil_append, List.cons_append, List.length_cons, List.length_nil, true_and, and_true, and_self, ne_eq, not_false_eq_true, not_true_eq_false, Classical.not_not, false_or, or_false, true_or, or_true, imp_self, forall_const, forall_eq, implies_true, true_implies, false_implies, Nat.reduceAdd, Nat.reduceLeDiff, Nat.reduceEqDiff, Nat.reduceSub, Int.reduceNeg, Int.reduceEq, Int.reduceLT, Int.reduceLE, Int.reduceNe, Int.reduceAdd, Int.reduceSub, Nat.le_refl, Nat.zero_le, reduceCtorEq, Option.some.injEq, w32_i, MSk_t106 hM, MSk_p0 hM, MSk_t107 hM, MSk_n107 hM, MSk_p1 hM, MSk_t108 hM, MSk_n108 hM, MSk_p2 hM, MSk_t109 hM, MSk_n109 hM, MSk_p3 hM, MSk_t110 hM, MSk_n110 hM, MSk_p4 hM, MSk_t111 hM, MSk_n111 hM, MSk_p5 hM, MSk_t112 hM, MSk_n112 hM, MSk_p13 hM, MSk_t113 hM, MSk_n113 hM, MSk_p14 hM, MSk_t114 hM, MSk_n114 hM, MSk_p15 hM, MSk_t115 hM, MSk_n115 hM, MSk_p16 hM, MSk_t116 hM, MSk_n116 hM, MSk_p18 hM, MSk_t117 hM, MSk_n117 hM, MSk_p20 hM, MSk_t118 hM, MSk_n118 hM, MSk_p21 hM, MSk_t119 hM, MSk_n119 hM, MSk_p22 hM, MSk_t120 hM, MSk_n120 hM, er]
      refine ⟨fun y => rq5 0 (by rw [tf_f (fun x => x.elim z y)]), fun y => rq5 1 (by rw [tf_t (Or.inr y)])⟩
  have rq : ∀ g : Int, g = (if l = -4 then 0 else 1) → SC mi_X6_requires (d + 3) [vR (some 106), vI g, vI 2] S I (retK mi_X6_readLine 18 21 (d + 4) Rq [some (vR (some 106)), some (vI l)] []) := fun g hg => by
    refine c_rqB hM (by omega) ho (fun I2 f2 ho2 => ?_)
    rw [retK_n]
    exact l21 I2 _ f2 ho2 (by rw [hg])
  refine rv_X6_readLine_4 ?_
  simp +contextual (disch := omega) only [tr_X6_readLine_4, im_ic, im_lc, im_nul, im_iload, im_lload, im_aload, im_istore, im_astore, im_lstore, im_iinc, im_iadd, im_isub, im_imul, im_iand, im_ior, im_ishl, im_ishr, im_iushr, im_idiv, im_irem, im_ineg, im_i2l, im_l2i, im_i2b, im_i2s, im_ladd, im_lcmp, im_dup, im_pop, im_dup_x1, im_dup2, im_ceq, im_cne, im_clt, im_cge, im_cgt, im_cle, im_zeq, im_zne, im_zlt, im_zge, im_zgt, im_zle, im_ifnull, im_ifnn, im_acmpeq, im_acmpne, im_getI, im_getR, im_putI, im_putZ, im_putR, im_ald, im_iast, im_bast, im_sast, im_zast, im_aald, im_alen, im_new, im_newa, im_newq, im_tsw, im_lsw, tswA, lswA, im_callS_eq, im_callV_eq, chk_i, chk_T, dOk_i, tf_0, tf_n0, tf_1, tf_01, tf_F, tf_T, tf_em, tf_me, ↓reduceIte, Int.zero_add, Int.add_zero, Int.one_mul, Int.mul_one, Int.ediv_one, Int.sub_zero, im_ireturn, im_zreturn, im_areturn, im_return, im_objinit, popI_eq, popII_eq, popJ_eq, popJJ_eq, popR_eq, popRR_eq, popV_eq, popVV_eq, popA_eq, popIA_eq, popIIA_eq, popRA_eq, popRIA_eq, getI, getJ, getR, lget_0, lget_s, nlAt, cat1, wsum, List.set_cons_zero, List.set_cons_succ, List.take_succ_cons, List.take_zero, List.drop_succ_cons, List.drop_zero, List.reverse_cons, List.reverse_nil, List.nil_append, List.cons_append, List.length_cons, List.length_nil, true_and, and_true, and_self, ne_eq, not_false_eq_true, not_true_eq_false, Classical.not_not, false_or, or_false, true_or, or_true, imp_self, forall_const, forall_eq, implies_true, true_implies, false_implies, Nat.reduceAdd, Nat.reduceLeDiff, Nat.reduceEqDiff, Nat.reduceSub, Int.reduceNeg, Int.reduceEq, Int.reduceLT, Int.reduceLE, Int.reduceNe, Int.reduceAdd, Int.reduceSub, Nat.le_refl, Nat.zero_le, reduceCtorEq, Option.some.injEq, w32_i, MSk_t106 hM, MSk_p0 hM, MSk_t107 hM, MSk_n107 hM, MSk_p1 hM, MSk_t108 hM, MSk_n108 hM, MSk_p2 hM, MSk_t109 hM, MSk_n109 hM, MSk_p3 hM, MSk_t110 hM, MSk_n110 hM, MSk_p4 hM, MSk_t111 hM, MSk_n111 hM, MSk_p5 hM, MSk_t112 hM, MSk_n112 hM, MSk_p13 hM, MSk_t113 hM, MSk_n113 hM, MSk_p14 hM, MSk_t114 hM, MSk_n114 hM, MSk_p15 hM, MSk_t115 hM, MSk_n115 hM, MSk_p16 hM, MSk_t116 hM, MSk_n116 hM, MSk_p18 hM, MSk_t117 hM, MSk_n117 hM, MSk_p20 hM, MSk_t118 hM, MSk_n118 hM, MSk_p21 hM, MSk_t119 hM, MSk_n119 hM, MSk_p22 hM, MSk_t120 hM, MSk_n120 hM]
  refine ⟨fun z => ?_, fun z => rq 1 (by rw [if_neg z])⟩
  have := rq 0 (by rw [if_pos z])
  rw [z] at this
  exact this
theorem c_X6_readLine {d : Nat} {Rq : SmQ} {S : SmS} {I : SmI} {w q : Int} (hM : MSk S) (h6 : I 106 6 ≤ 160) (ho : ocS w I (0, q)) (hD : (0 ≤ I 108 0 ∧ I 108 0 ≤ 6) ∧ 0 ≤ I 108 1 ∧ I 108 1 ≤ 4) (hR : ∀ I' : SmI, frD I I' → ocS w I' (lineT (I 112) (I 106 6) (I 108) q) → ((lineT (I 112) (I 106 6) (I 108) q).1 = 0 → I' 108 = bodD (I 112) (I 106 6) (I 108) (lnT (I 112) (I 106 6) q) (headT (I 112) (I 106 6) (I 108) q)) → Rq (.inl none) S I') : SC mi_X6_readLine (d + 4) [vR (some 106)] S I Rq := SC_of0 (Nat.le_of_ble_eq_true rfl) (b_X6_readLine (S := sBud S 0 0) hM h6 ho hD hR)