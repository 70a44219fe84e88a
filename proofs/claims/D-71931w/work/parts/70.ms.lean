/-! the model's numbers -/
set_option maxRecDepth 100000
theorem lx_in {T : Int → Int} {n q : Int} (hq : 0 ≤ q) (hn : q ≤ n) : (q ≤ lxB T n q ∧ lxB T n q ≤ lxP T n q ∧ lxP T n q ≤ n) ∧ (0 ≤ lxS T n q ∧ lxS T n q ≤ 3) ∧ (lxS T n q = 2 → 0 ≤ lxF T n q ∧ lxF T n q ≤ 99) := by
  have b := skp_in (P := spc) (T := T) spc_1 hn
  have b' : q ≤ lxB T n q ∧ lxB T n q ≤ n := b
  have hS : lxS T n q = lxS T n q := rfl
  conv at hS => rhs; unfold lxS
  have l := skp_in (P := ltr) (T := T) ltr_1 b'.2
  have d := skp_in (P := dgi) (T := T) dgi_1 b'.2
  have hP : lxP T n q = lxP T n q := rfl
  conv at hP => rhs; unfold lxP
  unfold lxF
  have dig : ∀ (k : Nat) (p : Int), p ≤ n → (n - p).toNat = k → ∀ x, p ≤ x → x < skp dgi T n p → dgi (T x) := by
    intro k
    induction k with
    | zero =>
      intro p hp hk x h1 h2
      have e : skp dgi T n p = p := by unfold skp; rw [hk]; rfl
      omega
    | succ k ih =>
      intro p hp hk x h1 h2
      by_cases z : dgi (byT T n p)
      · obtain ⟨a, e⟩ := skp_s dgi_1 z
        by_cases y : x = p
        · rw [y]
          unfold byT at z
          rwa [if_pos a] at z
        · exact ih (p + 1) (by omega) (by omega) x (by omega) (by rw [← e]; exact h2)
      · rw [skp_n z] at h2
        omega
  generalize lxS T n q = s at *
  generalize lxB T n q = B at *
  have s3 : 0 ≤ s ∧ s ≤ 3 := by
    rw [hS]
    split
    · omega
    · split
      · omega
      · split <;> omega
  have n3 : s = 3 → B < n := fun z => by
    rw [z] at hS
    refine Classical.byContradiction fun y => ?_
    have e : byT T n B = -1 := if_neg (by omega)
    rw [if_pos (by omega)] at hS
    omega
  refine ⟨⟨b'.1, ?_, ?_⟩, s3, fun z => ?_⟩
  · rw [hP]
    split
    · omega
    · split
      · omega
      · split <;> omega
  · rw [hP]
    split
    · omega
    · split
      · omega
      · split
        · omega
        · have := n3 (by omega); omega
  · rw [hP, if_neg (by omega), if_neg (by omega), if_pos z]
    exact fgA_in (dig _ B b'.2 rfl) (by omega)
/-- the token that was read from q on stands -/
def tkS (I : SmI) (q : Int) : Prop := (0 ≤ q ∧ q ≤ I 106 6) ∧ I 106 7 = lxP (I 112) (I 106 6) q ∧ I 106 8 = lxB (I 112) (I 106 6) q ∧ I 106 9 = lxS (I 112) (I 106 6) q ∧ (lxS (I 112) (I 106 6) q = 2 → I 106 10 = lxF (I 112) (I 106 6) q) ∧ I 106 11 = 0
/-- the next token: (0, where it was read from) or (fault, place) -/
noncomputable def nxT (T : Int → Int) (n q : Int) : Int × Int := by
  classical exact if lxE T n (lxP T n q) then (1, lxB T n (lxP T n q)) else (0, lxP T n q)
noncomputable def nmT (T : Int → Int) (n low most oth q : Int) : Int × Int := if lxS T n q ≠ 2 then (2, lxB T n q) else if ¬ (low ≤ lxF T n q ∧ lxF T n q ≤ most) then (3, lxB T n q) else if lxF T n q = oth then (4, lxB T n q) else nxT T n q
/-- how the model stands behind an outcome -/
def tkO (J I : SmI) (o : Int × Int) : Prop := frT J I ∧ (o.1 = 0 → tkS I o.2 ∧ I 106 12 = J 106 12) ∧ (o.1 ≠ 0 → I 106 11 = o.1 ∧ I 106 12 = o.2)
theorem lxR_O {J I I' : SmI} {q : Int} (h : tkS I q) (hf : frT J I) (h12 : I 106 12 = J 106 12) (h2 : lxR I I') : tkO J I' (nxT (J 112) (J 106 6) q) := by
  obtain ⟨a, a7, a8, a9, a10, a11⟩ := h
  obtain ⟨b, b7, b8, b9, b10, b11, b12⟩ := h2
  have et : I 112 = J 112 := hf.1 112 (by decide)
  have e6 : I 106 6 = J 106 6 := hf.2 6 (by omega)
  have et' : I' 112 = I 112 := b.1 112 (by decide)
  have e6' : I' 106 6 = I 106 6 := b.2 6 (by omega)
  have li := lx_in (T := I 112) a.1 a.2
  rw [a7] at b7 b8 b9 b10 b11 b12
  refine ⟨frT_trans hf b, ?_, ?_⟩
  · intro z
    unfold nxT at z ⊢
    rw [← et, ← e6] at z ⊢
    by_cases e : lxE (I 112) (I 106 6) (lxP (I 112) (I 106 6) q)
    · rw [if_pos e] at z
      exact absurd z (by show ¬ (1 : Int) = 0; omega)
    · rw [if_neg e]
      unfold tkS
      rw [et', e6']
      refine ⟨⟨by show 0 ≤ lxP _ _ _ ∧ lxP _ _ _ ≤ _; omega, b7, b8, b9, b10, (b11 e).1⟩, by rw [(b11 e).2, h12]⟩
  · intro z
    unfold nxT at z ⊢
    rw [← et, ← e6] at z ⊢
    by_cases e : lxE (I 112) (I 106 6) (lxP (I 112) (I 106 6) q)
    · rw [if_pos e]
      exact b12 e
    · rw [if_neg e] at z
      exact absurd rfl z
theorem rn_95 {d : Nat} {Rq : SmQ} {S : SmS} {I : SmI} {a b c v : Int} (hR : Rq (.inl (some (vI v))) S I) : SW mi_X6_readNumber 95 (d + 2) Rq [some (vR (some 106)), some (vI a), some (vI b), some (vI c), some (vI v)] [] S I := by
  refine rv_X6_readNumber_95 ?_
  simp +contextual (disch := omega) only [tr_X6_readNumber_95, im_ic, im_lc, im_nul, im_iload, im_lload, im_aload, im_istore, im_astore, im_lstore, im_iinc, im_iadd, im_isub, im_imul, im_iand, im_ior, im_ishl, im_ishr, im_iushr, im_idiv, im_irem, im_ineg, im_i2l, im_l2i, im_i2b, im_i2s, im_ladd, im_lcmp, im_dup, im_pop, im_dup_x1, im_dup2, im_ceq, im_cne, im_clt, im_cge, im_cgt, im_cle, im_zeq, im_zne, im_zlt, im_zge, im_zgt, im_zle, im_ifnull, im_ifnn, im_acmpeq, im_acmpne, im_getI, im_getR, im_putI, im_putZ, im_putR, im_ald, im_iast, im_bast, im_sast, im_zast, im_aald, im_alen, im_new, im_newa, im_newq, im_tsw, im_lsw, tswA, lswA, im_callS_eq, im_callV_eq, chk_i, chk_T, dOk_i, tf_0, tf_n0, tf_1, tf_01, tf_F, tf_T, tf_em, tf_me, ↓reduceIte, Int.zero_add, Int.add_zero, Int.one_mul, Int.mul_one, Int.ediv_one, Int.sub_zero, im_ireturn, im_zreturn, im_areturn, im_return, im_objinit, popI_eq, popII_eq, popJ_eq, popJJ_eq, popR_eq, popRR_eq, popV_eq, popVV_eq, popA_eq, popIA_eq, popIIA_eq, popRA_eq, popRIA_eq, getI, getJ, getR, lget_0, lget_s, nlAt, cat1, wsum, List.set_cons_zero, List.set_cons_succ, List.take_succ_cons, List.take_zero, List.drop_succ_cons, List.drop_zero, List.reverse_cons, List.reverse_nil, List.nil_append, List.cons_append, List.length_cons, List.length_nil, true_and, and_true, and_self, ne_eq, not_false_eq_true, not_true_eq_false, Classical.not_not, false_or, or_false, true_or, or_true, imp_self, forall_const, forall_eq, implies_true, true_implies, false_implies, Nat.reduceAdd, Nat.reduceLeDiff, Nat.reduceEqDiff, Nat.reduceSub, Int.reduceNeg, Int.reduceEq, Int.reduceLT, Int.reduceLE, Int.reduceNe, Int.reduceAdd, Int.reduceSub, Nat.le_refl, Nat.zero_le, reduceCtorEq, Option.some.injEq, w32_i]
  exact hR
theorem rn_74F {d : Nat} {Rq : SmQ} {S : SmS} {I : SmI} {a b c : Int} (hM : MSk S) (hf : 0 < I 106 11) (hR : Rq (.inl (some (vI 0))) S I) : SW mi_X6_readNumber 74 (d + 2) Rq [some (vR (some 106)), some (vI a), some (vI b), some (vI c), none] [] S I := by
  refine rv_X6_readNumber_74 ?_
  simp +contextual (disch := omega) only [tr_X6_readNumber_74, im_ic, im_lc, im_nul, im_iload, im_lload, im_aload, im_istore, im_astore, im_lstore, im_iinc, im_iadd, im_isub, im_imul, im_iand, im_ior, im_ishl, im_ishr, im_iushr, im_idiv, im_irem, im_ineg, im_i2l, im_l2i, im_i2b, im_i2s, im_ladd, im_lcmp, im_dup, im_pop, im_dup_x1, im_dup2, im_ceq, im_cne, im_clt, im_cge, im_cgt, im_cle, im_zeq, im_zne, im_zlt, im_zge, im_zgt, im_zle, im_ifnull, im_ifnn, im_acmpeq, im_acmpne, im_getI, im_getR, im_putI, im_putZ, im_putR, im_ald, im_iast, im_bast, im_sast, im_zast, im_aald, im_alen, im_new, im_newa, im_newq, im_tsw, im_lsw, tswA, lswA, im_callS_eq, im_callV_eq, chk_i, chk_T, dOk_i, tf_0, tf_n0, tf_1, tf_01, tf_F, tf_T, tf_em, tf_me, ↓reduceIte, Int.zero_add, Int.add_zero, Int.one_mul, Int.mul_one, Int.ediv_one, Int.sub_zero, im_ireturn, im_zreturn, im_areturn, im_return, im_objinit, popI_eq, popII_eq, popJ_eq, popJJ_eq, popR_eq, popRR_eq, popV_eq, popVV_eq, popA_eq, popIA_eq, popIIA_eq, popRA_eq, popRIA_eq, getI, getJ, getR, lget_0, lget_s, nlAt, cat1, wsum, List.set_cons_zero, List.set_cons_succ, List.take_succ_cons, List.take_zero, List.drop_succ_cons, List.drop_zero, List.reverse_cons, List.reverse_nil, List.nil_append, List.cons_append, List.length_cons, List.length_nil, true_and, and_true, and_self, ne_eq, not_false_eq_true, not_true_eq_false, Classical.not_not, false_or, or_false, true_or, or_true, imp_self, forall_const, forall_eq, implies_true, true_implies, false_implies, Nat.reduceAdd, Nat.reduceLeDiff, Nat.reduceEqDiff, Nat.reduceSub, Int.reduceNeg, Int.reduceEq, Int.reduceLT, Int.reduceLE, Int.reduceNe, Int.reduceAdd, Int.reduceSub, Nat.le_refl, Nat.zero_le, reduceCtorEq, Option.some.injEq, w32_i, MSk_t106 hM, MSk_p0 hM, MSk_t107 hM, MSk_n107 hM, MSk_p1 hM, MSk_t108 hM, MSk_n108 hM, MSk_p2 hM, MSk_t109 hM, MSk_n109 hM, MSk_p3 hM, MSk_t110 hM, MSk_n110 hM, MSk_p4 hM, MSk_t111 hM, MSk_n111 hM, MSk_p5 hM, MSk_t112 hM, MSk_n112 hM, MSk_p13 hM, MSk_t113 hM, MSk_n113 hM, MSk_p14 hM, MSk_t114 hM, MSk_n114 hM, MSk_p15 hM, MSk_t115 hM, MSk_n115 hM, MSk_p16 hM, MSk_t116 hM, MSk_n116 hM, MSk_p18 hM, MSk_t117 hM, MSk_n117 hM, MSk_p20 hM, MSk_t118 hM, MSk_n118 hM, MSk_p21 hM, MSk_t119 hM, MSk_n119 hM, MSk_p22 hM, MSk_t120 hM, MSk_n120 hM]
  refine ⟨fun h => ?_, fun h => absurd h (by omega)⟩
  refine c_X6_readsF hM hf ?_
  rw [retK_n]
  exact rn_95 hR
theorem rn_49F {d : Nat} {Rq : SmQ} {S : SmS} {I : SmI} {a b c : Int} (hM : MSk S) (hf : 0 < I 106 11) (hR : Rq (.inl (some (vI 0))) S I) : SW mi_X6_readNumber 49 (d + 2) Rq [some (vR (some 106)), some (vI a), some (vI b), some (vI c), none] [] S I := by
  have n := rn_74F (d := d) (a := a) (b := b) (c := c) hM hf hR
  have n0 : I 106 11 ≠ 0 := by omega
  refine rv_X6_readNumber_49 ?_
  simp (disch := omega) only [tr_X6_readNumber_49, im_ic, im_lc, im_nul, im_iload, im_lload, im_aload, im_istore, im_astore, im_lstore, im_iinc, im_iadd, im_isub, im_imul, im_iand, im_ior, im_ishl, im_ishr, im_iushr, im_idiv, im_irem, im_ineg, im_i2l, im_l2i, im_i2b, im_i2s, im_ladd, im_lcmp, im_dup, im_pop, im_dup_x1, im_dup2, im_ceq, im_cne, im_clt, im_cge, im_cgt, im_cle, im_zeq, im_zne, im_zlt, im_zge, im_zgt, im_zle, im_ifnull, im_ifnn, im_acmpeq, im_acmpne, im_getI, im_getR, im_putI, im_putZ, im_putR, im_ald, im_iast, im_bast, im_sast, im_zast, im_aald, im_alen, im_new, im_newa, im_newq, im_tsw, im_lsw, tswA, lswA, im_callS_eq, im_callV_eq, chk_i, chk_T, dOk_i, tf_0, tf_n0, tf_1, tf_01, tf_F, tf_T, tf_em, tf_me, ↓reduceIte, Int.zero_add, Int.add_zero, Int.one_mul, Int.mul_one, Int.ediv_one, Int.sub_zero, im_ireturn, im_zreturn, im_areturn, im_return, im_objinit, popI_eq, popII_eq, popJ_eq, popJJ_eq, popR_eq, popRR_eq, popV_eq, popVV_eq, popA_eq, popIA_eq, popIIA_eq, popRA_eq, popRIA_eq, getI, getJ, getR, lget_0, lget_s, nlAt, cat1, wsum, List.set_cons_zero, List.set_cons_succ, List.take_succ_cons, List.take_zero, List.drop_succ_cons, List.drop_zero, List.reverse_cons, List.reverse_nil, List.nil_append, List.cons_append, List.length_cons, List.length_nil, true_and, and_true, and_self, ne_eq, not_false_eq_true, not_true_eq_false, Classical.not_not, false_or, or_false, true_or, or_true, imp_self, forall_const, forall_eq, implies_true, true_implies, false_implies, Nat.reduceAdd, Nat.reduceLeDiff, Nat.reduceEqDiff, Nat.reduceSub, Int.reduceNeg, Int.reduceEq, Int.reduceLT, Int.reduceLE, Int.reduceNe, Int.reduceAdd, Int.reduceSub, Nat.le_refl, Nat.zero_le, reduceCtorEq, Option.some.injEq, w32_i, MSk_t106 hM, MSk_p0 hM, MSk_t107 hM, MSk_n107 hM, MSk_p1 hM, MSk_t108 hM, MSk_n108 hM, MSk_p2 hM, MSk_t109 hM, MSk_n109 hM, MSk_p3 hM, MSk_t110 hM, MSk_n110 hM, MSk_p4 hM, MSk_t111 hM, MSk_n111 hM, MSk_p5 hM, MSk_t112 hM, MSk_n112 hM, MSk_p13 hM, MSk_t113 hM, MSk_n113 hM, MSk_p14 hM, MSk_t114 hM, MSk_n114 hM, MSk_p15 hM, MSk_t115 hM, MSk_n115 hM, MSk_p16 hM, MSk_t116 hM, MSk_n116 hM, MSk_p18 hM, MSk_t117 hM, MSk_n117 hM, MSk_p20 hM, MSk_t118 hM, MSk_n118 hM, MSk_p21 hM, MSk_t119 hM, MSk_n119 hM, MSk_p22 hM, MSk_t120 hM, MSk_n120 hM, n0]
  exact n
theorem rn_25F {d : Nat} {Rq : SmQ} {S : SmS} {I : SmI} {a b c : Int} (hM : MSk S) (hf : 0 < I 106 11) (hR : Rq (.inl (some (vI 0))) S I) : SW mi_X6_readNumber 25 (d + 2) Rq [some (vR (some 106)), some (vI a), some (vI b), some (vI c), none] [] S I := by
  have n := rn_49F (d := d) (a := a) (b := b) (c := c) hM hf hR
  refine rv_X6_readNumber_25 ?_
  simp +contextual (disch := omega) only [tr_X6_readNumber_25, im_ic, im_lc, im_nul, im_iload, im_lload, im_aload, im_istore, im_astore, im_lstore, im_iinc, im_iadd, im_isub, im_imul, im_iand, im_ior, im_ishl, im_ishr, im_iushr, im_idiv, im_irem, im_ineg, im_i2l, im_l2i, im_i2b, im_i2s, im_ladd, im_lcmp, im_dup, im_pop, im_dup_x1, im_dup2, im_ceq, im_cne, im_clt, im_cge, im_cgt, im_cle, im_zeq, im_zne, im_zlt, im_zge, im_zgt, im_zle, im_ifnull, im_ifnn, im_acmpeq, im_acmpne, im_getI, im_getR, im_putI, im_putZ, im_putR, im_ald, im_iast, im_bast, im_sast, im_zast, im_aald, im_alen, im_new, im_newa, im_newq, im_tsw, im_lsw, tswA, lswA, im_callS_eq, im_callV_eq, chk_i, chk_T, dOk_i, tf_0, tf_n0, tf_1, tf_01, tf_F, tf_T, tf_em, tf_me, ↓reduceIte, Int.zero_add, Int.add_zero, Int.one_mul, Int.mul_one, Int.ediv_one, Int.sub_zero, im_ireturn, im_zreturn, im_areturn, im_return, im_objinit, popI_eq, popII_eq, popJ_eq, popJJ_eq, popR_eq, popRR_eq, popV_eq, popVV_eq, popA_eq, popIA_eq, popIIA_eq, popRA_eq, popRIA_eq, getI, getJ, getR, lget_0, lget_s, nlAt, cat1, wsum, List.set_cons_zero, List.set_cons_succ, List.take_succ_cons, List.take_zero, List.drop_succ_cons, List.drop_zero, List.reverse_cons, List.reverse_nil, List.nil_append, List.cons_append, List.length_cons, List.length_nil, true_and, and_true, and_self, ne_eq, not_false_eq_true, not_true_eq_false, Classical.not_not, false_or, or_false, true_or, or_true, imp_self, forall_const, forall_eq, implies_true, true_implies, false_implies, Nat.reduceAdd, Nat.reduceLeDiff, Nat.reduceEqDiff, Nat.reduceSub, Int.reduceNeg, Int.reduceEq, Int.reduceLT, Int.reduceLE, Int.reduceNe, Int.reduceAdd, Int.reduceSub, Nat.le_refl, Nat.zero_le, reduceCtorEq, Option.some.injEq, w32_i, MSk_t106 hM, MSk_p0 hM, MSk_t107 hM, MSk_n107 hM, MSk_p1 hM, MSk_t108 hM, MSk_n108 hM, MSk_p2 hM, MSk_t109 hM, MSk_n109 hM, MSk_p3 hM, MSk_t110 hM, MSk_n110 hM, MSk_p4 hM, MSk_t111 hM, MSk_n111 hM, MSk_p5 hM, MSk_t112 hM, MSk_n112 hM, MSk_p13 hM, MSk_t113 hM, MSk_n113 hM, MSk_p14 hM, MSk_t114 hM, MSk_n114 hM, MSk_p15 hM, MSk_t115 hM, MSk_n115 hM, MSk_p16 hM, MSk_t116 hM, MSk_n116 hM, MSk_p18 hM, MSk_t117 hM, MSk_n117 hM, MSk_p20 hM, MSk_t118 hM, MSk_n118 hM, MSk_p21 hM, MSk_t119 hM, MSk_n119 hM, MSk_p22 hM, MSk_t120 hM, MSk_n120 hM, hM, im_p_X6_in]
  exact ⟨fun _ => n, fun h => absurd h (by omega)⟩
theorem b_X6_readNumberF {d : Nat} {Rq : SmQ} {S : SmS} {I : SmI} {a b c : Int} (hM : MSk S) (hf : 0 < I 106 11) (hR : Rq (.inl (some (vI 0))) S I) : SW mi_X6_readNumber 0 (d + 2) Rq [some (vR (some 106)), some (vI a), some (vI b), some (vI c), none] [] S I := by
  have n := rn_25F (d := d) (a := a) (b := b) (c := c) hM hf hR
  have n0 : I 106 11 ≠ 0 := by omega
  refine rv_X6_readNumber_0 ?_
  simp (disch := omega) only [tr_X6_readNumber_0, im_ic, im_lc, im_nul, im_iload, im_lload, im_aload, im_istore, im_astore, im_lstore, im_iinc, im_iadd, im_isub, im_imul, im_iand, im_ior, im_ishl, im_ishr, im_iushr, im_idiv, im_irem, im_ineg, im_i2l, im_l2i, im_i2b, im_i2s, im_ladd, im_lcmp, im_dup, im_pop, im_dup_x1, im_dup2, im_ceq, im_cne, im_clt, im_cge, im_cgt, im_cle, im_zeq, im_zne, im_zlt, im_zge, im_zgt, im_zle, im_ifnull, im_ifnn, im_acmpeq, im_acmpne, im_getI, im_getR, im_putI, im_putZ, im_putR, im_ald, im_iast, im_bast, im_sast, im_zast, im_aald, im_alen, im_new, im_newa, im_newq, im_tsw, im_lsw, tswA, lswA, im_callS_eq, im_callV_eq, chk_i, chk_T, dOk_i, tf_0, tf_n0, tf_1, tf_01, tf_F, tf_T, tf_em, tf_me, ↓reduceIte, Int.zero_add, Int.add_zero, Int.one_mul, Int.mul_one, Int.ediv_one, Int.sub_zero, im_ireturn, im_zreturn, im_areturn, im_return, im_objinit, popI_eq, popII_eq, popJ_eq, popJJ_eq, popR_eq, popRR_eq, popV_eq, popVV_eq, popA_eq, popIA_eq, popIIA_eq, popRA_eq, popRIA_eq, getI, getJ, getR, lget_0, lget_s, nlAt, cat1, wsum, List.set_cons_zero, List.set_cons_succ, List.take_succ_cons, List.take_zero, List.drop_succ_cons, List.drop_zero, List.reverse_cons, List.reverse_nil, List.nil_append, List.cons_append, List.length_cons, List.length_nil, true_and, and_true, and_self, ne_eq, not_false_eq_true, not_true_eq_false, Classical.not_not, false_or, or_false, true_or, or_true, imp_self, forall_const, forall_eq, implies_true, true_implies, false_implies, Nat.reduceAdd, Nat.reduceLeDiff, Nat.reduceEqDiff, Nat.reduceSub, Int.reduceNeg, Int.reduceEq, Int.reduceLT, Int.reduceLE, Int.reduceNe, Int.reduceAdd, Int.reduceSub, Nat.le_refl, Nat.zero_le, reduceCtorEq, Option.some.injEq, w32_i, MSk_t106 hM, MSk_p0 hM, MSk_t107 hM, MSk_n107 hM, MSk_p1 hM, MSk_t108 hM, MSk_n108 hM, MSk_p2 hM, MSk_t109 hM, MSk_n109 hM, MSk_p3 hM, MSk_t110 hM, MSk_n110 hM, MSk_p4 hM, MSk_t111 hM, MSk_n111 hM, MSk_p5 hM, MSk_t112 hM, MSk_n112 hM, MSk_p13 hM, MSk_t113 hM, MSk_n113 hM, MSk_p14 hM, MSk_t114 hM, MSk_n114 hM, MSk_p15 hM, MSk_t115 hM, MSk_n115 hM, MSk_p16 hM, MSk_t116 hM, MSk_n116 hM, MSk_p18 hM, MSk_t117 hM, MSk_n117 hM, MSk_p20 hM, MSk_t118 hM, MSk_n118 hM, MSk_p21 hM, MSk_t119 hM, MSk_n119 hM, MSk_p22 hM, MSk_t120 hM, MSk_n120 hM, n0]
  exact n
theorem c_X6_readNumberF {d : Nat} {Rq : SmQ} {S : SmS} {I : SmI} {a b c : Int} (hM : MSk S) (hf : 0 < I 106 11) (hR : Rq (.inl (some (vI 0))) S I) : SC mi_X6_readNumber (d + 2) [vR (some 106), vI a, vI b, vI c] S I Rq := SC_of0 (Nat.le_of_ble_eq_true rfl) (b_X6_readNumberF (S := sBud S 0 0) hM hf hR)
theorem rn_74 {d : Nat} {Rq : SmQ} {S : SmS} {I : SmI} {a b c : Int} (hM : MSk S) (h6 : I 106 6 ≤ 160) (h7 : 0 ≤ I 106 7 ∧ I 106 7 ≤ I 106 6) (hf : I 106 11 = 0) (hR : ∀ I' : SmI, lxR I I' → Rq (.inl (some (vI (I 106 10)))) S I') : SW mi_X6_readNumber 74 (d + 2) Rq [some (vR (some 106)), some (vI a), some (vI b), some (vI c), none] [] S I := by
  refine rv_X6_readNumber_74 ?_
  simp +contextual (disch := omega) only [tr_X6_readNumber_74, im_ic, im_lc, im_nul, im_iload, im_lload, im_aload, im_istore, im_astore, im_lstore, im_iinc, im_iadd, im_isub, im_imul, im_iand, im_ior, im_ishl, im_ishr, im_iushr, im_idiv, im_irem, im_ineg, im_i2l, im_l2i, im_i2b, im_i2s, im_ladd, im_lcmp, im_dup, im_pop, im_dup_x1, im_dup2, im_ceq, im_cne, im_clt, im_cge, im_cgt, im_cle, im_zeq, im_zne, im_zlt, im_zge, im_zgt, im_zle, im_ifnull, im_ifnn, im_acmpeq, im_acmpne, im_getI, im_getR, im_putI, im_putZ, im_putR, im_ald, im_iast, im_bast, im_sast, im_zast, im_aald, im_alen, im_new, im_newa, im_newq, im_tsw, im_lsw, tswA, lswA, im_callS_eq, im_callV_eq, chk_i, chk_T, dOk_i, tf_0, tf_n0, tf_1, tf_01, tf_F, tf_T, tf_em, tf_me, ↓reduceIte, Int.zero_add, Int.add_zero, Int.one_mul, Int.mul_one, Int.ediv_one, Int.sub_zero, im_ireturn, im_zreturn, im_areturn, im_return, im_objinit, popI_eq, popII_eq, popJ_eq, popJJ_eq, popR_eq, popRR_eq, popV_eq, popVV_eq, popA_eq, popIA_eq, popIIA_eq, popRA_eq, popRIA_eq, getI, getJ, getR, lget_0, lget_s, nlAt, cat1, wsum, List.set_cons_zero, List.set_cons_succ, List.take_succ_cons, List.take_zero, List.drop_succ_cons, List.drop_zero, List.reverse_cons, List.reverse_nil, List.nil_append, List.cons_append, List.length_cons, List.length_nil, true_and, and_true, and_self, ne_eq, not_false_eq_true, not_true_eq_false, Classical.not_not, false_or, or_false, true_or, or_true, imp_self, forall_const, forall_eq, implies_true, true_implies, false_implies, Nat.reduceAdd, Nat.reduceLeDiff, Nat.reduceEqDiff, Nat.reduceSub, Int.reduceNeg, Int.reduceEq, Int.reduceLT, Int.reduceLE, Int.reduceNe, Int.reduceAdd, Int.reduceSub, Nat.le_refl, Nat.zero_le, reduceCtorEq, Option.some.injEq, w32_i, MSk_t106 hM, MSk_p0 hM, MSk_t107 hM, MSk_n107 hM, MSk_p1 hM, MSk_t108 hM, MSk_n108 hM, MSk_p2 hM, MSk_t109 hM, MSk_n109 hM, MSk_p3 hM, MSk_t110 hM, MSk_n110 hM, MSk_p4 hM, MSk_t111 hM, MSk_n111 hM, MSk_p5 hM, MSk_t112 hM, MSk_n112 hM, MSk_p13 hM, MSk_t113 hM, MSk_n113 hM, MSk_p14 hM, MSk_t114 hM, MSk_n114 hM, MSk_p15 hM, MSk_t115 hM, MSk_n115 hM, MSk_p16 hM, MSk_t116 hM, MSk_n116 hM, MSk_p18 hM, MSk_t117 hM, MSk_n117 hM, MSk_p20 hM, MSk_t118 hM, MSk_n118 hM, MSk_p21 hM, MSk_t119 hM, MSk_n119 hM, MSk_p22 hM, MSk_t120 hM, MSk_n120 hM, hf]
  refine c_X6_reads hM h7.1 h7.2 h6 hf (fun I' h => ?_)
  rw [retK_n]
  exact rn_95 (hR I' h)
theorem rn_49 {d : Nat} {Rq : SmQ} {S : SmS} {I : SmI} {a b c : Int} (hM : MSk S) (hf : I 106 11 = 0) (n1 : I 106 10 = c → SW mi_X6_readNumber 74 (d + 2) Rq [some (vR (some 106)), some (vI a), some (vI b), some (vI c), none] [] S (iSet (iSet I 106 11 4) 106 12 (I 106 8))) (n2 : I 106 10 ≠ c → SW mi_X6_readNumber 74 (d + 2) Rq [some (vR (some 106)), some (vI a), some (vI b), some (vI c), none] [] S I) : SW mi_X6_readNumber 49 (d + 2) Rq [some (vR (some 106)), some (vI a), some (vI b), some (vI c), none] [] S I := by
  refine rv_X6_readNumber_49 ?_
  simp +contextual (disch := omega) only [tr_X6_readNumber_49, im_ic, im_lc, im_nul, im_iload, im_lload, im_aload, im_istore, im_astore, im_lstore, im_iinc, im_iadd, im_isub, im_imul, im_iand, im_ior, im_ishl, im_ishr, im_iushr, im_idiv, im_irem, im_ineg, im_i2l, im_l2i, im_i2b, im_i2s, im_ladd, im_lcmp, im_dup, im_pop, im_dup_x1, im_dup2, im_ceq, im_cne, im_clt, im_cge, im_cgt, im_cle, im_zeq, im_zne, im_zlt, im_zge, im_zgt, im_zle, im_ifnull, im_ifnn, im_acmpeq, im_acmpne, im_getI, im_getR, im_putI, im_putZ, im_putR, im_ald, im_iast, im_bast, im_sast, im_zast, im_aald, im_alen, im_new, im_newa, im_newq, im_tsw, im_lsw, tswA, lswA, im_callS_eq, im_callV_eq, chk_i, chk_T, dOk_i, tf_0, tf_n0, tf_1, tf_01, tf_F, tf_T, tf_em, tf_me, ↓reduceIte, Int.zero_add, Int.add_zero, Int.one_mul, Int.mul_one, Int.ediv_one, Int.sub_zero, im_ireturn, im_zreturn, im_areturn, im_return, im_objinit, popI_eq, popII_eq, popJ_eq, popJJ_eq, popR_eq, popRR_eq, popV_eq, popVV_eq, popA_eq, popIA_eq, popIIA_eq, popRA_eq, popRIA_eq, getI, getJ, getR, lget_0, lget_s, nlAt, cat1, wsum, List.set_cons_zero, List.set_cons_succ, List.take_succ_cons, List.take_zero, List.drop_succ_cons, List.drop_zero, List.reverse_cons, List.reverse_nil, List.nil_append, List.cons_append, List.length_cons, List.length_nil, true_and, and_true, and_self, ne_eq, not_false_eq_true, not_true_eq_false, Classical.not_not, false_or, or_false, true_or, or_true, imp_self, forall_const, forall_eq, implies_true, true_implies, false_implies, Nat.reduceAdd, Nat.reduceLeDiff, Nat.reduceEqDiff, Nat.reduceSub, Int.reduceNeg, Int.reduceEq, Int.reduceLT, Int.reduceLE, Int.reduceNe, Int.reduceAdd, Int.reduceSub, Nat.le_refl, Nat.zero_le, reduceCtorEq, Option.some.injEq, w32_i, MSk_t106 hM, MSk_p0 hM, MSk_t107 hM, MSk_n107 hM, MSk_p1 hM, MSk_t108 hM, MSk_n108 hM, MSk_p2 hM, MSk_t109 hM, MSk_n109 hM, MSk_p3 hM, MSk_t110 hM, MSk_n110 hM, MSk_p4 hM, MSk_t111 hM, MSk_n111 hM, MSk_p5 hM, MSk_t112 hM, MSk_n112 hM, MSk_p13 hM, MSk_t113 hM, MSk_n113 hM, MSk_p14 hM, MSk_t114 hM, MSk_n114 hM, MSk_p15 hM, MSk_t115 hM, MSk_n115 hM, MSk_p16 hM, MSk_t116 hM, MSk_n116 hM, MSk_p18 hM, MSk_t117 hM, MSk_n117 hM, MSk_p20 hM, MSk_t118 hM, MSk_n118 hM, MSk_p21 hM, MSk_t119 hM, MSk_n119 hM, MSk_p22 hM, MSk_t120 hM, MSk_n120 hM, hf]
  refine ⟨fun h => ?_, fun h => ?_⟩
  · refine c_X6_requires hM (fun w => absurd w (by rw [hf]; omega)) (fun _ _ => ?_)
    rw [retK_n]
    exact n1 h
  · refine c_X6_requires hM (fun _ => ?_) (fun w => absurd w (by omega))
    rw [retK_n]
    exact n2 h
theorem rn_25 {d : Nat} {Rq : SmQ} {S : SmS} {I : SmI} {a b c : Int} (hM : MSk S) (hf : I 106 11 = 0) (n1 : ¬ (a ≤ I 106 10 ∧ I 106 10 ≤ b) → SW mi_X6_readNumber 49 (d + 2) Rq [some (vR (some 106)), some (vI a), some (vI b), some (vI c), none] [] S (iSet (iSet I 106 11 3) 106 12 (I 106 8))) (n2 : (a ≤ I 106 10 ∧ I 106 10 ≤ b) → SW mi_X6_readNumber 49 (d + 2) Rq [some (vR (some 106)), some (vI a), some (vI b), some (vI c), none] [] S I) : SW mi_X6_readNumber 25 (d + 2) Rq [some (vR (some 106)), some (vI a), some (vI b), some (vI c), none] [] S I := by
  refine rv_X6_readNumber_25 ?_
  simp +contextual (disch := omega) only [tr_X6_readNumber_25, im_ic, im_lc, im_nul, im_iload, im_lload, im_aload, im_istore, im_astore, im_lstore, im_iinc, im_iadd, im_isub, im_imul, im_iand, im_ior, im_ishl, im_ishr, im_iushr, im_idiv, im_irem, im_ineg, im_i2l, im_l2i, im_i2b, im_i2s, im_ladd, im_lcmp, im_dup, im_pop, im_dup_x1, im_dup2, im_ceq, im_cne, im_clt, im_cge, im_cgt, im_cle, im_zeq, im_zne, im_zlt, im_zge, im_zgt, im_zle, im_ifnull, im_ifnn, im_acmpeq, im_acmpne, im_getI, im_getR, im_putI, im_putZ, im_putR, im_ald, im_iast, im_bast, im_sast, im_zast, im_aald, im_alen, im_new, im_newa, im_newq, im_tsw, im_lsw, tswA, lswA, im_callS_eq, im_callV_eq, chk_i, chk_T, dOk_i, tf_0, tf_n0, tf_1, tf_01, tf_F, tf_T, tf_em, tf_me, ↓reduceIte, Int.zero_add, Int.add_zero, Int.one_mul, Int.mul_one, Int.ediv_one, Int.sub_zero, im_ireturn, im_zreturn, im_areturn, im_return, im_objinit, popI_eq, popII_eq, popJ_eq, popJJ_eq, popR_eq, popRR_eq, popV_eq, popVV_eq, popA_eq, popIA_eq, popIIA_eq, popRA_eq, popRIA_eq, getI, getJ, getR, lget_0, lget_s, nlAt, cat1, wsum, List.set_cons_zero, List.set_cons_succ, List.take_succ_cons, List.take_zero, List.drop_succ_cons, List.drop_zero, List.reverse_cons, List.reverse_nil, List.nil_append, List.cons_append, List.length_cons, List.length_nil, true_and, and_true, and_self, ne_eq, not_false_eq_true, not_true_eq_false, Classical.not_not, false_or, or_false, true_or, or_true, imp_self, forall_const, forall_eq, implies_true, true_implies, false_implies, Nat.reduceAdd, Nat.reduceLeDiff, Nat.reduceEqDiff, Nat.reduceSub, Int.reduceNeg, Int.reduceEq, Int.reduceLT, Int.reduceLE, Int.reduceNe, Int.reduceAdd, Int.reduceSub, Nat.le_refl, Nat.zero_le, reduceCtorEq, Option.some.injEq, w32_i, MSk_t106 hM, MSk_p0 hM, MSk_t107 hM, MSk_n107 hM, MSk_p1 hM, MSk_t108 hM, MSk_n108 hM, MSk_p2 hM, MSk_t109 hM, MSk_n109 hM, MSk_p3 hM, MSk_t110 hM, MSk_n110 hM, MSk_p4 hM, MSk_t111 hM, MSk_n111 hM, MSk_p5 hM, MSk_t112 hM, MSk_n112 hM, MSk_p13 hM, MSk_t113 hM, MSk_n113 hM, MSk_p14 hM, MSk_t114 hM, MSk_n114 hM, MSk_p15 hM, MSk_t115 hM, MSk_n115 hM, MSk_p16 hM, MSk_t116 hM, MSk_n116 hM, MSk_p18 hM, MSk_t117 hM, MSk_n117 hM, MSk_p20 hM, MSk_t118 hM, MSk_n118 hM, MSk_p21 hM, MSk_t119 hM, MSk_n119 hM, MSk_p22 hM, MSk_t120 hM, MSk_n120 hM, hM, hf, im_p_X6_in]
  refine c_X6_requires hM (fun w => ?_) (fun w _ => ?_)
  · rw [retK_n]
    exact n2 (tf_n0.mp (w.resolve_right (fun y => y hf)))
  · rw [retK_n]
    exact n1 (tf_0.mp w)
theorem rn_0 {d : Nat} {Rq : SmQ} {S : SmS} {I : SmI} {a b c : Int} (hM : MSk S) (hf : I 106 11 = 0) (n1 : I 106 9 ≠ 2 → SW mi_X6_readNumber 25 (d + 2) Rq [some (vR (some 106)), some (vI a), some (vI b), some (vI c), none] [] S (iSet (iSet I 106 11 2) 106 12 (I 106 8))) (n2 : I 106 9 = 2 → SW mi_X6_readNumber 25 (d + 2) Rq [some (vR (some 106)), some (vI a), some (vI b), some (vI c), none] [] S I) : SW mi_X6_readNumber 0 (d + 2) Rq [some (vR (some 106)), some (vI a), some (vI b), some (vI c), none] [] S I := by
  refine rv_X6_readNumber_0 ?_
  simp +contextual (disch := omega) only [tr_X6_readNumber_0, im_ic, im_lc, im_nul, im_iload, im_lload, im_aload, im_istore, im_astore, im_lstore, im_iinc, im_iadd, im_isub, im_imul, im_iand, im_ior, im_ishl, im_ishr, im_iushr, im_idiv, im_irem, im_ineg, im_i2l, im_l2i, im_i2b, im_i2s, im_ladd, im_lcmp, im_dup, im_pop, im_dup_x1, im_dup2, im_ceq, im_cne, im_clt, im_cge, im_cgt, im_cle, im_zeq, im_zne, im_zlt, im_zge, im_zgt, im_zle, im_ifnull, im_ifnn, im_acmpeq, im_acmpne, im_getI, im_getR, im_putI, im_putZ, im_putR, im_ald, im_iast, im_bast, im_sast, im_zast, im_aald, im_alen, im_new, im_newa, im_newq, im_tsw, im_lsw, tswA, lswA, im_callS_eq, im_callV_eq, chk_i, chk_T, dOk_i, tf_0, tf_n0, tf_1, tf_01, tf_F, tf_T, tf_em, tf_me, ↓reduceIte, Int.zero_add, Int.add_zero, Int.one_mul, Int.mul_one, Int.ediv_one, Int.sub_zero, im_ireturn, im_zreturn, im_areturn, im_return, im_objinit, popI_eq, popII_eq, popJ_eq, popJJ_eq, popR_eq, popRR_eq, popV_eq, popVV_eq, popA_eq, popIA_eq, popIIA_eq, popRA_eq, popRIA_eq, getI, getJ, getR, lget_0, lget_s, nlAt, cat1, wsum, List.set_cons_zero, List.set_cons_succ, List.take_succ_cons, List.take_zero, List.drop_succ_cons, List.drop_zero, List.reverse_cons, List.reverse_nil, List.nil_append, List.cons_append, List.length_cons, List.length_nil, true_and, and_true, and_self, ne_eq, not_false_eq_true, not_true_eq_false, Classical.not_not, false_or, or_false, true_or, or_true, imp_self, forall_const, forall_eq, implies_true, true_implies, false_implies, Nat.reduceAdd, Nat.reduceLeDiff, Nat.reduceEqDiff, Nat.reduceSub, Int.reduceNeg, Int.reduceEq, Int.reduceLT, Int.reduceLE, Int.reduceNe, Int.reduceAdd, Int.reduceSub, Nat.le_refl, Nat.zero_le, reduceCtorEq, Option.some.injEq, w32_i, MSk_t106 hM, MSk_p0 hM, MSk_t107 hM, MSk_n107 hM, MSk_p1 hM, MSk_t108 hM, MSk_n108 hM, MSk_p2 hM, MSk_t109 hM, MSk_n109 hM, MSk_p3 hM, MSk_t110 hM, MSk_n110 hM, MSk_p4 hM, MSk_t111 hM, MSk_n111 hM, MSk_p5 hM, MSk_t112 hM, MSk_n112 hM, MSk_p13 hM, MSk_t113 hM, MSk_n113 hM, MSk_p14 hM, MSk_t114 hM, MSk_n114 hM, MSk_p15 hM, MSk_t115 hM, MSk_n115 hM, MSk_p16 hM, MSk_t116 hM, MSk_n116 hM, MSk_p18 hM, MSk_t117 hM, MSk_n117 hM, MSk_p20 hM, MSk_t118 hM, MSk_n118 hM, MSk_p21 hM, MSk_t119 hM, MSk_n119 hM, MSk_p22 hM, MSk_t120 hM, MSk_n120 hM, hf]
  refine ⟨fun h => ?_, fun h => ?_⟩
  · refine c_X6_requires hM (fun w => absurd w (by rw [hf]; omega)) (fun _ _ => ?_)
    rw [retK_n]
    exact n1 h
  · refine c_X6_requires hM (fun _ => ?_) (fun w => absurd w (by omega))
    rw [retK_n]
    exact n2 h
theorem b_X6_readNumber {d : Nat} {Rq : SmQ} {S : SmS} {I : SmI} {a b c q : Int} (hM : MSk S) (h6 : I 106 6 ≤ 160) (ht : tkS I q) (hR : ∀ (I' : SmI) (v : Int), tkO I I' (nmT (I 112) (I 106 6) a b c q) → ((nmT (I 112) (I 106 6) a b c q).1 = 0 → v = lxF (I 112) (I 106 6) q) → (0 ≤ v ∧ v ≤ 99) → Rq (.inl (some (vI v))) S I') : SW mi_X6_readNumber 0 (d + 2) Rq [some (vR (some 106)), some (vI a), some (vI b), some (vI c), none] [] S I := by
  have ht' := ht
  obtain ⟨t0, t7, t8, t9, t10, t11⟩ := ht
  have li := lx_in (T := I 112) t0.1 t0.2
  have bad : ∀ e : Int, 0 < e → nmT (I 112) (I 106 6) a b c q = (e, lxB (I 112) (I 106 6) q) → Rq (.inl (some (vI 0))) S (iSet (iSet I 106 11 e) 106 12 (I 106 8)) := fun e he h => by
    rw [h] at hR
    exact hR _ 0 ⟨frT_set (frT_set frT_refl (by omega) (by omega)) (by omega) (by omega), fun z => absurd (show e = 0 from z) (by omega), fun _ => ⟨by rw [iSet_k (by omega), iSet_eq], by rw [iSet_eq, t8]⟩⟩ (fun z => absurd (show e = 0 from z) (by omega)) (by omega)
  have f11 : ∀ e : Int, 0 < e → 0 < iSet (iSet I 106 11 e) 106 12 (I 106 8) 106 11 := fun e he => by rw [iSet_k (by omega), iSet_eq]; exact he
  refine rn_0 hM t11 (fun h => ?_) (fun h => ?_)
  · exact rn_25F hM (f11 2 (by omega)) (bad 2 (by omega) (by unfold nmT; rw [if_pos (by rw [← t9]; exact h)]))
  · rw [t9] at h
    have h10 := t10 h
    refine rn_25 hM t11 (fun h2 => ?_) (fun h2 => ?_)
    · exact rn_49F hM (f11 3 (by omega)) (bad 3 (by omega) (by unfold nmT; rw [if_neg (fun z => z h), if_pos (by rw [← h10]; exact h2)]))
    · refine rn_49 hM t11 (fun h3 => ?_) (fun h3 => ?_)
      · exact rn_74F hM (f11 4 (by omega)) (bad 4 (by omega) (by unfold nmT; rw [if_neg (fun z => z h), if_neg (fun z => z (by rw [← h10]; exact h2)), if_pos (by rw [← h10]; exact h3)]))
      · have e : nmT (I 112) (I 106 6) a b c q = nxT (I 112) (I 106 6) q := by unfold nmT; rw [if_neg (fun z => z h), if_neg (fun z => z (by rw [← h10]; exact h2)), if_neg (by rw [← h10]; exact h3)]
        rw [e] at hR
        refine rn_74 hM h6 (by rw [t7]; omega) t11 (fun I' hx => ?_)
        exact hR I' (I 106 10) (lxR_O ht' frT_refl rfl hx) (fun _ => h10) (by rw [h10]; exact li.2.2 h)
theorem c_X6_readNumber {d : Nat} {Rq : SmQ} {S : SmS} {I : SmI} {a b c q : Int} (hM : MSk S) (h6 : I 106 6 ≤ 160) (ht : tkS I q) (hR : ∀ (I' : SmI) (v : Int), tkO I I' (nmT (I 112) (I 106 6) a b c q) → ((nmT (I 112) (I 106 6) a b c q).1 = 0 → v = lxF (I 112) (I 106 6) q) → (0 ≤ v ∧ v ≤ 99) → Rq (.inl (some (vI v))) S I') : SC mi_X6_readNumber (d + 2) [vR (some 106), vI a, vI b, vI c] S I Rq := SC_of0 (Nat.le_of_ble_eq_true rfl) (b_X6_readNumber (S := sBud S 0 0) hM h6 ht hR)