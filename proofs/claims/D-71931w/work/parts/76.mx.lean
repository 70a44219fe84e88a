/-! the whole text, by the model -/
set_option maxRecDepth 100000
/-- lines one by one, to the end or a fault -/
def lnR (T : Int → Int) (n : Int) : Nat → (Int × Int) → (Int → Int) → (Int × Int) → (Int → Int) → Prop
  | 0, o, D, o', D' => o' = o ∧ (o.1 = 0 → D' = D ∧ lxS T n o.2 = 0)
  | k + 1, o, D, o', D' => (o.1 = 0 ∧ lxS T n o.2 ≠ 0) ∧ ((0 ≤ D 0 ∧ D 0 ≤ 6) ∧ 0 ≤ D 1 ∧ D 1 ≤ 4) ∧ lnR T n k (lineT T n D o.2) (bodD T n D (lnT T n o.2) (headT T n D o.2)) o' D'
def nwR (r D : Int → Int) : Int → Int := fun c => if 0 ≤ c ∧ c < 238 then D c else r c
/-- what is wrong with a whole line that was read: 6 7 8, 0 nothing -/
noncomputable def whT (r : Int → Int) : Int := by
  classical exact if ¬ allTo (fun t => r (34 + 6 * t) < r 0 ∧ r (34 + 6 * t + 1) < r 0) (r 1).toNat then 6 else if ¬ hldA (rS r) then 7 else if ¬ SF r then 8 else 0
theorem tx_0 {d : Nat} {Rq : SmQ} {S : SmS} {I : SmI} (hM : MSk S) (nx : ∀ I' : SmI, frD I I' → I' 106 7 = 0 → I' 106 11 = 0 → (∀ c : Int, I' 108 c = if 0 ≤ c ∧ c < 238 then 0 else I 108 c) → SC mi_X6_reads (d + 5) [vR (some 106)] S I' (retK mi_X6_text 35 38 (d + 6) Rq [some (vR (some 106)), some (vI 0), some (vI 238)] [])) : SW mi_X6_text 0 (d + 6) Rq [some (vR (some 106)), none, none] [] S I := by
  have b0 : frD I (iSet (iSet I 106 11 0) 106 7 0) := ⟨fun b a _ => by rw [iSet_ne a, iSet_ne a], fun k hk => by rw [iSet_k (by omega), iSet_k (by omega)]⟩
  have l := loop_up (P := fun (i : Nat) => ∀ I' : SmI, frD I I' → I' 106 7 = 0 → I' 106 11 = 0 → (∀ c : Int, I' 108 c = if 0 ≤ c ∧ c < i then 0 else I 108 c) → SW mi_X6_text 14 (d + 6) Rq [some (vR (some 106)), some (vI 0), some (vI i)] [] S I') (n := 238) ?_ ?_
  · refine rv_X6_text_0 ?_
    simp +contextual (disch := omega) only [tr_X6_text_0, im_ic, im_lc, im_nul, im_iload, im_lload, im_aload, im_istore, im_astore, im_lstore, im_iinc, im_iadd, im_isub, im_imul, im_iand, im_ior, im_ishl, im_ishr, im_iushr, im_idiv, im_irem, im_ineg, im_i2l, im_l2i, im_i2b, im_i2s, im_ladd, im_lcmp, im_dup, im_pop, im_dup_x1, im_dup2, im_ceq, im_cne, im_clt, im_cge, im_cgt, im_cle, im_zeq, im_zne, im_zlt, im_zge, im_zgt, im_zle, im_ifnull, im_ifnn, im_acmpeq, im_acmpne, im_getI, im_getR, im_putI, im_putZ, im_putR, im_ald, im_iast, im_bast, im_sast, im_zast, im_aald, im_alen, im_new, im_newa, im_newq, im_tsw, im_lsw, tswA, lswA, im_callS_eq, im_callV_eq, chk_i, chk_T, dOk_i, tf_0, tf_n0, tf_1, tf_01, tf_F, tf_T, tf_em, tf_me, ↓reduceIte, Int.zero_add, Int.add_zero, Int.one_mul, Int.mul_one, Int.ediv_one, Int.sub_zero, im_ireturn, im_zreturn, im_areturn, im_return, im_objinit, popI_eq, popII_eq, popJ_eq, popJJ_eq, popR_eq, popRR_eq, popV_eq, popVV_eq, popA_eq, popIA_eq, popIIA_eq, popRA_eq, popRIA_eq, getI, getJ, getR, lget_0, lget_s, nlAt, cat1, wsum, List.set_cons_zero, List.set_cons_succ, List.take_succ_cons, List.take_zero, List.drop_succ_cons, List.drop_zero, List.reverse_cons, List.reverse_nil, List.nil_append, List.cons_append, List.length_cons, List.length_nil, true_and, and_true, and_self, ne_eq, not_false_eq_true, not_true_eq_false, Classical.not_not, false_or, or_false, true_or, or_true, imp_self, forall_const, forall_eq, implies_true, true_implies, false_implies, Nat.reduceAdd, Nat.reduceLeDiff, Nat.reduceEqDiff, Nat.reduceSub, Int.reduceNeg, Int.reduceEq, Int.reduceLT, Int.reduceLE, Int.reduceNe, Int.reduceAdd, Int.reduceSub, Nat.le_refl, Nat.zero_le, reduceCtorEq, Option.some.injEq, w32_i, MSk_t106 hM, MSk_p0 hM, MSk_t107 hM, MSk_n107 hM, MSk_p1 hM, MSk_t108 hM, MSk_n108 hM, MSk_p2 hM, MSk_t109 hM, MSk_n109 hM, MSk_p3 hM, MSk_t110 hM, MSk_n110 hM, MSk_p4 hM, MSk_t111 hM, MSk_n111 hM, MSk_p5 hM, MSk_t112 hM, MSk_n112 hM, MSk_p13 hM, MSk_t113 hM, MSk_n113 hM, MSk_p14 hM, MSk_t114 hM, MSk_n114 hM, MSk_p15 hM, MSk_t115 hM, MSk_n115 hM, MSk_p16 hM, MSk_t116 hM, MSk_n116 hM, MSk_p18 hM, MSk_t117 hM, MSk_n117 hM, MSk_p20 hM, MSk_t118 hM, MSk_n118 hM, MSk_p21 hM, MSk_t119 hM, MSk_n119 hM, MSk_p22 hM, MSk_t120 hM, MSk_n120 hM]
    exact l _ b0 iSet_eq (by rw [iSet_k (by omega), iSet_eq]) (fun c => by rw [if_neg (by omega), iSet_ne (by decide), iSet_ne (by decide)])
  · intro I' g1 g2 g3 g4
    have n := nx I' g1 g2 g3 g4
    refine rv_X6_text_14 ?_
    simp +contextual (disch := omega) only [tr_X6_text_14, im_ic, im_lc, im_nul, im_iload, im_lload, im_aload, im_istore, im_astore, im_lstore, im_iinc, im_iadd, im_isub, im_imul, im_iand, im_ior, im_ishl, im_ishr, im_iushr, im_idiv, im_irem, im_ineg, im_i2l, im_l2i, im_i2b, im_i2s, im_ladd, im_lcmp, im_dup, im_pop, im_dup_x1, im_dup2, im_ceq, im_cne, im_clt, im_cge, im_cgt, im_cle, im_zeq, im_zne, im_zlt, im_zge, im_zgt, im_zle, im_ifnull, im_ifnn, im_acmpeq, im_acmpne, im_getI, im_getR, im_putI, im_putZ, im_putR, im_ald, im_iast, im_bast, im_sast, im_zast, im_aald, im_alen, im_new, im_newa, im_newq, im_tsw, im_lsw, tswA, lswA, im_callS_eq, im_callV_eq, chk_i, chk_T, dOk_i, tf_0, tf_n0, tf_1, tf_01, tf_F, tf_T, tf_em, tf_me, ↓reduceIte, Int.zero_add, Int.add_zero, Int.one_mul, Int.mul_one, Int.ediv_one, Int.sub_zero, im_ireturn, im_zreturn, im_areturn, im_return, im_objinit, popI_eq, popII_eq, popJ_eq, popJJ_eq, popR_eq, popRR_eq, popV_eq, popVV_eq, popA_eq, popIA_eq, popIIA_eq, popRA_eq, popRIA_eq, getI, getJ, getR, lget_0, lget_s, nlAt, cat1, wsum, List.set_cons_zero, List.set_cons_succ, List.take_succ_cons, List.take_zero, List.drop_succ_cons, List.drop_zero, List.reverse_cons, List.reverse_nil, List.nil_append, List.cons_append, List.length_cons, List.length_nil, true_and, and_true, and_self, ne_eq, not_false_eq_true, not_true_eq_false, Classical.not_not, false_or, or_false, true_or, or_true, imp_self, forall_const, forall_eq, implies_true, true_implies, false_implies, Nat.reduceAdd, Nat.reduceLeDiff, Nat.reduceEqDiff, Nat.reduceSub, Int.reduceNeg, Int.reduceEq, Int.reduceLT, Int.reduceLE, Int.reduceNe, Int.reduceAdd, Int.reduceSub, Nat.le_refl, Nat.zero_le, reduceCtorEq, Option.some.injEq, w32_i, MSk_t106 hM, MSk_p0 hM, MSk_t107 hM, MSk_n107 hM, MSk_p1 hM, MSk_t108 hM, MSk_n108 hM, MSk_p2 hM, MSk_t109 hM, MSk_n109 hM, MSk_p3 hM, MSk_t110 hM, MSk_n110 hM, MSk_p4 hM, MSk_t111 hM, MSk_n111 hM, MSk_p5 hM, MSk_t112 hM, MSk_n112 hM, MSk_p13 hM, MSk_t113 hM, MSk_n113 hM, MSk_p14 hM, MSk_t114 hM, MSk_n114 hM, MSk_p15 hM, MSk_t115 hM, MSk_n115 hM, MSk_p16 hM, MSk_t116 hM, MSk_n116 hM, MSk_p18 hM, MSk_t117 hM, MSk_n117 hM, MSk_p20 hM, MSk_t118 hM, MSk_n118 hM, MSk_p21 hM, MSk_t119 hM, MSk_n119 hM, MSk_p22 hM, MSk_t120 hM, MSk_n120 hM]
    exact ⟨fun _ => n, fun h => absurd (Int.le_refl _) h⟩
  · intro i hi ih I' g1 g2 g3 g4
    refine rv_X6_text_14 ?_
    simp +contextual (disch := omega) only [tr_X6_text_14, im_ic, im_lc, im_nul, im_iload, im_lload, im_aload, im_istore, im_astore, im_lstore, im_iinc, im_iadd, im_isub, im_imul, im_iand, im_ior, im_ishl, im_ishr, im_iushr, im_idiv, im_irem, im_ineg, im_i2l, im_l2i, im_i2b, im_i2s, im_ladd, im_lcmp, im_dup, im_pop, im_dup_x1, im_dup2, im_ceq, im_cne, im_clt, im_cge, im_cgt, im_cle, im_zeq, im_zne, im_zlt, im_zge, im_zgt, im_zle, im_ifnull, im_ifnn, im_acmpeq, im_acmpne, im_getI, im_getR, im_putI, im_putZ, im_putR, im_ald, im_iast, im_bast, im_sast, im_zast, im_aald, im_alen, im_new, im_newa, im_newq, im_tsw, im_lsw, tswA, lswA, im_callS_eq, im_callV_eq, chk_i, chk_T, dOk_i, tf_0, tf_n0, tf_1, tf_01, tf_F, tf_T, tf_em, tf_me, ↓reduceIte, Int.zero_add, Int.add_zero, Int.one_mul, Int.mul_one, Int.ediv_one, Int.sub_zero, im_ireturn, im_zreturn, im_areturn, im_return, im_objinit, popI_eq, popII_eq, popJ_eq, popJJ_eq, popR_eq, popRR_eq, popV_eq, popVV_eq, popA_eq, popIA_eq, popIIA_eq, popRA_eq, popRIA_eq, getI, getJ, getR, lget_0, lget_s, nlAt, cat1, wsum, List.set_cons_zero, List.set_cons_succ, List.take_succ_cons, List.take_zero, List.drop_succ_cons, List.drop_zero, List.reverse_cons, List.reverse_nil, List.nil_append, List.cons_append, List.length_cons, List.length_nil, true_and, and_true, and_self, ne_eq, not_false_eq_true, not_true_eq_false, Classical.not_not, false_or, or_false, true_or, or_true, imp_self, forall_const, forall_eq, implies_true, true_implies, false_implies, Nat.reduceAdd, Nat.reduceLeDiff, Nat.reduceEqDiff, Nat.reduceSub, Int.reduceNeg, Int.reduceEq, Int.reduceLT, Int.reduceLE, Int.reduceNe, Int.reduceAdd, Int.reduceSub, Nat.le_refl, Nat.zero_le, reduceCtorEq, Option.some.injEq, w32_i, MSk_t106 hM, MSk_p0 hM, MSk_t107 hM, MSk_n107 hM, MSk_p1 hM, MSk_t108 hM, MSk_n108 hM, MSk_p2 hM, MSk_t109 hM, MSk_n109 hM, MSk_p3 hM, MSk_t110 hM, MSk_n110 hM, MSk_p4 hM, MSk_t111 hM, MSk_n111 hM, MSk_p5 hM, MSk_t112 hM, MSk_n112 hM, MSk_p13 hM, MSk_t113 hM, MSk_n113 hM, MSk_p14 hM, MSk_t114 hM, MSk_n114 hM, MSk_p15 hM, MSk_t115 hM, MSk_n115 hM, MSk_p16 hM, MSk_t116 hM, MSk_n116 hM, MSk_p18 hM, MSk_t117 hM, MSk_n117 hM, MSk_p20 hM, MSk_t118 hM, MSk_n118 hM, MSk_p21 hM, MSk_t119 hM, MSk_n119 hM, MSk_p22 hM, MSk_t120 hM, MSk_n120 hM]
    refine ⟨fun h => absurd h (by omega), fun _ => ?_⟩
    have := ih (iSet I' 108 i 0) (frD_trans g1 frD_set) (by rw [iSet_ne (by decide), g2]) (by rw [iSet_ne (by decide), g3]) (fun c => by
      rw [iSet_ap, g4 c]
      by_cases e : c = i
      · rw [if_pos ⟨rfl, e⟩, if_pos (by omega)]
      · rw [if_neg (fun z => e z.2)]
        by_cases q : 0 ≤ c ∧ c < (i : Int)
        · rw [if_pos q, if_pos (by omega)]
        · rw [if_neg q, if_neg (by omega)])
    refine SW_as this ?_ (by first | rfl | grind) (by first | rfl | grind) (by first | rfl | grind)
    simp only [leL_nil, leL_none, leL_some, Option.some.injEq, vI_inj, vR_inj, true_and, and_true]
    try grind
theorem tx_171 {d : Nat} {Rq : SmQ} {S : SmS} {I : SmI} {m : Int} {x : Option SmV} (hM : MSk S) (h12 : 0 ≤ I 106 11 ∧ (0 < I 106 11 → 0 ≤ I 106 12 ∧ I 106 12 ≤ 160)) (n1 : I 106 11 = 0 → Rq (.inl (some (vI m))) S (iSet (iSet (iSet I 106 6 0) 111 0 0) 111 1 0)) (n2 : 0 < I 106 11 → Rq (.inl (some (vI (-10 - I 106 12)))) S (iSet I 106 6 0)) : SW mi_X6_text 171 (d + 6) Rq [some (vR (some 106)), some (vI m), x] [] S I := by
  refine rv_X6_text_171 ?_
  simp +contextual (disch := omega) only [tr_X6_text_171, im_ic, im_lc, im_nul, im_iload, im_lload, im_aload, im_istore, im_astore, im_lstore, im_iinc, im_iadd, im_isub, im_imul, im_iand, im_ior, im_ishl, im_ishr, im_iushr, im_idiv, im_irem, im_ineg, im_i2l, im_l2i, im_i2b, im_i2s, im_ladd, im_lcmp, im_dup, im_pop, im_dup_x1, im_dup2, im_ceq, im_cne, im_clt, im_cge, im_cgt, im_cle, im_zeq, im_zne, im_zlt, im_zge, im_zgt, im_zle, im_ifnull, im_ifnn, im_acmpeq, im_acmpne, im_getI, im_getR, im_putI, im_putZ, im_putR, im_ald, im_iast, im_bast, im_sast, im_zast, im_aald, im_alen, im_new, im_newa, im_newq, im_tsw, im_lsw, tswA, lswA, im_callS_eq, im_callV_eq, chk_i, chk_T, dOk_i, tf_0, tf_n0, tf_1, tf_01, tf_F, tf_T, tf_em, tf_me, ↓reduceIte, Int.zero_add, Int.add_zero, Int.one_mul, Int.mul_one, Int.ediv_one, Int.sub_zero, im_ireturn, im_zreturn, im_areturn, im_return, im_objinit, popI_eq, popII_eq, popJ_eq, popJJ_eq, popR_eq, popRR_eq, popV_eq, popVV_eq, popA_eq, popIA_eq, popIIA_eq, popRA_eq, popRIA_eq, getI, getJ, getR, lget_0, lget_s, nlAt, cat1, wsum, List.set_cons_zero, List.set_cons_succ, List.take_succ_cons, List.take_zero, List.drop_succ_cons, List.drop_zero, List.reverse_cons, List.reverse_nil, List.nil_append, List.cons_append, List.length_cons, List.length_nil, true_and, and_true, and_self, ne_eq, not_false_eq_true, not_true_eq_false, Classical.not_not, false_or, or_false, true_or, or_true, imp_self, forall_const, forall_eq, implies_true, true_implies, false_implies, Nat.reduceAdd, Nat.reduceLeDiff, Nat.reduceEqDiff, Nat.reduceSub, Int.reduceNeg, Int.reduceEq, Int.reduceLT, Int.reduceLE, Int.reduceNe, Int.reduceAdd, Int.reduceSub, Nat.le_refl, Nat.zero_le, reduceCtorEq, Option.some.injEq, w32_i, MSk_t106 hM, MSk_p0 hM, MSk_t107 hM, MSk_n107 hM, MSk_p1 hM, MSk_t108 hM, MSk_n108 hM, MSk_p2 hM, MSk_t109 hM, MSk_n109 hM, MSk_p3 hM, MSk_t110 hM, MSk_n110 hM, MSk_p4 hM, MSk_t111 hM, MSk_n111 hM, MSk_p5 hM, MSk_t112 hM, MSk_n112 hM, MSk_p13 hM, MSk_t113 hM, MSk_n113 hM, MSk_p14 hM, MSk_t114 hM, MSk_n114 hM, MSk_p15 hM, MSk_t115 hM, MSk_n115 hM, MSk_p16 hM, MSk_t116 hM, MSk_n116 hM, MSk_p18 hM, MSk_t117 hM, MSk_n117 hM, MSk_p20 hM, MSk_t118 hM, MSk_n118 hM, MSk_p21 hM, MSk_t119 hM, MSk_n119 hM, MSk_p22 hM, MSk_t120 hM, MSk_n120 hM, iSet_ne, iSet_k]
  refine ⟨fun h => n1 (by omega), fun h => ?_⟩
  exact n2 (by omega)
/-- a fault (or none) noted, the place where the reader stands -/
def cdS (I : SmI) (f e : Int) : Prop := I 106 11 = f ∧ (f ≠ 0 → I 106 12 = e) ∧ I 106 8 = e
theorem c_rq2 {d : Nat} {Rq : SmQ} {S : SmS} {I : SmI} {g c f e : Int} (hM : MSk S) (hc : cdS I f e) (hR : ∀ I' : SmI, frT I I' → cdS I' (if f = 0 ∧ g = 0 then c else f) e → Rq (.inl none) S I') : SC mi_X6_requires d [vR (some 106), vI g, vI c] S I Rq := by
  obtain ⟨h1, h2, h3⟩ := hc
  by_cases z : f = 0 ∧ g = 0
  · rw [if_pos z] at hR
    refine c_X6_requires hM (fun y => absurd z.2 (y.resolve_right (fun y => y (by rw [h1]; exact z.1)))) (fun _ _ => ?_)
    exact hR _ (frT_set (frT_set frT_refl (by omega) (by omega)) (by omega) (by omega)) ⟨by rw [iSet_k (by omega), iSet_eq], fun _ => by rw [iSet_eq, h3], by rw [iSet_k (by omega), iSet_k (by omega), h3]⟩
  · rw [if_neg z] at hR
    exact c_X6_requires hM (fun _ => hR I frT_refl ⟨h1, h2, h3⟩) (fun y y2 => absurd ⟨by rw [← h1]; exact y2, y⟩ z)
theorem tx_160 {d : Nat} {Rq : SmQ} {S : SmS} {I : SmI} {m : Int} {x : Option SmV} (hM : MSk S) (h0 : 0 ≤ I 106 11) (n1 : I 106 11 = 0 → SW mi_X6_text 171 (d + 6) Rq [some (vR (some 106)), some (vI m), x] [] S I) (n2 : 0 < I 106 11 → SW mi_X6_text 171 (d + 6) Rq [some (vR (some 106)), some (vI m), x] [] S (iRow I 107 0 238 (I 109))) : SW mi_X6_text 160 (d + 6) Rq [some (vR (some 106)), some (vI m), x] [] S I := by
  refine rv_X6_text_160 ?_
  simp +contextual (disch := omega) only [tr_X6_text_160, im_ic, im_lc, im_nul, im_iload, im_lload, im_aload, im_istore, im_astore, im_lstore, im_iinc, im_iadd, im_isub, im_imul, im_iand, im_ior, im_ishl, im_ishr, im_iushr, im_idiv, im_irem, im_ineg, im_i2l, im_l2i, im_i2b, im_i2s, im_ladd, im_lcmp, im_dup, im_pop, im_dup_x1, im_dup2, im_ceq, im_cne, im_clt, im_cge, im_cgt, im_cle, im_zeq, im_zne, im_zlt, im_zge, im_zgt, im_zle, im_ifnull, im_ifnn, im_acmpeq, im_acmpne, im_getI, im_getR, im_putI, im_putZ, im_putR, im_ald, im_iast, im_bast, im_sast, im_zast, im_aald, im_alen, im_new, im_newa, im_newq, im_tsw, im_lsw, tswA, lswA, im_callS_eq, im_callV_eq, chk_i, chk_T, dOk_i, tf_0, tf_n0, tf_1, tf_01, tf_F, tf_T, tf_em, tf_me, ↓reduceIte, Int.zero_add, Int.add_zero, Int.one_mul, Int.mul_one, Int.ediv_one, Int.sub_zero, im_ireturn, im_zreturn, im_areturn, im_return, im_objinit, popI_eq, popII_eq, popJ_eq, popJJ_eq, popR_eq, popRR_eq, popV_eq, popVV_eq, popA_eq, popIA_eq, popIIA_eq, popRA_eq, popRIA_eq, getI, getJ, getR, lget_0, lget_s, nlAt, cat1, wsum, List.set_cons_zero, List.set_cons_succ, List.take_succ_cons, List.take_zero, List.drop_succ_cons, List.drop_zero, List.reverse_cons, List.reverse_nil, List.nil_append, List.cons_append, List.length_cons, List.length_nil, true_and, and_true, and_self, ne_eq, not_false_eq_true, not_true_eq_false, Classical.not_not, false_or, or_false, true_or, or_true, imp_self, forall_const, forall_eq, implies_true, true_implies, false_implies, Nat.reduceAdd, Nat.reduceLeDiff, Nat.reduceEqDiff, Nat.reduceSub, Int.reduceNeg, Int.reduceEq, Int.reduceLT, Int.reduceLE, Int.reduceNe, Int.reduceAdd, Int.reduceSub, Nat.le_refl, Nat.zero_le, reduceCtorEq, Option.some.injEq, w32_i, MSk_t106 hM, MSk_p0 hM, MSk_t107 hM, MSk_n107 hM, MSk_p1 hM, MSk_t108 hM, MSk_n108 hM, MSk_p2 hM, MSk_t109 hM, MSk_n109 hM, MSk_p3 hM, MSk_t110 hM, MSk_n110 hM, MSk_p4 hM, MSk_t111 hM, MSk_n111 hM, MSk_p5 hM, MSk_t112 hM, MSk_n112 hM, MSk_p13 hM, MSk_t113 hM, MSk_n113 hM, MSk_p14 hM, MSk_t114 hM, MSk_n114 hM, MSk_p15 hM, MSk_t115 hM, MSk_n115 hM, MSk_p16 hM, MSk_t116 hM, MSk_n116 hM, MSk_p18 hM, MSk_t117 hM, MSk_n117 hM, MSk_p20 hM, MSk_t118 hM, MSk_n118 hM, MSk_p21 hM, MSk_t119 hM, MSk_n119 hM, MSk_p22 hM, MSk_t120 hM, MSk_n120 hM]
  refine ⟨fun h => n1 (by omega), fun h => ?_⟩
  refine c_X6_backBefore hM ?_
  rw [retK_n]
  exact n2 (by omega)
/-- a fault c where P fails, if there was none -/
noncomputable def flt (f : Int) (P : Prop) (c : Int) : Int := if f = 0 ∧ tf P = 0 then c else f
theorem flt_y {f c : Int} {P : Prop} (h : P) : flt f P c = f := by unfold flt; rw [if_neg (fun z => by rw [tf_t h] at z; omega)]
theorem flt_n {f c : Int} {P : Prop} (hf : f = 0) (h : ¬ P) : flt f P c = c := by unfold flt; rw [if_pos ⟨hf, tf_f h⟩]
theorem flt_f {f c : Int} {P : Prop} (hf : f ≠ 0) : flt f P c = f := by unfold flt; rw [if_neg (fun z => hf z.1)]
theorem rwS_8 {I : SmI} {f e : Int} {r : Int → Int} (h : cdS I f e) : cdS (rwS I r) f e := by
  unfold cdS at *
  rw [rwS_ne (by decide)]
  exact h
theorem cdS_E {J I : SmI} {f e : Int} (h : cdS J f e) (h2 : frE J I) : cdS I f e := by
  obtain ⟨a, b, c⟩ := h
  exact ⟨by rw [h2.2 11 (by omega), a], fun z => by rw [h2.2 12 (by omega)]; exact b z, by rw [h2.2 8 (by omega), c]⟩
theorem frE_spot {J I : SmI} (h : ∀ b : Nat, b ≠ 113 → I b = J b) : frE J I := frE_sp frE_refl h
/-- what the last checks may change -/
def frK (J I : SmI) : Prop := (∀ b : Nat, b ≠ 106 → b ≠ 113 → b ≠ 114 → b ≠ 115 → b ≠ 116 → I b = J b) ∧ ∀ k : Int, k ≠ 17 → (k < 7 ∨ 12 < k) → I 106 k = J 106 k
theorem frK_refl {J : SmI} : frK J J := ⟨fun _ _ _ _ _ _ => rfl, fun _ _ _ => rfl⟩
theorem frK_E {J I I' : SmI} (h : frK J I) (h2 : frE I I') : frK J I' := ⟨fun b a1 a2 a3 a4 a5 => (h2.1 b a1 a2 a3 a4 a5).trans (h.1 b a1 a2 a3 a4 a5), fun k a b => (h2.2 k a).trans (h.2 k a b)⟩
theorem frK_T {J I I' : SmI} (h : frK J I) (h2 : frT I I') : frK J I' := ⟨fun b a1 a2 a3 a4 a5 => (h2.1 b a1).trans (h.1 b a1 a2 a3 a4 a5), fun k a b => (h2.2 k b).trans (h.2 k a b)⟩
/-- the third check -/
theorem tx_135 {d : Nat} {Rq : SmQ} {S : SmS} {I : SmI} {m f e : Int} {x : Option SmV} (hM : MSk S) (hc : cdS I f e) (hf : 0 ≤ f) (hW : f = 0 → WR (I 107)) (nx : ∀ I' : SmI, frK I I' → cdS I' (flt f (SF (I 107)) 8) e → SW mi_X6_text 160 (d + 6) Rq [some (vR (some 106)), some (vI m), x] [] S I') : SW mi_X6_text 135 (d + 6) Rq [some (vR (some 106)), some (vI m), x] [] S I := by
  have rq : ∀ (I2 : SmI) (g : Int), frK I I2 → cdS I2 f e → (if f = 0 ∧ g = 0 then 8 else f) = (flt f (SF (I 107)) 8) → SC mi_X6_requires (d + 5) [vR (some 106), vI g, vI 8] S I2 (retK mi_X6_text 157 160 (d + 6) Rq [some (vR (some 106)), some (vI m), x] []) := fun I2 g f2 h2 hg => by
    refine c_rq2 hM h2 (fun I3 f3 h3 => ?_)
    rw [hg] at h3
    rw [retK_n]
    exact nx I3 (frK_T f2 f3) h3
  have e11 := hc.1
  refine rv_X6_text_135 ?_
  simp +contextual (disch := omega) only [tr_X6_text_135, im_ic, im_lc, im_nul, im_iload, im_lload, im_aload, im_istore, im_astore, im_lstore, im_iinc, im_iadd, im_isub, im_imul, im_iand, im_ior, im_ishl, im_ishr, im_iushr, im_idiv, im_irem, im_ineg, im_i2l, im_l2i, im_i2b, im_i2s, im_ladd, im_lcmp, im_dup, im_pop, im_dup_x1, im_dup2, im_ceq, im_cne, im_clt, im_cge, im_cgt, im_cle, im_zeq, im_zne, im_zlt, im_zge, im_zgt, im_zle, im_ifnull, im_ifnn, im_acmpeq, im_acmpne, im_getI, im_getR, im_putI, im_putZ, im_putR, im_ald, im_iast, im_bast, im_sast, im_zast, im_aald, im_alen, im_new, im_newa, im_newq, im_tsw, im_lsw, tswA, lswA, im_callS_eq, im_callV_eq, chk_i, chk_T, dOk_i, tf_0, tf_n0, tf_1, tf_01, tf_F, tf_T, tf_em, tf_me, ↓reduceIte, Int.zero_add, Int.add_zero, Int.one_mul, Int.mul_one, Int.ediv_one, Int.sub_zero, im_ireturn, im_zreturn, im_areturn, im_return, im_objinit, popI_eq, popII_eq, popJ_eq, popJJ_eq, popR_eq, popRR_eq, popV_eq, popVV_eq, popA_eq, popIA_eq, popIIA_eq, popRA_eq, popRIA_eq, getI, getJ, getR, lget_0, lget_s, nlAt, cat1, wsum, List.set_cons_zero, List.set_cons_succ, List.take_succ_cons, List.take_zero, List.drop_succ_cons, List.drop_zero, List.reverse_cons, List.reverse_nil, List.nil_append, List.cons_append, List.length_cons, List.length_nil, true_and, and_true, and_self, ne_eq, not_false_eq_true, not_true_eq_false, Classical.not_not, false_or, or_false, true_or, or_true, imp_self, forall_const, forall_eq, implies_true, true_implies, false_implies, Nat.reduceAdd, Nat.reduceLeDiff, Nat.reduceEqDiff, Nat.reduceSub, Int.reduceNeg, Int.reduceEq, Int.reduceLT, Int.reduceLE, Int.reduceNe, Int.reduceAdd, Int.reduceSub, Nat.le_refl, Nat.zero_le, reduceCtorEq, Option.some.injEq, w32_i, MSk_t106 hM, MSk_p0 hM, MSk_t107 hM, MSk_n107 hM, MSk_p1 hM, MSk_t108 hM, MSk_n108 hM, MSk_p2 hM, MSk_t109 hM, MSk_n109 hM, MSk_p3 hM, MSk_t110 hM, MSk_n110 hM, MSk_p4 hM, MSk_t111 hM, MSk_n111 hM, MSk_p5 hM, MSk_t112 hM, MSk_n112 hM, MSk_p13 hM, MSk_t113 hM, MSk_n113 hM, MSk_p14 hM, MSk_t114 hM, MSk_n114 hM, MSk_p15 hM, MSk_t115 hM, MSk_n115 hM, MSk_p16 hM, MSk_t116 hM, MSk_n116 hM, MSk_p18 hM, MSk_t117 hM, MSk_n117 hM, MSk_p20 hM, MSk_t118 hM, MSk_n118 hM, MSk_p21 hM, MSk_t119 hM, MSk_n119 hM, MSk_p22 hM, MSk_t120 hM, MSk_n120 hM, e11]
  refine ⟨fun z => rq I 1 frK_refl hc (by rw [if_neg (by omega), flt_f (by omega)]), fun z => ?_⟩
  have f0 : f = 0 := by omega
  refine c_X6_isSafeNow hM (hW f0) (fun I2 h2 => ?_)
  rw [retK_v]
  have es : safP I (pNow I) ↔ SF (I 107) := by
    unfold SF
    rw [pNow_rS]
    exact safP_congr rfl (hW f0).1.2.1.2
  refine rv_X6_text_147 ?_
  simp +contextual (disch := omega) only [tr_X6_text_147, im_ic, im_lc, im_nul, im_iload, im_lload, im_aload, im_istore, im_astore, im_lstore, im_iinc, im_iadd, im_isub, im_imul, im_iand, im_ior, im_ishl, im_ishr, im_iushr, im_idiv, im_irem, im_ineg, im_i2l, im_l2i, im_i2b, im_i2s, im_ladd, im_lcmp, im_dup, im_pop, im_dup_x1, im_dup2, im_ceq, im_cne, im_clt, im_cge, im_cgt, im_cle, im_zeq, im_zne, im_zlt, im_zge, im_zgt, im_zle, im_ifnull, im_ifnn, im_acmpeq, im_acmpne, im_getI, im_getR, im_putI, im_putZ, im_putR, im_ald, im_iast, im_bast, im_sast, im_zast, im_aald, im_alen, im_new, im_newa, im_newq, im_tsw, im_lsw, tswA, lswA, im_callS_eq, im_callV_eq, chk_i, chk_T, dOk_i, tf_0, tf_n0, tf_1, tf_01, tf_F, tf_T, tf_em, tf_me, ↓reduceIte, Int.zero_add, Int.add_zero, Int.one_mul, Int.mul_one, Int.ediv_one, Int.sub_zero, im_ireturn, im_zreturn, im_areturn, im_return, im_objinit, popI_eq, popII_eq, popJ_eq, popJJ_eq, popR_eq, popRR_eq, popV_eq, popVV_eq, popA_eq, popIA_eq, popIIA_eq, popRA_eq, popRIA_eq, getI, getJ, getR, lget_0, lget_s, nlAt, cat1, wsum, List.set_cons_zero, List.set_cons_succ, List.take_succ_cons, List.take_zero, List.drop_succ_cons, List.drop_zero, List.reverse_cons, List.reverse_nil, List.nil_append, List.cons_append, List.length_cons, List.length_nil, true_and, and_true, and_self, ne_eq, not_false_eq_true, not_true_eq_false, Classical.not_not, false_or, or_false, true_or, or_true, imp_self, forall_const, forall_eq, implies_true, true_implies, false_implies, Nat.reduceAdd, Nat.reduceLeDiff, Nat.reduceEqDiff, Nat.reduceSub, Int.reduceNeg, Int.reduceEq, Int.reduceLT, Int.reduceLE, Int.reduceNe, Int.reduceAdd, Int.reduceSub, Nat.le_refl, Nat.zero_le, reduceCtorEq, Option.some.injEq, w32_i, MSk_t106 hM, MSk_p0 hM, MSk_t107 hM, MSk_n107 hM, MSk_p1 hM, MSk_t108 hM, MSk_n108 hM, MSk_p2 hM, MSk_t109 hM, MSk_n109 hM, MSk_p3 hM, MSk_t110 hM, MSk_n110 hM, MSk_p4 hM, MSk_t111 hM, MSk_n111 hM, MSk_p5 hM, MSk_t112 hM, MSk_n112 hM, MSk_p13 hM, MSk_t113 hM, MSk_n113 hM, MSk_p14 hM, MSk_t114 hM, MSk_n114 hM, MSk_p15 hM, MSk_t115 hM, MSk_n115 hM, MSk_p16 hM, MSk_t116 hM, MSk_n116 hM, MSk_p18 hM, MSk_t117 hM, MSk_n117 hM, MSk_p20 hM, MSk_t118 hM, MSk_n118 hM, MSk_p21 hM, MSk_t119 hM, MSk_n119 hM, MSk_p22 hM, MSk_t120 hM, MSk_n120 hM]
  refine ⟨fun y => rq I2 0 (frK_E frK_refl h2) (cdS_E hc h2) ?_, fun y => rq I2 1 (frK_E frK_refl h2) (cdS_E hc h2) ?_⟩
  · rw [if_pos ⟨f0, rfl⟩, flt_n f0 (fun w => y (es.mpr w))]
  · rw [if_neg (by omega), flt_y (es.mp y)]
/-- the second check -/
theorem tx_110 {d : Nat} {Rq : SmQ} {S : SmS} {I : SmI} {m f e : Int} {x : Option SmV} (hM : MSk S) (hc : cdS I f e) (hf : 0 ≤ f) (hW : f = 0 → WR (I 107)) (nx : ∀ I' : SmI, frK I I' → cdS I' (flt f (hldA I) 7) e → SW mi_X6_text 135 (d + 6) Rq [some (vR (some 106)), some (vI m), x] [] S I') : SW mi_X6_text 110 (d + 6) Rq [some (vR (some 106)), some (vI m), x] [] S I := by
  have rq : ∀ (I2 : SmI) (g : Int), frK I I2 → cdS I2 f e → (if f = 0 ∧ g = 0 then 7 else f) = (flt f (hldA I) 7) → SC mi_X6_requires (d + 5) [vR (some 106), vI g, vI 7] S I2 (retK mi_X6_text 132 135 (d + 6) Rq [some (vR (some 106)), some (vI m), x] []) := fun I2 g f2 h2 hg => by
    refine c_rq2 hM h2 (fun I3 f3 h3 => ?_)
    rw [hg] at h3
    rw [retK_n]
    exact nx I3 (frK_T f2 f3) h3
  have e11 := hc.1
  refine rv_X6_text_110 ?_
  simp +contextual (disch := omega) only [tr_X6_text_110, im_ic, im_lc, im_nul, im_iload, im_lload, im_aload, im_istore, im_astore, im_lstore, im_iinc, im_iadd, im_isub, im_imul, im_iand, im_ior, im_ishl, im_ishr, im_iushr, im_idiv, im_irem, im_ineg, im_i2l, im_l2i, im_i2b, im_i2s, im_ladd, im_lcmp, im_dup, im_pop, im_dup_x1, im_dup2, im_ceq, im_cne, im_clt, im_cge, im_cgt, im_cle, im_zeq, im_zne, im_zlt, im_zge, im_zgt, im_zle, im_ifnull, im_ifnn, im_acmpeq, im_acmpne, im_getI, im_getR, im_putI, im_putZ, im_putR, im_ald, im_iast, im_bast, im_sast, im_zast, im_aald, im_alen, im_new, im_newa, im_newq, im_tsw, im_lsw, tswA, lswA, im_callS_eq, im_callV_eq, chk_i, chk_T, dOk_i, tf_0, tf_n0, tf_1, tf_01, tf_F, tf_T, tf_em, tf_me, ↓reduceIte, Int.zero_add, Int.add_zero, Int.one_mul, Int.mul_one, Int.ediv_one, Int.sub_zero, im_ireturn, im_zreturn, im_areturn, im_return, im_objinit, popI_eq, popII_eq, popJ_eq, popJJ_eq, popR_eq, popRR_eq, popV_eq, popVV_eq, popA_eq, popIA_eq, popIIA_eq, popRA_eq, popRIA_eq, getI, getJ, getR, lget_0, lget_s, nlAt, cat1, wsum, List.set_cons_zero, List.set_cons_succ, List.take_succ_cons, List.take_zero, List.drop_succ_cons, List.drop_zero, List.reverse_cons, List.reverse_nil, List.nil_append, List.cons_append, List.length_cons, List.length_nil, true_and, and_true, and_self, ne_eq, not_false_eq_true, not_true_eq_false, Classical.not_not, false_or, or_false, true_or, or_true, imp_self, forall_const, forall_eq, implies_true, true_implies, false_implies, Nat.reduceAdd, Nat.reduceLeDiff, Nat.reduceEqDiff, Nat.reduceSub, Int.reduceNeg, Int.reduceEq, Int.reduceLT, Int.reduceLE, Int.reduceNe, Int.reduceAdd, Int.reduceSub, Nat.le_refl, Nat.zero_le, reduceCtorEq, Option.some.injEq, w32_i, MSk_t106 hM, MSk_p0 hM, MSk_t107 hM, MSk_n107 hM, MSk_p1 hM, MSk_t108 hM, MSk_n108 hM, MSk_p2 hM, MSk_t109 hM, MSk_n109 hM, MSk_p3 hM, MSk_t110 hM, MSk_n110 hM, MSk_p4 hM, MSk_t111 hM, MSk_n111 hM, MSk_p5 hM, MSk_t112 hM, MSk_n112 hM, MSk_p13 hM, MSk_t113 hM, MSk_n113 hM, MSk_p14 hM, MSk_t114 hM, MSk_n114 hM, MSk_p15 hM, MSk_t115 hM, MSk_n115 hM, MSk_p16 hM, MSk_t116 hM, MSk_n116 hM, MSk_p18 hM, MSk_t117 hM, MSk_n117 hM, MSk_p20 hM, MSk_t118 hM, MSk_n118 hM, MSk_p21 hM, MSk_t119 hM, MSk_n119 hM, MSk_p22 hM, MSk_t120 hM, MSk_n120 hM, e11]
  refine ⟨fun z => rq I 1 frK_refl hc (by rw [if_neg (by omega), flt_f (by omega)]), fun z => ?_⟩
  have f0 : f = 0 := by omega
  refine c_X6_isHeldAll hM (hW f0) (fun I2 h2 => ?_)
  rw [retK_v]
  have h2' := frE_spot h2
  refine rv_X6_text_122 ?_
  simp +contextual (disch := omega) only [tr_X6_text_122, im_ic, im_lc, im_nul, im_iload, im_lload, im_aload, im_istore, im_astore, im_lstore, im_iinc, im_iadd, im_isub, im_imul, im_iand, im_ior, im_ishl, im_ishr, im_iushr, im_idiv, im_irem, im_ineg, im_i2l, im_l2i, im_i2b, im_i2s, im_ladd, im_lcmp, im_dup, im_pop, im_dup_x1, im_dup2, im_ceq, im_cne, im_clt, im_cge, im_cgt, im_cle, im_zeq, im_zne, im_zlt, im_zge, im_zgt, im_zle, im_ifnull, im_ifnn, im_acmpeq, im_acmpne, im_getI, im_getR, im_putI, im_putZ, im_putR, im_ald, im_iast, im_bast, im_sast, im_zast, im_aald, im_alen, im_new, im_newa, im_newq, im_tsw, im_lsw, tswA, lswA, im_callS_eq, im_callV_eq, chk_i, chk_T, dOk_i, tf_0, tf_n0, tf_1, tf_01, tf_F, tf_T, tf_em, tf_me, ↓reduceIte, Int.zero_add, Int.add_zero, Int.one_mul, Int.mul_one, Int.ediv_one, Int.sub_zero, im_ireturn, im_zreturn, im_areturn, im_return, im_objinit, popI_eq, popII_eq, popJ_eq, popJJ_eq, popR_eq, popRR_eq, popV_eq, popVV_eq, popA_eq, popIA_eq, popIIA_eq, popRA_eq, popRIA_eq, getI, getJ, getR, lget_0, lget_s, nlAt, cat1, wsum, List.set_cons_zero, List.set_cons_succ, List.take_succ_cons, List.take_zero, List.drop_succ_cons, List.drop_zero, List.reverse_cons, List.reverse_nil, List.nil_append, List.cons_append, List.length_cons, List.length_nil, true_and, and_true, and_self, ne_eq, not_false_eq_true, not_true_eq_false, Classical.not_not, false_or, or_false, true_or, or_true, imp_self, forall_const, forall_eq, implies_true, true_implies, false_implies, Nat.reduceAdd, Nat.reduceLeDiff, Nat.reduceEqDiff, Nat.reduceSub, Int.reduceNeg, Int.reduceEq, Int.reduceLT, Int.reduceLE, Int.reduceNe, Int.reduceAdd, Int.reduceSub, Nat.le_refl, Nat.zero_le, reduceCtorEq, Option.some.injEq, w32_i, MSk_t106 hM, MSk_p0 hM, MSk_t107 hM, MSk_n107 hM, MSk_p1 hM, MSk_t108 hM, MSk_n108 hM, MSk_p2 hM, MSk_t109 hM, MSk_n109 hM, MSk_p3 hM, MSk_t110 hM, MSk_n110 hM, MSk_p4 hM, MSk_t111 hM, MSk_n111 hM, MSk_p5 hM, MSk_t112 hM, MSk_n112 hM, MSk_p13 hM, MSk_t113 hM, MSk_n113 hM, MSk_p14 hM, MSk_t114 hM, MSk_n114 hM, MSk_p15 hM, MSk_t115 hM, MSk_n115 hM, MSk_p16 hM, MSk_t116 hM, MSk_n116 hM, MSk_p18 hM, MSk_t117 hM, MSk_n117 hM, MSk_p20 hM, MSk_t118 hM, MSk_n118 hM, MSk_p21 hM, MSk_t119 hM, MSk_n119 hM, MSk_p22 hM, MSk_t120 hM, MSk_n120 hM]
  refine ⟨fun y => rq I2 0 (frK_E frK_refl h2') (cdS_E hc h2') ?_, fun y => rq I2 1 (frK_E frK_refl h2') (cdS_E hc h2') ?_⟩
  · rw [if_pos ⟨f0, rfl⟩, flt_n f0 y]
  · rw [if_neg (by omega), flt_y y]
def allP (r : Int → Int) : Prop := allTo (fun t => r (34 + 6 * t) < r 0 ∧ r (34 + 6 * t + 1) < r 0) (r 1).toNat
/-- the row is taken over, the first check -/
theorem tx_73 {d : Nat} {Rq : SmQ} {S : SmS} {I : SmI} {m e : Int} (hM : MSk S) (hc : cdS I 0 e) (hD : 0 ≤ I 108 1 ∧ I 108 1 ≤ 4) (nx : ∀ (I' : SmI) (x : Option SmV), frT (rwS I (nwR (I 107) (I 108))) I' → cdS I' (flt 0 (allP (nwR (I 107) (I 108))) 6) e → SW mi_X6_text 110 (d + 6) Rq [some (vR (some 106)), some (vI m), x] [] S I') : SW mi_X6_text 73 (d + 6) Rq [some (vR (some 106)), some (vI m), none] [] S I := by
  have l := loop_up (P := fun (i : Nat) => ∀ I' : SmI, (∀ b : Nat, b ≠ 107 → I' b = I b) → (∀ c : Int, I' 107 c = if 0 ≤ c ∧ c < i then I 108 c else I 107 c) → SW mi_X6_text 75 (d + 6) Rq [some (vR (some 106)), some (vI m), some (vI i)] [] S I') (n := 238) ?_ ?_
  · refine rv_X6_text_73 ?_
    simp +contextual (disch := omega) only [tr_X6_text_73, im_ic, im_lc, im_nul, im_iload, im_lload, im_aload, im_istore, im_astore, im_lstore, im_iinc, im_iadd, im_isub, im_imul, im_iand, im_ior, im_ishl, im_ishr, im_iushr, im_idiv, im_irem, im_ineg, im_i2l, im_l2i, im_i2b, im_i2s, im_ladd, im_lcmp, im_dup, im_pop, im_dup_x1, im_dup2, im_ceq, im_cne, im_clt, im_cge, im_cgt, im_cle, im_zeq, im_zne, im_zlt, im_zge, im_zgt, im_zle, im_ifnull, im_ifnn, im_acmpeq, im_acmpne, im_getI, im_getR, im_putI, im_putZ, im_putR, im_ald, im_iast, im_bast, im_sast, im_zast, im_aald, im_alen, im_new, im_newa, im_newq, im_tsw, im_lsw, tswA, lswA, im_callS_eq, im_callV_eq, chk_i, chk_T, dOk_i, tf_0, tf_n0, tf_1, tf_01, tf_F, tf_T, tf_em, tf_me, ↓reduceIte, Int.zero_add, Int.add_zero, Int.one_mul, Int.mul_one, Int.ediv_one, Int.sub_zero, im_ireturn, im_zreturn, im_areturn, im_return, im_objinit, popI_eq, popII_eq, popJ_eq, popJJ_eq, popR_eq, popRR_eq, popV_eq, popVV_eq, popA_eq, popIA_eq, popIIA_eq, popRA_eq, popRIA_eq, getI, getJ, getR, lget_0, lget_s, nlAt, cat1, wsum, List.set_cons_zero, List.set_cons_succ, List.take_succ_cons, List.take_zero, List.drop_succ_cons, List.drop_zero, List.reverse_cons, List.reverse_nil, List.nil_append, List.cons_append, List.length_cons, List.length_nil, true_and, and_true, and_self, ne_eq, not_false_eq_true, not_true_eq_false, Classical.not_not, false_or, or_false, true_or, or_true, imp_self, forall_const, forall_eq, implies_true, true_implies, false_implies, Nat.reduceAdd, Nat.reduceLeDiff, Nat.reduceEqDiff, Nat.reduceSub, Int.reduceNeg, Int.reduceEq, Int.reduceLT, Int.reduceLE, Int.reduceNe, Int.reduceAdd, Int.reduceSub, Nat.le_refl, Nat.zero_le, reduceCtorEq, Option.some.injEq, w32_i]
    exact l I (fun _ _ => rfl) (fun c => by rw [if_neg (by omega)])
  · intro I' g1 g2
    have e1 : I' = rwS I (nwR (I 107) (I 108)) := rwS_eq (funext fun c => g2 c) g1
    have n1 : nwR (I 107) (I 108) 1 = I 108 1 := if_pos (by omega)
    have x1 : I' 107 1 = I 108 1 := by rw [e1, rwS_st, n1]
    have ap : allTo (fun t => I' 107 (34 + 6 * t) < I' 107 0 ∧ I' 107 (34 + 6 * t + 1) < I' 107 0) (I' 107 1).toNat = allP (nwR (I 107) (I 108)) := by rw [e1, rwS_st]; rfl
    have rq : SC mi_X6_requires (d + 5) [vR (some 106), vI (tf (allP (nwR (I 107) (I 108)))), vI 6] S I' (retK mi_X6_text 107 110 (d + 6) Rq [some (vR (some 106)), some (vI m), some (vI 238)] []) := by
      refine c_rq2 hM (by rw [e1]; exact rwS_8 hc) (fun I3 f3 h3 => ?_)
      rw [retK_n]
      rw [e1] at f3
      exact nx I3 _ f3 h3
    rw [x1] at ap
    refine rv_X6_text_75 ?_
    simp +contextual (disch := omega) only [tr_X6_text_75, im_ic, im_lc, im_nul, im_iload, im_lload, im_aload, im_istore, im_astore, im_lstore, im_iinc, im_iadd, im_isub, im_imul, im_iand, im_ior, im_ishl, im_ishr, im_iushr, im_idiv, im_irem, im_ineg, im_i2l, im_l2i, im_i2b, im_i2s, im_ladd, im_lcmp, im_dup, im_pop, im_dup_x1, im_dup2, im_ceq, im_cne, im_clt, im_cge, im_cgt, im_cle, im_zeq, im_zne, im_zlt, im_zge, im_zgt, im_zle, im_ifnull, im_ifnn, im_acmpeq, im_acmpne, im_getI, im_getR, im_putI, im_putZ, im_putR, im_ald, im_iast, im_bast, im_sast, im_zast, im_aald, im_alen, im_new, im_newa, im_newq, im_tsw, im_lsw, tswA, lswA, im_callS_eq, im_callV_eq, chk_i, chk_T, dOk_i, tf_0, tf_n0, tf_1, tf_01, tf_F, tf_T, tf_em, tf_me, ↓reduceIte, Int.zero_add, Int.add_zero, Int.one_mul, Int.mul_one, Int.ediv_one, Int.sub_zero, im_ireturn, im_zreturn, im_areturn, im_return, im_objinit, popI_eq, popII_eq, popJ_eq, popJJ_eq, popR_eq, popRR_eq, popV_eq, popVV_eq, popA_eq, popIA_eq, popIIA_eq, popRA_eq, popRIA_eq, getI, getJ, getR, lget_0, lget_s, nlAt, cat1, wsum, List.set_cons_zero, List.set_cons_succ, List.take_succ_cons, List.take_zero, List.drop_succ_cons, List.drop_zero, List.reverse_cons, List.reverse_nil, List.nil_append, List.cons_append, List.length_cons, List.length_nil, true_and, and_true, and_self, ne_eq, not_false_eq_true, not_true_eq_false, Classical.not_not, false_or, or_false, true_or, or_true, imp_self, forall_const, forall_eq, implies_true, true_implies, false_implies, Nat.reduceAdd, Nat.reduceLeDiff, Nat.reduceEqDiff, Nat.reduceSub, Int.reduceNeg, Int.reduceEq, Int.reduceLT, Int.reduceLE, Int.reduceNe, Int.reduceAdd, Int.reduceSub, Nat.le_refl, Nat.zero_le, reduceCtorEq, Option.some.injEq, w32_i, MSk_t106 hM, MSk_p0 hM, MSk_t107 hM, MSk_n107 hM, MSk_p1 hM, MSk_t108 hM, MSk_n108 hM, MSk_p2 hM, MSk_t109 hM, MSk_n109 hM, MSk_p3 hM, MSk_t110 hM, MSk_n110 hM, MSk_p4 hM, MSk_t111 hM, MSk_n111 hM, MSk_p5 hM, MSk_t112 hM, MSk_n112 hM, MSk_p13 hM, MSk_t113 hM, MSk_n113 hM, MSk_p14 hM, MSk_t114 hM, MSk_n114 hM, MSk_p15 hM, MSk_t115 hM, MSk_n115 hM, MSk_p16 hM, MSk_t116 hM, MSk_n116 hM, MSk_p18 hM, MSk_t117 hM, MSk_n117 hM, MSk_p20 hM, MSk_t118 hM, MSk_n118 hM, MSk_p21 hM, MSk_t119 hM, MSk_n119 hM, MSk_p22 hM, MSk_t120 hM, MSk_n120 hM, hM, im_p_X6_areAllPlaces, x1]
    refine ⟨fun _ => ?_, fun h => absurd (Int.le_refl _) h⟩
    rw [ap]
    exact rq
  · intro i hi ih I' g1 g2
    have d1 : I' 108 = I 108 := g1 108 (by decide)
    refine rv_X6_text_75 ?_
    simp +contextual (disch := omega) only [tr_X6_text_75, im_ic, im_lc, im_nul, im_iload, im_lload, im_aload, im_istore, im_astore, im_lstore, im_iinc, im_iadd, im_isub, im_imul, im_iand, im_ior, im_ishl, im_ishr, im_iushr, im_idiv, im_irem, im_ineg, im_i2l, im_l2i, im_i2b, im_i2s, im_ladd, im_lcmp, im_dup, im_pop, im_dup_x1, im_dup2, im_ceq, im_cne, im_clt, im_cge, im_cgt, im_cle, im_zeq, im_zne, im_zlt, im_zge, im_zgt, im_zle, im_ifnull, im_ifnn, im_acmpeq, im_acmpne, im_getI, im_getR, im_putI, im_putZ, im_putR, im_ald, im_iast, im_bast, im_sast, im_zast, im_aald, im_alen, im_new, im_newa, im_newq, im_tsw, im_lsw, tswA, lswA, im_callS_eq, im_callV_eq, chk_i, chk_T, dOk_i, tf_0, tf_n0, tf_1, tf_01, tf_F, tf_T, tf_em, tf_me, ↓reduceIte, Int.zero_add, Int.add_zero, Int.one_mul, Int.mul_one, Int.ediv_one, Int.sub_zero, im_ireturn, im_zreturn, im_areturn, im_return, im_objinit, popI_eq, popII_eq, popJ_eq, popJJ_eq, popR_eq, popRR_eq, popV_eq, popVV_eq, popA_eq, popIA_eq, popIIA_eq, popRA_eq, popRIA_eq, getI, getJ, getR, lget_0, lget_s, nlAt, cat1, wsum, List.set_cons_zero, List.set_cons_succ, List.take_succ_cons, List.take_zero, List.drop_succ_cons, List.drop_zero, List.reverse_cons, List.reverse_nil, List.nil_append, List.cons_append, List.length_cons, List.length_nil, true_and, and_true, and_self, ne_eq, not_false_eq_true, not_true_eq_false, Classical.not_not, false_or, or_false, true_or, or_true, imp_self, forall_const, forall_eq, implies_true, true_implies, false_implies, Nat.reduceAdd, Nat.reduceLeDiff, Nat.reduceEqDiff, Nat.reduceSub, Int.reduceNeg, Int.reduceEq, Int.reduceLT, Int.reduceLE, Int.reduceNe, Int.reduceAdd, Int.reduceSub, Nat.le_refl, Nat.zero_le, reduceCtorEq, Option.some.injEq, w32_i, MSk_t106 hM, MSk_p0 hM, MSk_t107 hM, MSk_n107 hM, MSk_p1 hM, MSk_t108 hM, MSk_n108 hM, MSk_p2 hM, MSk_t109 hM, MSk_n109 hM, MSk_p3 hM, MSk_t110 hM, MSk_n110 hM, MSk_p4 hM, MSk_t111 hM, MSk_n111 hM, MSk_p5 hM, MSk_t112 hM, MSk_n112 hM, MSk_p13 hM, MSk_t113 hM, MSk_n113 hM, MSk_p14 hM, MSk_t114 hM, MSk_n114 hM, MSk_p15 hM, MSk_t115 hM, MSk_n115 hM, MSk_p16 hM, MSk_t116 hM, MSk_n116 hM, MSk_p18 hM, MSk_t117 hM, MSk_n117 hM, MSk_p20 hM, MSk_t118 hM, MSk_n118 hM, MSk_p21 hM, MSk_t119 hM, MSk_n119 hM, MSk_p22 hM, MSk_t120 hM, MSk_n120 hM, d1]
    refine ⟨fun h => absurd h (by omega), fun _ => ?_⟩
    have := ih (iSet I' 107 i (I 108 i)) (fun b hb => by rw [iSet_ne hb, g1 b hb]) (fun c => by
      rw [iSet_ap, g2 c]
      by_cases e : c = i
      · rw [if_pos ⟨rfl, e⟩, if_pos (by omega), e]
      · rw [if_neg (fun z => e z.2)]
        by_cases q : 0 ≤ c ∧ c < (i : Int)
        · rw [if_pos q, if_pos (by omega)]
        · rw [if_neg q, if_neg (by omega)])
    refine SW_as this ?_ (by first | rfl | grind) (by first | rfl | grind) (by first | rfl | grind)
    simp only [leL_nil, leL_none, leL_some, Option.some.injEq, vI_inj, vR_inj, true_and, and_true]
    try grind
/-- the first token -/
noncomputable def fsT (T : Int → Int) (n : Int) : Int × Int := by
  classical exact if lxE T n 0 then (1, lxB T n 0) else (0, 0)
theorem lxR_f {J I I' : SmI} (hf : frD J I) (h7 : I 106 7 = 0) (h6 : 0 ≤ I 106 6) (h : lxR I I') : ocS (I 106 12) I' (fsT (J 112) (J 106 6)) := by
  obtain ⟨b, b7, b8, b9, b10, b11, b12⟩ := h
  have et : I 112 = J 112 := hf.1 112 (by decide) (by decide)
  have e6 : I 106 6 = J 106 6 := hf.2 6 (by omega)
  have et' : I' 112 = I 112 := b.1 112 (by decide)
  have e6' : I' 106 6 = I 106 6 := b.2 6 (by omega)
  rw [h7] at b7 b8 b9 b10 b11 b12
  unfold fsT
  rw [← et, ← e6]
  by_cases e : lxE (I 112) (I 106 6) 0
  · rw [if_pos e]
    exact ⟨by show (0 : Int) ≤ 1; omega, fun z => absurd (show (1 : Int) = 0 from z) (by omega), fun _ => b12 e⟩
  · rw [if_neg e]
    refine ⟨Int.le_refl _, fun _ => ⟨?_, (b11 e).2⟩, fun z => absurd rfl z⟩
    unfold tkS
    rw [et', e6']
    exact ⟨⟨Int.le_refl _, h6⟩, b7, b8, b9, b10, (b11 e).1⟩
/-- the code of what is wrong with all -/
noncomputable def whC (r : Int → Int) : Int := flt (flt (flt 0 (allP r) 6) (hldA (rS r)) 7) (SF r) 8
/-- what text may change -/
def frX (J I : SmI) : Prop := (∀ b : Nat, b ≠ 106 → b ≠ 107 → b ≠ 109 → b ≠ 108 → b ≠ 111 → b ≠ 113 → b ≠ 114 → b ≠ 115 → b ≠ 116 → I b = J b) ∧ ∀ k : Int, (k < 6 ∨ 12 < k) → k ≠ 17 → I 106 k = J 106 k
theorem tx_lines {d : Nat} {Rq : SmQ} {S : SmS} {J : SmI} {w : Int} {o' : Int × Int} {D' : Int → Int} {K : Nat} (hM : MSk S) (h6 : J 106 6 ≤ 160) (hK : K < 1000)
  (nF : ∀ (m : Int) (I : SmI), frD J I → ocS w I o' → o'.1 ≠ 0 → SW mi_X6_text 171 (d + 6) Rq [some (vR (some 106)), some (vI m), none] [] S I)
  (nG : ∀ (I : SmI), frD J I → ocS w I o' → o'.1 = 0 → I 108 = D' → SC mi_X6_keepBefore (d + 5) [vR (some 106)] S I (retK mi_X6_text 70 73 (d + 6) Rq [some (vR (some 106)), some (vI K), none] [])) :
  ∀ (k : Nat) (m : Int) (o : Int × Int) (I : SmI), 0 ≤ m → m + k = K → frD J I → ocS w I o → lnR (J 112) (J 106 6) k o (I 108) o' D' → SW mi_X6_text 38 (d + 6) Rq [some (vR (some 106)), some (vI m), none] [] S I := by
  intro k
  induction k with
  | zero =>
    rintro m o I m0 m1 f ho ⟨rfl, h2⟩
    have t : I 112 = J 112 := f.1 112 (by decide) (by decide)
    have n : I 106 6 = J 106 6 := f.2 6 (by omega)
    have a1 := nF m I f ho
    have a2 := nG I f ho
    rw [show (K : Int) = m by omega] at a2
    refine rv_X6_text_38 ?_
    simp +contextual (disch := omega) only [tr_X6_text_38, im_ic, im_lc, im_nul, im_iload, im_lload, im_aload, im_istore, im_astore, im_lstore, im_iinc, im_iadd, im_isub, im_imul, im_iand, im_ior, im_ishl, im_ishr, im_iushr, im_idiv, im_irem, im_ineg, im_i2l, im_l2i, im_i2b, im_i2s, im_ladd, im_lcmp, im_dup, im_pop, im_dup_x1, im_dup2, im_ceq, im_cne, im_clt, im_cge, im_cgt, im_cle, im_zeq, im_zne, im_zlt, im_zge, im_zgt, im_zle, im_ifnull, im_ifnn, im_acmpeq, im_acmpne, im_getI, im_getR, im_putI, im_putZ, im_putR, im_ald, im_iast, im_bast, im_sast, im_zast, im_aald, im_alen, im_new, im_newa, im_newq, im_tsw, im_lsw, tswA, lswA, im_callS_eq, im_callV_eq, chk_i, chk_T, dOk_i, tf_0, tf_n0, tf_1, tf_01, tf_F, tf_T, tf_em, tf_me, ↓reduceIte, Int.zero_add, Int.add_zero, Int.one_mul, Int.mul_one, Int.ediv_one, Int.sub_zero, im_ireturn, im_zreturn, im_areturn, im_return, im_objinit, popI_eq, popII_eq, popJ_eq, popJJ_eq, popR_eq, popRR_eq, popV_eq, popVV_eq, popA_eq, popIA_eq, popIIA_eq, popRA_eq, popRIA_eq, getI, getJ, getR, lget_0, lget_s, nlAt, cat1, wsum, List.set_cons_zero, List.set_cons_succ, List.take_succ_cons, List.take_zero, List.drop_succ_cons, List.drop_zero, List.reverse_cons, List.reverse_nil, List.nil_append, List.cons_append, List.length_cons, List.length_nil, true_and, and_true, and_self, ne_eq, not_false_eq_true, not_true_eq_false, Classical.not_not, false_or, or_false, true_or, or_true, imp_self, forall_const, forall_eq, implies_true, true_implies, false_implies, Nat.reduceAdd, Nat.reduceLeDiff, Nat.reduceEqDiff, Nat.reduceSub, Int.reduceNeg, Int.reduceEq, Int.reduceLT, Int.reduceLE, Int.reduceNe, Int.reduceAdd, Int.reduceSub, Nat.le_refl, Nat.zero_le, reduceCtorEq, Option.some.injEq, w32_i, MSk_t106 hM, MSk_p0 hM, MSk_t107 hM, MSk_n107 hM, MSk_p1 hM, MSk_t108 hM, MSk_n108 hM, MSk_p2 hM, MSk_t109 hM, MSk_n109 hM, MSk_p3 hM, MSk_t110 hM, MSk_n110 hM, MSk_p4 hM, MSk_t111 hM, MSk_n111 hM, MSk_p5 hM, MSk_t112 hM, MSk_n112 hM, MSk_p13 hM, MSk_t113 hM, MSk_n113 hM, MSk_p14 hM, MSk_t114 hM, MSk_n114 hM, MSk_p15 hM, MSk_t115 hM, MSk_n115 hM, MSk_p16 hM, MSk_t116 hM, MSk_n116 hM, MSk_p18 hM, MSk_t117 hM, MSk_n117 hM, MSk_p20 hM, MSk_t118 hM, MSk_n118 hM, MSk_p21 hM, MSk_t119 hM, MSk_n119 hM, MSk_p22 hM, MSk_t120 hM, MSk_n120 hM]
    refine ⟨fun z => a1 (fun y => z (ho.2.1 y).1.2.2.2.2.2), fun z => ?_⟩
    have oz : o'.1 = 0 := Classical.byContradiction fun y => by
      have := ocS_F ho y
      omega
    obtain ⟨hd, hs⟩ := h2 oz
    have s9 := (ho.2.1 oz).1.2.2.2.1
    rw [t, n, hs] at s9
    exact ⟨fun _ => a2 oz hd.symm, fun y => absurd s9 y⟩
  | succ k ih =>
    rintro m o I m0 m1 f ho ⟨⟨h1, h2⟩, h3, h4⟩
    have t : I 112 = J 112 := f.1 112 (by decide) (by decide)
    have n : I 106 6 = J 106 6 := f.2 6 (by omega)
    have tk := (ho.2.1 h1).1
    have s9 := tk.2.2.2.1
    have s11 := tk.2.2.2.2.2
    rw [t, n] at s9
    refine rv_X6_text_38 ?_
    simp +contextual (disch := omega) only [tr_X6_text_38, im_ic, im_lc, im_nul, im_iload, im_lload, im_aload, im_istore, im_astore, im_lstore, im_iinc, im_iadd, im_isub, im_imul, im_iand, im_ior, im_ishl, im_ishr, im_iushr, im_idiv, im_irem, im_ineg, im_i2l, im_l2i, im_i2b, im_i2s, im_ladd, im_lcmp, im_dup, im_pop, im_dup_x1, im_dup2, im_ceq, im_cne, im_clt, im_cge, im_cgt, im_cle, im_zeq, im_zne, im_zlt, im_zge, im_zgt, im_zle, im_ifnull, im_ifnn, im_acmpeq, im_acmpne, im_getI, im_getR, im_putI, im_putZ, im_putR, im_ald, im_iast, im_bast, im_sast, im_zast, im_aald, im_alen, im_new, im_newa, im_newq, im_tsw, im_lsw, tswA, lswA, im_callS_eq, im_callV_eq, chk_i, chk_T, dOk_i, tf_0, tf_n0, tf_1, tf_01, tf_F, tf_T, tf_em, tf_me, ↓reduceIte, Int.zero_add, Int.add_zero, Int.one_mul, Int.mul_one, Int.ediv_one, Int.sub_zero, im_ireturn, im_zreturn, im_areturn, im_return, im_objinit, popI_eq, popII_eq, popJ_eq, popJJ_eq, popR_eq, popRR_eq, popV_eq, popVV_eq, popA_eq, popIA_eq, popIIA_eq, popRA_eq, popRIA_eq, getI, getJ, getR, lget_0, lget_s, nlAt, cat1, wsum, List.set_cons_zero, List.set_cons_succ, List.take_succ_cons, List.take_zero, List.drop_succ_cons, List.drop_zero, List.reverse_cons, List.reverse_nil, List.nil_append, List.cons_append, List.length_cons, List.length_nil, true_and, and_true, and_self, ne_eq, not_false_eq_true, not_true_eq_false, Classical.not_not, false_or, or_false, true_or, or_true, imp_self, forall_const, forall_eq, implies_true, true_implies, false_implies, Nat.reduceAdd, Nat.reduceLeDiff, Nat.reduceEqDiff, Nat.reduceSub, Int.reduceNeg, Int.reduceEq, Int.reduceLT, Int.reduceLE, Int.reduceNe, Int.reduceAdd, Int.reduceSub, Nat.le_refl, Nat.zero_le, reduceCtorEq, Option.some.injEq, w32_i, MSk_t106 hM, MSk_p0 hM, MSk_t107 hM, MSk_n107 hM, MSk_p1 hM, MSk_t108 hM, MSk_n108 hM, MSk_p2 hM, MSk_t109 hM, MSk_n109 hM, MSk_p3 hM, MSk_t110 hM, MSk_n110 hM, MSk_p4 hM, MSk_t111 hM, MSk_n111 hM, MSk_p5 hM, MSk_t112 hM, MSk_n112 hM, MSk_p13 hM, MSk_t113 hM, MSk_n113 hM, MSk_p14 hM, MSk_t114 hM, MSk_n114 hM, MSk_p15 hM, MSk_t115 hM, MSk_n115 hM, MSk_p16 hM, MSk_t116 hM, MSk_n116 hM, MSk_p18 hM, MSk_t117 hM, MSk_n117 hM, MSk_p20 hM, MSk_t118 hM, MSk_n118 hM, MSk_p21 hM, MSk_t119 hM, MSk_n119 hM, MSk_p22 hM, MSk_t120 hM, MSk_n120 hM, s9, s11]
    refine ⟨fun z => absurd z h2, fun _ => ?_⟩
    refine c_X6_readLine (w := w) (q := o.2) hM (by rw [n]; exact h6) ⟨Int.le_refl _, fun _ => ho.2.1 h1, fun z => absurd rfl z⟩ h3 (fun I2 f2 ho2 hd2 => ?_)
    rw [t, n] at ho2 hd2
    rw [retK_n]
    have nx : SW mi_X6_text 38 (d + 6) Rq [some (vR (some 106)), some (vI (m + 1)), none] [] S I2 := by
      by_cases z : (lineT (J 112) (J 106 6) (I 108) o.2).1 = 0
      · exact ih (m + 1) _ I2 (by omega) (by omega) (frD_trans f f2) ho2 (by rw [hd2 z]; exact h4)
      · cases k with
        | zero =>
          exact ih (m + 1) _ I2 (by omega) (by omega) (frD_trans f f2) ho2 ⟨h4.1, fun y => absurd y z⟩
        | succ k => exact absurd h4.1.1 z
    refine rv_X6_text_56 ?_
    simp +contextual (disch := omega) only [tr_X6_text_56, im_ic, im_lc, im_nul, im_iload, im_lload, im_aload, im_istore, im_astore, im_lstore, im_iinc, im_iadd, im_isub, im_imul, im_iand, im_ior, im_ishl, im_ishr, im_iushr, im_idiv, im_irem, im_ineg, im_i2l, im_l2i, im_i2b, im_i2s, im_ladd, im_lcmp, im_dup, im_pop, im_dup_x1, im_dup2, im_ceq, im_cne, im_clt, im_cge, im_cgt, im_cle, im_zeq, im_zne, im_zlt, im_zge, im_zgt, im_zle, im_ifnull, im_ifnn, im_acmpeq, im_acmpne, im_getI, im_getR, im_putI, im_putZ, im_putR, im_ald, im_iast, im_bast, im_sast, im_zast, im_aald, im_alen, im_new, im_newa, im_newq, im_tsw, im_lsw, tswA, lswA, im_callS_eq, im_callV_eq, chk_i, chk_T, dOk_i, tf_0, tf_n0, tf_1, tf_01, tf_F, tf_T, tf_em, tf_me, ↓reduceIte, Int.zero_add, Int.add_zero, Int.one_mul, Int.mul_one, Int.ediv_one, Int.sub_zero, im_ireturn, im_zreturn, im_areturn, im_return, im_objinit, popI_eq, popII_eq, popJ_eq, popJJ_eq, popR_eq, popRR_eq, popV_eq, popVV_eq, popA_eq, popIA_eq, popIIA_eq, popRA_eq, popRIA_eq, getI, getJ, getR, lget_0, lget_s, nlAt, cat1, wsum, List.set_cons_zero, List.set_cons_succ, List.take_succ_cons, List.take_zero, List.drop_succ_cons, List.drop_zero, List.reverse_cons, List.reverse_nil, List.nil_append, List.cons_append, List.length_cons, List.length_nil, true_and, and_true, and_self, ne_eq, not_false_eq_true, not_true_eq_false, Classical.not_not, false_or, or_false, true_or, or_true, imp_self, forall_const, forall_eq, implies_true, true_implies, false_implies, Nat.reduceAdd, Nat.reduceLeDiff, Nat.reduceEqDiff, Nat.reduceSub, Int.reduceNeg, Int.reduceEq, Int.reduceLT, Int.reduceLE, Int.reduceNe, Int.reduceAdd, Int.reduceSub, Nat.le_refl, Nat.zero_le, reduceCtorEq, Option.some.injEq, w32_i]
    exact nx
theorem flt_pos {f c : Int} {P : Prop} (hf : 0 ≤ f) (hc : 0 ≤ c) : 0 ≤ flt f P c := by unfold flt; split <;> assumption
theorem flt_cg {f c : Int} {P Q : Prop} (h : f = 0 → (P ↔ Q)) : flt f P c = flt f Q c := by
  by_cases z : f = 0
  · rw [propext (h z)]
  · rw [flt_f z, flt_f z]
theorem frX_D {J I : SmI} (h : frD J I) : frX J I := ⟨fun b a1 _ _ a4 _ _ _ _ _ => h.1 b a1 a4, fun k hk _ => h.2 k (by omega)⟩
theorem frX_trans {J I I' : SmI} (h : frX J I) (h2 : frX I I') : frX J I' := ⟨fun b a1 a2 a3 a4 a5 a6 a7 a8 a9 => (h2.1 b a1 a2 a3 a4 a5 a6 a7 a8 a9).trans (h.1 b a1 a2 a3 a4 a5 a6 a7 a8 a9), fun k a b => (h2.2 k a b).trans (h.2 k a b)⟩
theorem frX_T {J I : SmI} (h : frT J I) : frX J I := frX_D (frD_T h)
theorem frX_K {J I : SmI} (h : frK J I) : frX J I := ⟨fun b a1 _ _ _ _ a6 a7 a8 a9 => h.1 b a1 a6 a7 a8 a9, fun k a b => h.2 k b (by omega)⟩
theorem frX_rw {J : SmI} {r : Int → Int} : frX J (rwS J r) := ⟨fun b _ a _ _ _ _ _ _ _ => rwS_ne a, fun k _ _ => by rw [rwS_ne (by decide)]⟩
theorem frX_iB {J : SmI} {lo n : Int} {f : Int → Int} : frX J (iRow J 109 lo n f) := ⟨fun b _ _ a _ _ _ _ _ _ => iRow_ne a, fun k _ _ => by rw [iRow_ne (by decide)]⟩
theorem frX_iS {J : SmI} {lo n : Int} {f : Int → Int} : frX J (iRow J 107 lo n f) := ⟨fun b _ a _ _ _ _ _ _ _ => iRow_ne a, fun k _ _ => by rw [iRow_ne (by decide)]⟩
theorem frX_6 {J : SmI} {x : Int} : frX J (iSet J 106 6 x) := ⟨fun b a _ _ _ _ _ _ _ _ => iSet_ne a, fun k a _ => by rw [iSet_k (by omega)]⟩
theorem frX_kp {J : SmI} {k x : Int} : frX J (iSet J 111 k x) := ⟨fun b _ _ _ _ a _ _ _ _ => iSet_ne a, fun k _ _ => by rw [iSet_ne (by decide)]⟩
/-- all lines are read: the row is taken over and looked at -/
theorem tx_end {d : Nat} {Rq : SmQ} {S : SmS} {I : SmI} {m e : Int} (hM : MSk S) (he : 0 ≤ e ∧ e ≤ 160) (hc : cdS I 0 e) (hD : 0 ≤ I 108 1 ∧ I 108 1 ≤ 4) (hW : allP (nwR (I 107) (I 108)) → WR (nwR (I 107) (I 108)))
  (n1 : whC (nwR (I 107) (I 108)) = 0 → ∀ I' : SmI, frX I I' → I' 107 = nwR (I 107) (I 108) → I' 106 6 = 0 → I' 106 11 = 0 → I' 111 0 = 0 → I' 111 1 = 0 → Rq (.inl (some (vI m))) S I')
  (n2 : whC (nwR (I 107) (I 108)) ≠ 0 → ∀ I' : SmI, frX I I' → I' 107 = I 107 → I' 106 6 = 0 → I' 106 11 = whC (nwR (I 107) (I 108)) → I' 111 = I 111 → Rq (.inl (some (vI (-10 - e)))) S I') :
  SC mi_X6_keepBefore (d + 5) [vR (some 106)] S I (retK mi_X6_text 70 73 (d + 6) Rq [some (vR (some 106)), some (vI m), none] []) := by
  refine c_X6_keepBefore hM ?_
  rw [retK_n]
  have e1 : iRow I 109 0 238 (I 107) 107 = I 107 := iRow_ne (by decide)
  have ed : iRow I 109 0 238 (I 107) 108 = I 108 := iRow_ne (by decide)
  have ek : iRow I 109 0 238 (I 107) 111 = I 111 := iRow_ne (by decide)
  have em : iRow I 109 0 238 (I 107) 106 = I 106 := iRow_ne (by decide)
  have b1 : ∀ c : Int, 0 ≤ c → c < 238 → iRow I 109 0 238 (I 107) 109 c = I 107 c := fun c c0 c1 => by unfold iRow; rw [if_pos ⟨rfl, c0, by omega⟩, Int.sub_zero]
  have f1 : frX I (iRow I 109 0 238 (I 107)) := frX_iB
  generalize iRow I 109 0 238 (I 107) = I1 at *
  have hc1 : cdS I1 0 e := by unfold cdS; rw [em]; exact hc
  refine tx_73 hM hc1 (by rw [ed]; exact hD) (fun I2 x f2 c2 => ?_)
  rw [e1, ed] at f2 c2
  obtain ⟨r, hr⟩ : ∃ r, r = nwR (I 107) (I 108) := ⟨_, rfl⟩
  rw [← hr] at f2 c2 n1 n2 hW
  have s2 : I2 107 = r := (f2.1 107 (by decide)).trans rwS_st
  have k2 : I2 111 = I 111 := (f2.1 111 (by decide)).trans ((rwS_ne (by decide)).trans ek)
  have d2 : I2 109 = I1 109 := (f2.1 109 (by decide)).trans (rwS_ne (by decide))
  have g2 : frX I I2 := frX_trans f1 (frX_trans frX_rw (frX_T f2))
  have w2 : flt 0 (allP r) 6 = 0 → WR r := fun z => hW (Classical.byContradiction fun y => by rw [flt_n rfl y] at z; omega)
  have p2 : 0 ≤ flt 0 (allP r) 6 := flt_pos (by omega) (by omega)
  refine tx_110 hM c2 p2 (fun z => by rw [s2]; exact w2 z) (fun I3 f3 c3 => ?_)
  have s3 : I3 107 = r := (f3.1 107 (by decide) (by decide) (by decide) (by decide) (by decide)).trans s2
  have k3 : I3 111 = I 111 := (f3.1 111 (by decide) (by decide) (by decide) (by decide) (by decide)).trans k2
  have d3 : I3 109 = I1 109 := (f3.1 109 (by decide) (by decide) (by decide) (by decide) (by decide)).trans d2
  rw [flt_cg (Q := hldA (rS r)) (fun z => hldA_cg (J' := rS r) s2 (by rw [s2]; exact (w2 z).1.2.1))] at c3
  refine tx_135 hM c3 (flt_pos p2 (by omega)) (fun z => by
    rw [s3]
    refine w2 (Classical.byContradiction fun y => ?_)
    rw [flt_f y] at z
    exact y z) (fun I4 f4 c4 => ?_)
  have s4 : I4 107 = r := (f4.1 107 (by decide) (by decide) (by decide) (by decide) (by decide)).trans s3
  have k4 : I4 111 = I 111 := (f4.1 111 (by decide) (by decide) (by decide) (by decide) (by decide)).trans k3
  have d4 : I4 109 = I1 109 := (f4.1 109 (by decide) (by decide) (by decide) (by decide) (by decide)).trans d3
  have g4 : frX I I4 := frX_trans g2 (frX_trans (frX_K f3) (frX_K f4))
  rw [s3] at c4
  have ew : flt (flt (flt 0 (allP r) 6) (hldA (rS r)) 7) (SF r) 8 = whC r := rfl
  rw [ew] at c4
  have pw : 0 ≤ whC r := by rw [← ew]; exact flt_pos (flt_pos p2 (by omega)) (by omega)
  obtain ⟨c41, c42, c43⟩ := c4
  refine tx_160 hM (by rw [c41]; exact pw) (fun z => ?_) (fun z => ?_)
  · rw [c41] at z
    refine tx_171 hM ⟨by rw [c41]; exact pw, fun y => by rw [c41] at y; omega⟩ (fun _ => ?_) (fun y => by rw [c41] at y; omega)
    exact n1 z _ (frX_trans g4 (frX_trans frX_6 (frX_trans frX_kp frX_kp))) (by rw [iSet_ne (by decide), iSet_ne (by decide), iSet_ne (by decide), s4]) (by rw [iSet_ne (by decide), iSet_ne (by decide), iSet_eq]) (by rw [iSet_ne (by decide), iSet_ne (by decide), iSet_k (by omega), c41, z]) (by rw [iSet_k (by omega), iSet_eq]) iSet_eq
  · rw [c41] at z
    have m4 : iRow I4 107 0 238 (I4 109) 106 = I4 106 := iRow_ne (by decide)
    have c12 := c42 (by omega)
    refine tx_171 hM ⟨by rw [m4, c41]; exact pw, fun _ => by rw [m4, c12]; exact he⟩ (fun y => by rw [m4, c41] at y; omega) (fun _ => ?_)
    rw [m4, c12]
    refine n2 (by omega) _ (frX_trans g4 (frX_trans frX_iS frX_6)) ?_ iSet_eq (by rw [iSet_k (by omega), m4, c41]) (by rw [iSet_ne (by decide), iRow_ne (by decide), k4])
    rw [iSet_ne (by decide)]
    funext c
    unfold iRow
    by_cases y : 0 ≤ c ∧ c < 238
    · rw [if_pos ⟨rfl, y.1, by omega⟩, Int.sub_zero, d4, b1 c y.1 y.2]
    · rw [if_neg (fun v => y ⟨v.2.1, by have := v.2.2; omega⟩), s4, hr]
      exact if_neg y
theorem b_X6_text {d : Nat} {Rq : SmQ} {S : SmS} {I : SmI} {k0 : Nat} {o' : Int × Int} {D' : Int → Int} (hM : MSk S) (h6 : 0 ≤ I 106 6 ∧ I 106 6 ≤ 160) (hk : k0 < 1000) (hlr : lnR (I 112) (I 106 6) k0 (fsT (I 112) (I 106 6)) (fun c => if 0 ≤ c ∧ c < 238 then 0 else I 108 c) o' D') (hp : o'.1 ≠ 0 → 0 ≤ o'.2 ∧ o'.2 ≤ 160) (hD : o'.1 = 0 → 0 ≤ D' 1 ∧ D' 1 ≤ 4) (hW : o'.1 = 0 → allP (nwR (I 107) D') → WR (nwR (I 107) D')) (nF : o'.1 ≠ 0 → ∀ I' : SmI, frX I I' → I' 107 = I 107 → I' 106 6 = 0 → I' 106 11 = o'.1 → I' 111 = I 111 → Rq (.inl (some (vI (-10 - o'.2)))) S I') (nW : o'.1 = 0 → whC (nwR (I 107) D') ≠ 0 → ∀ I' : SmI, frX I I' → I' 107 = I 107 → I' 106 6 = 0 → I' 106 11 = whC (nwR (I 107) D') → I' 111 = I 111 → Rq (.inl (some (vI (-10 - lxB (I 112) (I 106 6) o'.2)))) S I') (nR : o'.1 = 0 → whC (nwR (I 107) D') = 0 → ∀ I' : SmI, frX I I' → I' 107 = nwR (I 107) D' → I' 106 6 = 0 → I' 106 11 = 0 → I' 111 0 = 0 → I' 111 1 = 0 → Rq (.inl (some (vI k0))) S I') : SW mi_X6_text 0 (d + 6) Rq [some (vR (some 106)), none, none] [] S I := by
  refine tx_0 hM (fun I1 f1 h7 h11 hd => ?_)
  have n6 : I1 106 6 = I 106 6 := f1.2 6 (by omega)
  refine c_X6_reads hM (by omega) (by omega) (by omega) h11 (fun I2 hx => ?_)
  have ho := lxR_f f1 h7 (by omega) hx
  have f2 : frD I I2 := frD_trans f1 (frD_T hx.1)
  have d2 : I2 108 = (fun c => if 0 ≤ c ∧ c < 238 then 0 else I 108 c) := by rw [hx.1.1 108 (by decide)]; funext c; exact hd c
  rw [retK_n]
  have l := tx_lines (d := d) (Rq := Rq) (J := I) (w := I1 106 12) (o' := o') (D' := D') (K := k0) hM h6.2 hk (fun m I3 f3 ho3 hz => ?_) (fun I3 f3 ho3 hz hd3 => ?_) k0 0 (fsT (I 112) (I 106 6)) I2 (by omega) (by omega) f2 ho (by rw [d2]; exact hlr)
  · refine SW_as l ?_ (by first | rfl | grind) (by first | rfl | grind) (by first | rfl | grind)
    simp only [leL_nil, leL_none, leL_some, Option.some.injEq, vI_inj, vR_inj, true_and, and_true]
    try grind
  · have hh := ho3.2.2 hz
    have hpz := ho3.1
    have st3 : I3 107 = I 107 := f3.1 107 (by decide) (by decide)
    have k3 : I3 111 = I 111 := f3.1 111 (by decide) (by decide)
    refine tx_171 hM ⟨by rw [hh.1]; exact hpz, fun _ => by rw [hh.2]; exact hp hz⟩ (fun y => absurd (by rw [← hh.1]; exact y) hz) (fun _ => ?_)
    rw [hh.2]
    exact nF hz _ (frX_trans (frX_D f3) frX_6) (by rw [iSet_ne (by decide), st3]) iSet_eq (by rw [iSet_k (by omega), hh.1]) (by rw [iSet_ne (by decide), k3])
  · have st3 : I3 107 = I 107 := f3.1 107 (by decide) (by decide)
    have k3 : I3 111 = I 111 := f3.1 111 (by decide) (by decide)
    have t3 : I3 112 = I 112 := f3.1 112 (by decide) (by decide)
    have n3 : I3 106 6 = I 106 6 := f3.2 6 (by omega)
    have tk := (ho3.2.1 hz).1
    have li := lx_in (T := I3 112) tk.1.1 tk.1.2
    have q0 := tk.1
    have e8 := tk.2.2.1
    rw [t3, n3] at e8 li
    refine tx_end hM (e := lxB (I 112) (I 106 6) o'.2) (by omega) ⟨tk.2.2.2.2.2, fun y => absurd rfl y, e8⟩ (by rw [hd3]; exact hD hz) (by rw [hd3, st3]; exact hW hz) (fun hw I4 f4 s4 => ?_) (fun hw I4 f4 s4 => ?_)
    · rw [hd3, st3] at hw s4
      exact nR hz hw I4 (frX_trans (frX_D f3) f4) s4
    · rw [hd3, st3] at hw
      rw [st3] at s4
      intro a b c
      rw [hd3, st3] at b
      exact nW hz hw I4 (frX_trans (frX_D f3) f4) s4 a b (c.trans k3)
theorem c_X6_text {d : Nat} {Rq : SmQ} {S : SmS} {I : SmI} {k0 : Nat} {o' : Int × Int} {D' : Int → Int} (hM : MSk S) (h6 : 0 ≤ I 106 6 ∧ I 106 6 ≤ 160) (hk : k0 < 1000) (hlr : lnR (I 112) (I 106 6) k0 (fsT (I 112) (I 106 6)) (fun c => if 0 ≤ c ∧ c < 238 then 0 else I 108 c) o' D') (hp : o'.1 ≠ 0 → 0 ≤ o'.2 ∧ o'.2 ≤ 160) (hD : o'.1 = 0 → 0 ≤ D' 1 ∧ D' 1 ≤ 4) (hW : o'.1 = 0 → allP (nwR (I 107) D') → WR (nwR (I 107) D')) (nF : o'.1 ≠ 0 → ∀ I' : SmI, frX I I' → I' 107 = I 107 → I' 106 6 = 0 → I' 106 11 = o'.1 → I' 111 = I 111 → Rq (.inl (some (vI (-10 - o'.2)))) S I') (nW : o'.1 = 0 → whC (nwR (I 107) D') ≠ 0 → ∀ I' : SmI, frX I I' → I' 107 = I 107 → I' 106 6 = 0 → I' 106 11 = whC (nwR (I 107) D') → I' 111 = I 111 → Rq (.inl (some (vI (-10 - lxB (I 112) (I 106 6) o'.2)))) S I') (nR : o'.1 = 0 → whC (nwR (I 107) D') = 0 → ∀ I' : SmI, frX I I' → I' 107 = nwR (I 107) D' → I' 106 6 = 0 → I' 106 11 = 0 → I' 111 0 = 0 → I' 111 1 = 0 → Rq (.inl (some (vI k0))) S I') : SC mi_X6_text (d + 6) [vR (some 106)] S I Rq := SC_of0 (Nat.le_of_ble_eq_true rfl) (b_X6_text (S := sBud S 0 0) hM h6 hk hlr hp hD hW nF nW nR)