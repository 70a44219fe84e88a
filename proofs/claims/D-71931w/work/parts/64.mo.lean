/-! the model adds, drops, draws, reads -/
set_option maxRecDepth 100000
def goodT (r : Int → Int) (a b n : Int) : Prop := (0 ≤ a ∧ a < r 0) ∧ (0 ≤ b ∧ b < r 0) ∧ a ≠ b ∧ 1 ≤ n ∧ n ≤ 20
/-- one more train -/
def gAdd (r : Int → Int) (a b n : Int) : Int → Int := fun c => if c = 1 then r 1 + 1 else if c = 34 + 6 * r 1 then a else if c = 34 + 6 * r 1 + 1 then b else if c = 34 + 6 * r 1 + 2 then n else if c = 34 + 6 * r 1 + 3 then a else if c = 34 + 6 * r 1 + 4 then 0 else if c = 34 + 6 * r 1 + 5 then -4 else r c
theorem gAdd_1 {r : Int → Int} {a b n : Int} : gAdd r a b n 1 = r 1 + 1 := if_pos rfl
theorem gAdd_o {r : Int → Int} {a b n c : Int} (h1 : c ≠ 1) (h : c < 34 + 6 * r 1 ∨ 34 + 6 * r 1 + 6 ≤ c) : gAdd r a b n c = r c := by
  unfold gAdd
  rw [if_neg h1, if_neg (by omega), if_neg (by omega), if_neg (by omega), if_neg (by omega), if_neg (by omega), if_neg (by omega)]
theorem gAdd_t {r : Int → Int} {a b n : Int} (h : 0 ≤ r 1) : gAdd r a b n (34 + 6 * r 1) = a ∧ gAdd r a b n (34 + 6 * r 1 + 1) = b ∧ gAdd r a b n (34 + 6 * r 1 + 2) = n ∧ gAdd r a b n (34 + 6 * r 1 + 3) = a ∧ gAdd r a b n (34 + 6 * r 1 + 4) = 0 ∧ gAdd r a b n (34 + 6 * r 1 + 5) = -4 := by
  unfold gAdd
  refine ⟨?_, ?_, ?_, ?_, ?_, ?_⟩
  · rw [if_neg (by omega), if_pos rfl]
  · rw [if_neg (by omega), if_neg (by omega), if_pos rfl]
  · rw [if_neg (by omega), if_neg (by omega), if_neg (by omega), if_pos rfl]
  · rw [if_neg (by omega), if_neg (by omega), if_neg (by omega), if_neg (by omega), if_pos rfl]
  · rw [if_neg (by omega), if_neg (by omega), if_neg (by omega), if_neg (by omega), if_neg (by omega), if_pos rfl]
  · rw [if_neg (by omega), if_neg (by omega), if_neg (by omega), if_neg (by omega), if_neg (by omega), if_neg (by omega), if_pos rfl]
theorem WR_add {r : Int → Int} (h : WR r) {a b n : Int} (h4 : r 1 < 4) (hg : goodT r a b n) : WR (gAdd r a b n) := by
  have hn := h.1
  obtain ⟨t0, t1, t2, t3, t4, t5⟩ := gAdd_t (r := r) (a := a) (b := b) (n := n) hn.2.1.1
  have e0 : gAdd r a b n 0 = r 0 := gAdd_o (by omega) (by omega)
  have e2 : gAdd r a b n 2 = r 2 := gAdd_o (by omega) (by omega)
  have e3 : gAdd r a b n 3 = r 3 := gAdd_o (by omega) (by omega)
  obtain ⟨g1, g2, g3, g4, g5⟩ := hg
  refine ⟨by rw [e0, gAdd_1, e2, e3]; omega, fun p p0 p1 => ?_, fun p p0 p1 => ?_, fun u u0 u1 => ?_⟩
  · have q := h.2.1 p p0 p1
    refine ⟨by rw [gAdd_o (by omega) (by omega)]; exact q.1, fun j j0 j1 => by rw [gAdd_o (by omega) (by omega)]; exact q.2.1 j j0 j1, by rw [gAdd_o (by omega) (by omega)]; exact q.2.2⟩
  · rw [e0] at p1
    rw [gAdd_o (by omega) (by omega), gAdd_o (by omega) (by omega)]
    exact h.2.2.1 p p0 p1
  · rw [gAdd_1] at u1
    unfold WRt
    rw [e0, e2]
    by_cases e : u = r 1
    · rw [e, t0, t1, t2, t3, t4, t5]
      omega
    · have w := h.2.2.2 u u0 (by omega)
      unfold WRt at w
      rw [gAdd_o (by omega) (by omega), gAdd_o (by omega) (by omega), gAdd_o (by omega) (by omega), gAdd_o (by omega) (by omega), gAdd_o (by omega) (by omega), gAdd_o (by omega) (by omega)]
      exact w
/-- the new train is refused again -/
def gUn (r : Int → Int) (k : Int) : Int → Int := fun c => if c = 1 then k else r c
theorem gUn_1 {r : Int → Int} {k : Int} : gUn r k 1 = k := if_pos rfl
theorem gUn_o {r : Int → Int} {k c : Int} (h : c ≠ 1) : gUn r k c = r c := if_neg h
def adOk (r : Int → Int) : Prop := hldA (rS r) ∧ SF r
noncomputable def adR (r : Int → Int) (a b n : Int) : Int → Int := by
  classical exact if goodT r a b n ∧ r 1 < 4 then (if adOk (gAdd r a b n) then gAdd r a b n else gUn (gAdd r a b n) (r 1)) else r
noncomputable def adV (r : Int → Int) (a b n : Int) : Int := by
  classical exact if ¬ goodT r a b n then -1 else if r 1 = 4 then -3 else if adOk (gAdd r a b n) then r 1 + 1 else -2
theorem hldA_cg {J J' : SmI} (h : J 107 = J' 107) (h4 : 0 ≤ J 107 1 ∧ J 107 1 ≤ 4) : hldA J ↔ hldA J' := by
  unfold hldA allTo
  rw [← h, pNow_cg h]
  refine forall_congr' fun p => forall_congr' fun _ => ?_
  exact mHold_congr (by rw [jS107, jS107, h]) (by rw [jS107]; exact h4.2) (fun k _ _ => by rw [jS113, jS113]) (by omega)
theorem b_X6_add {d : Nat} {Rq : SmQ} {S : SmS} {I : SmI} {a b n : Int} (hM : MSk S) (hW : WR (I 107)) (hR : ∀ I' : SmI, frM I I' → I' 109 = I 109 → I' 107 = adR (I 107) a b n → Rq (.inl (some (vI (adV (I 107) a b n)))) S I') : SW mi_X6_add 0 (d + 6) Rq [some (vR (some 106)), some (vI a), some (vI b), some (vI n), none] [] S I := by
  have h4 := hW.1
  refine rv_X6_add_0 ?_
  simp +contextual (disch := omega) only [tr_X6_add_0, im_ic, im_lc, im_nul, im_iload, im_lload, im_aload, im_istore, im_astore, im_lstore, im_iinc, im_iadd, im_isub, im_imul, im_iand, im_ior, im_ishl, im_ishr, im_iushr, im_idiv, im_irem, im_ineg, im_i2l, im_l2i, im_i2b, im_i2s, im_ladd, im_lcmp, im_dup, im_pop, im_dup_x1, im_dup2, im_ceq, im_cne, im_clt, im_cge, im_cgt, im_cle, im_zeq, im_zne, im_zlt, im_zge, im_zgt, im_zle, im_ifnull, im_ifnn, im_acmpeq, im_acmpne, im_getI, im_getR, im_putI, im_putZ, im_putR, im_ald, im_iast, im_bast, im_sast, im_zast, im_aald, im_alen, im_new, im_newa, im_newq, im_tsw, im_lsw, tswA, lswA, im_callS_eq, im_callV_eq, chk_i, chk_T, dOk_i, tf_0, tf_n0, tf_1, tf_01, tf_F, tf_T, tf_em, tf_me, ↓reduceIte, Int.zero_add, Int.add_zero, Int.one_mul, Int.mul_one, Int.ediv_one, Int.sub_zero, im_ireturn, im_zreturn, im_areturn, im_return, im_objinit, popI_eq, popII_eq, popJ_eq, popJJ_eq, popR_eq, popRR_eq, popV_eq, popVV_eq, popA_eq, popIA_eq, popIIA_eq, popRA_eq, popRIA_eq, getI, getJ, getR, lget_0, lget_s, nlAt, cat1, wsum, List.set_cons_zero, List.set_cons_succ, List.take_succ_cons, List.take_zero, List.drop_succ_cons, List.drop_zero, List.reverse_cons, List.reverse_nil, List.nil_append, List.cons_append, List.length_cons, List.length_nil, true_and, and_true, and_self, ne_eq, not_false_eq_true, not_true_eq_false, Classical.not_not, false_or, or_false, true_or, or_true, imp_self, forall_const, forall_eq, implies_true, true_implies, false_implies, Nat.reduceAdd, Nat.reduceLeDiff, Nat.reduceEqDiff, Nat.reduceSub, Int.reduceNeg, Int.reduceEq, Int.reduceLT, Int.reduceLE, Int.reduceNe, Int.reduceAdd, Int.reduceSub, Nat.le_refl, Nat.zero_le, reduceCtorEq, Option.some.injEq, w32_i, MSk_t106 hM, MSk_p0 hM, MSk_t107 hM, MSk_n107 hM, MSk_p1 hM, MSk_t108 hM, MSk_n108 hM, MSk_p2 hM, MSk_t109 hM, MSk_n109 hM, MSk_p3 hM, MSk_t110 hM, MSk_n110 hM, MSk_p4 hM, MSk_t111 hM, MSk_n111 hM, MSk_p5 hM, MSk_t112 hM, MSk_n112 hM, MSk_p13 hM, MSk_t113 hM, MSk_n113 hM, MSk_p14 hM, MSk_t114 hM, MSk_n114 hM, MSk_p15 hM, MSk_t115 hM, MSk_n115 hM, MSk_p16 hM, MSk_t116 hM, MSk_n116 hM, MSk_p18 hM, MSk_t117 hM, MSk_n117 hM, MSk_p20 hM, MSk_t118 hM, MSk_n118 hM, MSk_p21 hM, MSk_t119 hM, MSk_n119 hM, MSk_p22 hM, MSk_t120 hM, MSk_n120 hM, hM, im_p_X6_isGood, iSet_ne, iSet_k]
  unfold adR adV at hR
  have bad := fun z : ¬ (goodT (I 107) a b n ∧ I 107 1 < 4) => hR I frM_refl rfl (by rw [if_neg z])
  refine ⟨fun g => ⟨fun h => ?_, fun h => ?_⟩, fun g => ?_⟩
  · have hlt : I 107 1 < 4 := by omega
    have e : iSet (iSet (iSet (iSet (iSet (iSet (iSet I 107 (34 + 6 * I 107 1) a) 107 (34 + 6 * I 107 1 + 1) b) 107 (34 + 6 * I 107 1 + 2) n) 107 (34 + 6 * I 107 1 + 3) a) 107 (34 + 6 * I 107 1 + 4) 0) 107 (34 + 6 * I 107 1 + 5) (-4)) 107 1 (I 107 1 + 1) = rwS I (gAdd (I 107) a b n) := by
      refine rwS_eq ?_ (fun b hb => by rw [iSet_ne hb, iSet_ne hb, iSet_ne hb, iSet_ne hb, iSet_ne hb, iSet_ne hb, iSet_ne hb])
      obtain ⟨t0, t1, t2, t3, t4, t5⟩ := gAdd_t (r := I 107) (a := a) (b := b) (n := n) h4.2.1.1
      funext c
      by_cases c1 : c = 1
      · rw [c1, iSet_eq, gAdd_1]
      · rw [iSet_k c1]
        by_cases q : c < 34 + 6 * I 107 1 ∨ 34 + 6 * I 107 1 + 6 ≤ c
        · rw [iSet_k (by omega), iSet_k (by omega), iSet_k (by omega), iSet_k (by omega), iSet_k (by omega), iSet_k (by omega), gAdd_o c1 q]
        · obtain ⟨w, w0, w1, rfl⟩ : ∃ w : Int, 0 ≤ w ∧ w < 6 ∧ c = 34 + 6 * I 107 1 + w := ⟨c - (34 + 6 * I 107 1), by omega, by omega, by omega⟩
          have hw : w = 0 ∨ w = 1 ∨ w = 2 ∨ w = 3 ∨ w = 4 ∨ w = 5 := by omega
          rcases hw with rfl | rfl | rfl | rfl | rfl | rfl
          · rw [Int.add_zero, iSet_k (by omega), iSet_k (by omega), iSet_k (by omega), iSet_k (by omega), iSet_k (by omega), iSet_eq, t0]
          · rw [iSet_k (by omega), iSet_k (by omega), iSet_k (by omega), iSet_k (by omega), iSet_eq, t1]
          · rw [iSet_k (by omega), iSet_k (by omega), iSet_k (by omega), iSet_eq, t2]
          · rw [iSet_k (by omega), iSet_k (by omega), iSet_eq, t3]
          · rw [iSet_k (by omega), iSet_eq, t4]
          · rw [iSet_eq, t5]
    rw [e]
    have wr := WR_add (a := a) (b := b) (n := n) hW hlt g
    have h1a : gAdd (I 107) a b n 1 = I 107 1 + 1 := gAdd_1
    simp only [if_pos (show goodT (I 107) a b n ∧ I 107 1 < 4 from ⟨g, hlt⟩), if_neg (show ¬ ¬ goodT (I 107) a b n from fun z => z g), if_neg h] at hR
    have un : ∀ I4 : SmI, frM I I4 → I4 109 = I 109 → I4 107 = gAdd (I 107) a b n → ¬ adOk (gAdd (I 107) a b n) → SW mi_X6_add 124 (d + 6) Rq [some (vR (some 106)), some (vI a), some (vI b), some (vI n), some (vI (34 + 6 * I 107 1))] [] S I4 := by
      intro I4 g1 g2 g3 hno
      have h9 := hR (iSet I4 107 1 (I 107 1)) ⟨fun b a1 a2 a3 a4 a5 a6 a7 a8 => by rw [iSet_ne a2]; exact g1.1 b a1 a2 a3 a4 a5 a6 a7 a8, fun k a1 a2 => by rw [iSet_ne (by decide)]; exact g1.2 k a1 a2⟩ (by rw [iSet_ne (by decide), g2]) (by
        rw [if_neg hno]
        funext c
        by_cases c1 : c = 1
        · rw [c1, iSet_eq, gUn_1]
        · rw [iSet_k c1, gUn_o c1, g3])
      rw [if_neg hno] at h9
      refine rv_X6_add_124 ?_
      simp +contextual (disch := omega) only [tr_X6_add_124, im_ic, im_lc, im_nul, im_iload, im_lload, im_aload, im_istore, im_astore, im_lstore, im_iinc, im_iadd, im_isub, im_imul, im_iand, im_ior, im_ishl, im_ishr, im_iushr, im_idiv, im_irem, im_ineg, im_i2l, im_l2i, im_i2b, im_i2s, im_ladd, im_lcmp, im_dup, im_pop, im_dup_x1, im_dup2, im_ceq, im_cne, im_clt, im_cge, im_cgt, im_cle, im_zeq, im_zne, im_zlt, im_zge, im_zgt, im_zle, im_ifnull, im_ifnn, im_acmpeq, im_acmpne, im_getI, im_getR, im_putI, im_putZ, im_putR, im_ald, im_iast, im_bast, im_sast, im_zast, im_aald, im_alen, im_new, im_newa, im_newq, im_tsw, im_lsw, tswA, lswA, im_callS_eq, im_callV_eq, chk_i, chk_T, dOk_i, tf_0, tf_n0, tf_1, tf_01, tf_F, tf_T, tf_em, tf_me, ↓reduceIte, Int.zero_add, Int.add_zero, Int.one_mul, Int.mul_one, Int.ediv_one, Int.sub_zero, im_ireturn, im_zreturn, im_areturn, im_return, im_objinit, popI_eq, popII_eq, popJ_eq, popJJ_eq, popR_eq, popRR_eq, popV_eq, popVV_eq, popA_eq, popIA_eq, popIIA_eq, popRA_eq, popRIA_eq, getI, getJ, getR, lget_0, lget_s, nlAt, cat1, wsum, List.set_cons_zero, List.set_cons_succ, List.take_succ_cons, List.take_zero, List.drop_succ_cons, List.drop_zero, List.reverse_cons, List.reverse_nil, List.nil_append, List.cons_append, List.length_cons, List.length_nil, true_and, and_true, and_self, ne_eq, not_false_eq_true, not_true_eq_false, Classical.not_not, false_or, or_false, true_or, or_true, imp_self, forall_const, forall_eq, implies_true, true_implies, false_implies, Nat.reduceAdd, Nat.reduceLeDiff, Nat.reduceEqDiff, Nat.reduceSub, Int.reduceNeg, Int.reduceEq, Int.reduceLT, Int.reduceLE, Int.reduceNe, Int.reduceAdd, Int.reduceSub, Nat.le_refl, Nat.zero_le, reduceCtorEq, Option.some.injEq, w32_i, MSk_t106 hM, MSk_p0 hM, MSk_t107 hM, MSk_n107 hM, MSk_p1 hM, MSk_t108 hM, MSk_n108 hM, MSk_p2 hM, MSk_t109 hM, MSk_n109 hM, MSk_p3 hM, MSk_t110 hM, MSk_n110 hM, MSk_p4 hM, MSk_t111 hM, MSk_n111 hM, MSk_p5 hM, MSk_t112 hM, MSk_n112 hM, MSk_p13 hM, MSk_t113 hM, MSk_n113 hM, MSk_p14 hM, MSk_t114 hM, MSk_n114 hM, MSk_p15 hM, MSk_t115 hM, MSk_n115 hM, MSk_p16 hM, MSk_t116 hM, MSk_n116 hM, MSk_p18 hM, MSk_t117 hM, MSk_n117 hM, MSk_p20 hM, MSk_t118 hM, MSk_n118 hM, MSk_p21 hM, MSk_t119 hM, MSk_n119 hM, MSk_p22 hM, MSk_t120 hM, MSk_n120 hM, g3, h1a, Int.add_sub_cancel]
      exact h9
    refine c_X6_isHeldAll hM (by rw [rwS_st]; exact wr) (fun I2 f2 => ?_)
    rw [retK_v]
    have e2 : I2 107 = gAdd (I 107) a b n := (f2 107 (by decide)).trans rwS_st
    have f2' : frM I I2 := frM_trans frM_rw (frM_sp f2)
    have b2 : I2 109 = I 109 := (f2 109 (by decide)).trans (rwS_ne (by decide))
    have hw2 : hldA (rwS I (gAdd (I 107) a b n)) ↔ hldA (rS (gAdd (I 107) a b n)) := hldA_cg rwS_st (by rw [rwS_st, h1a]; omega)
    refine rv_X6_add_114 ?_
    simp +contextual (disch := omega) only [tr_X6_add_114, im_ic, im_lc, im_nul, im_iload, im_lload, im_aload, im_istore, im_astore, im_lstore, im_iinc, im_iadd, im_isub, im_imul, im_iand, im_ior, im_ishl, im_ishr, im_iushr, im_idiv, im_irem, im_ineg, im_i2l, im_l2i, im_i2b, im_i2s, im_ladd, im_lcmp, im_dup, im_pop, im_dup_x1, im_dup2, im_ceq, im_cne, im_clt, im_cge, im_cgt, im_cle, im_zeq, im_zne, im_zlt, im_zge, im_zgt, im_zle, im_ifnull, im_ifnn, im_acmpeq, im_acmpne, im_getI, im_getR, im_putI, im_putZ, im_putR, im_ald, im_iast, im_bast, im_sast, im_zast, im_aald, im_alen, im_new, im_newa, im_newq, im_tsw, im_lsw, tswA, lswA, im_callS_eq, im_callV_eq, chk_i, chk_T, dOk_i, tf_0, tf_n0, tf_1, tf_01, tf_F, tf_T, tf_em, tf_me, ↓reduceIte, Int.zero_add, Int.add_zero, Int.one_mul, Int.mul_one, Int.ediv_one, Int.sub_zero, im_ireturn, im_zreturn, im_areturn, im_return, im_objinit, popI_eq, popII_eq, popJ_eq, popJJ_eq, popR_eq, popRR_eq, popV_eq, popVV_eq, popA_eq, popIA_eq, popIIA_eq, popRA_eq, popRIA_eq, getI, getJ, getR, lget_0, lget_s, nlAt, cat1, wsum, List.set_cons_zero, List.set_cons_succ, List.take_succ_cons, List.take_zero, List.drop_succ_cons, List.drop_zero, List.reverse_cons, List.reverse_nil, List.nil_append, List.cons_append, List.length_cons, List.length_nil, true_and, and_true, and_self, ne_eq, not_false_eq_true, not_true_eq_false, Classical.not_not, false_or, or_false, true_or, or_true, imp_self, forall_const, forall_eq, implies_true, true_implies, false_implies, Nat.reduceAdd, Nat.reduceLeDiff, Nat.reduceEqDiff, Nat.reduceSub, Int.reduceNeg, Int.reduceEq, Int.reduceLT, Int.reduceLE, Int.reduceNe, Int.reduceAdd, Int.reduceSub, Nat.le_refl, Nat.zero_le, reduceCtorEq, Option.some.injEq, w32_i, MSk_t106 hM, MSk_p0 hM, MSk_t107 hM, MSk_n107 hM, MSk_p1 hM, MSk_t108 hM, MSk_n108 hM, MSk_p2 hM, MSk_t109 hM, MSk_n109 hM, MSk_p3 hM, MSk_t110 hM, MSk_n110 hM, MSk_p4 hM, MSk_t111 hM, MSk_n111 hM, MSk_p5 hM, MSk_t112 hM, MSk_n112 hM, MSk_p13 hM, MSk_t113 hM, MSk_n113 hM, MSk_p14 hM, MSk_t114 hM, MSk_n114 hM, MSk_p15 hM, MSk_t115 hM, MSk_n115 hM, MSk_p16 hM, MSk_t116 hM, MSk_n116 hM, MSk_p18 hM, MSk_t117 hM, MSk_n117 hM, MSk_p20 hM, MSk_t118 hM, MSk_n118 hM, MSk_p21 hM, MSk_t119 hM, MSk_n119 hM, MSk_p22 hM, MSk_t120 hM, MSk_n120 hM]
    refine ⟨fun q => un I2 f2' b2 e2 (fun z => q (hw2.mpr z.1)), fun q => ?_⟩
    refine c_X6_isSafeNow hM (by rw [e2]; exact wr) (fun I3 f3 => ?_)
    rw [retK_v]
    have e3 : I3 107 = gAdd (I 107) a b n := (frE_st f3).trans e2
    have f3' : frM I I3 := frM_trans f2' (frM_E f3)
    have b3 : I3 109 = I 109 := (f3.1 109 (by decide) (by decide) (by decide) (by decide) (by decide)).trans b2
    have hsf : safP I2 (pNow I2) ↔ SF (gAdd (I 107) a b n) := by
      unfold SF
      rw [pNow_cg (J' := rS (gAdd (I 107) a b n)) e2]
      exact safP_congr e2 (by rw [e2, h1a]; omega)
    refine rv_X6_add_121 ?_
    simp +contextual (disch := omega) only [tr_X6_add_121, im_ic, im_lc, im_nul, im_iload, im_lload, im_aload, im_istore, im_astore, im_lstore, im_iinc, im_iadd, im_isub, im_imul, im_iand, im_ior, im_ishl, im_ishr, im_iushr, im_idiv, im_irem, im_ineg, im_i2l, im_l2i, im_i2b, im_i2s, im_ladd, im_lcmp, im_dup, im_pop, im_dup_x1, im_dup2, im_ceq, im_cne, im_clt, im_cge, im_cgt, im_cle, im_zeq, im_zne, im_zlt, im_zge, im_zgt, im_zle, im_ifnull, im_ifnn, im_acmpeq, im_acmpne, im_getI, im_getR, im_putI, im_putZ, im_putR, im_ald, im_iast, im_bast, im_sast, im_zast, im_aald, im_alen, im_new, im_newa, im_newq, im_tsw, im_lsw, tswA, lswA, im_callS_eq, im_callV_eq, chk_i, chk_T, dOk_i, tf_0, tf_n0, tf_1, tf_01, tf_F, tf_T, tf_em, tf_me, ↓reduceIte, Int.zero_add, Int.add_zero, Int.one_mul, Int.mul_one, Int.ediv_one, Int.sub_zero, im_ireturn, im_zreturn, im_areturn, im_return, im_objinit, popI_eq, popII_eq, popJ_eq, popJJ_eq, popR_eq, popRR_eq, popV_eq, popVV_eq, popA_eq, popIA_eq, popIIA_eq, popRA_eq, popRIA_eq, getI, getJ, getR, lget_0, lget_s, nlAt, cat1, wsum, List.set_cons_zero, List.set_cons_succ, List.take_succ_cons, List.take_zero, List.drop_succ_cons, List.drop_zero, List.reverse_cons, List.reverse_nil, List.nil_append, List.cons_append, List.length_cons, List.length_nil, true_and, and_true, and_self, ne_eq, not_false_eq_true, not_true_eq_false, Classical.not_not, false_or, or_false, true_or, or_true, imp_self, forall_const, forall_eq, implies_true, true_implies, false_implies, Nat.reduceAdd, Nat.reduceLeDiff, Nat.reduceEqDiff, Nat.reduceSub, Int.reduceNeg, Int.reduceEq, Int.reduceLT, Int.reduceLE, Int.reduceNe, Int.reduceAdd, Int.reduceSub, Nat.le_refl, Nat.zero_le, reduceCtorEq, Option.some.injEq, w32_i, MSk_t106 hM, MSk_p0 hM, MSk_t107 hM, MSk_n107 hM, MSk_p1 hM, MSk_t108 hM, MSk_n108 hM, MSk_p2 hM, MSk_t109 hM, MSk_n109 hM, MSk_p3 hM, MSk_t110 hM, MSk_n110 hM, MSk_p4 hM, MSk_t111 hM, MSk_n111 hM, MSk_p5 hM, MSk_t112 hM, MSk_n112 hM, MSk_p13 hM, MSk_t113 hM, MSk_n113 hM, MSk_p14 hM, MSk_t114 hM, MSk_n114 hM, MSk_p15 hM, MSk_t115 hM, MSk_n115 hM, MSk_p16 hM, MSk_t116 hM, MSk_n116 hM, MSk_p18 hM, MSk_t117 hM, MSk_n117 hM, MSk_p20 hM, MSk_t118 hM, MSk_n118 hM, MSk_p21 hM, MSk_t119 hM, MSk_n119 hM, MSk_p22 hM, MSk_t120 hM, MSk_n120 hM, e3, h1a]
    refine ⟨fun y => ?_, fun y => un I3 f3' b3 e3 (fun z => y (hsf.mpr z.2))⟩
    have ok : adOk (gAdd (I 107) a b n) := ⟨hw2.mp q, hsf.mp y⟩
    have h9 := hR I3 f3' b3 (by rw [if_pos ok]; exact e3)
    rwa [if_pos ok] at h9
  · have g' : goodT (I 107) a b n := g
    have := bad (fun z => by omega)
    rwa [if_neg (fun z => z g'), if_pos h] at this
  · have g' : ¬ goodT (I 107) a b n := g
    have := bad (fun z => g' z.1)
    rwa [if_pos g'] at this
theorem c_X6_add {d : Nat} {Rq : SmQ} {S : SmS} {I : SmI} {a b n : Int} (hM : MSk S) (hW : WR (I 107)) (hR : ∀ I' : SmI, frM I I' → I' 109 = I 109 → I' 107 = adR (I 107) a b n → Rq (.inl (some (vI (adV (I 107) a b n)))) S I') : SC mi_X6_add (d + 6) [vR (some 106), vI a, vI b, vI n] S I Rq := SC_of0 (Nat.le_of_ble_eq_true rfl) (b_X6_add (S := sBud S 0 0) hM hW hR)
/-- entries of a train that is dropped go, the others come down -/
def lvW (r : Int → Int) (m x y z : Int) : Int → Int := fun c => if c = 58 + 3 * m then x else if c = 58 + 3 * m + 1 then y else if c = 58 + 3 * m + 2 then z else r c
def lvS (r : Int → Int) (t : Int) : Nat → (Int → Int) × Int
  | 0 => (r, 0)
  | i + 1 => if (lvS r t i).1 (58 + 3 * (i : Int) + 1) = t then lvS r t i else (lvW (lvS r t i).1 (lvS r t i).2 ((lvS r t i).1 (58 + 3 * (i : Int))) (if t < (lvS r t i).1 (58 + 3 * (i : Int) + 1) then (lvS r t i).1 (58 + 3 * (i : Int) + 1) - 1 else (lvS r t i).1 (58 + 3 * (i : Int) + 1)) ((lvS r t i).1 (58 + 3 * (i : Int) + 2)), (lvS r t i).2 + 1)
theorem lvS_s (r : Int → Int) (t : Int) (i : Nat) : ((lvS r t i).1 (58 + 3 * (i : Int) + 1) = t → lvS r t (i + 1) = lvS r t i) ∧ (¬ (lvS r t i).1 (58 + 3 * (i : Int) + 1) = t → lvS r t (i + 1) = (lvW (lvS r t i).1 (lvS r t i).2 ((lvS r t i).1 (58 + 3 * (i : Int))) (if t < (lvS r t i).1 (58 + 3 * (i : Int) + 1) then (lvS r t i).1 (58 + 3 * (i : Int) + 1) - 1 else (lvS r t i).1 (58 + 3 * (i : Int) + 1)) ((lvS r t i).1 (58 + 3 * (i : Int) + 2)), (lvS r t i).2 + 1)) := by
  constructor
  · intro h
    conv => lhs; unfold lvS
    rw [if_pos h]
  · intro h
    conv => lhs; unfold lvS
    rw [if_neg h]
theorem lvS_in {r : Int → Int} {t : Int} (i : Nat) : (0 ≤ (lvS r t i).2 ∧ (lvS r t i).2 ≤ i) ∧ (∀ c : Int, (c < 58 ∨ 58 + 3 * (i : Int) ≤ c) → (lvS r t i).1 c = r c) := by
  induction i with
  | zero => exact ⟨⟨Int.le_refl _, Int.le_refl _⟩, fun _ _ => rfl⟩
  | succ i ih =>
    obtain ⟨⟨a, b⟩, e⟩ := ih
    by_cases h : (lvS r t i).1 (58 + 3 * (i : Int) + 1) = t
    · rw [(lvS_s r t i).1 h]
      exact ⟨⟨a, by omega⟩, fun c hc => e c (by omega)⟩
    · rw [(lvS_s r t i).2 h]
      refine ⟨⟨by show 0 ≤ _ + 1; omega, by show _ + 1 ≤ _; omega⟩, fun c hc => ?_⟩
      show lvW _ _ _ _ _ c = r c
      unfold lvW
      rw [if_neg (by omega), if_neg (by omega), if_neg (by omega)]
      exact e c (by omega)
def gLv (r : Int → Int) (t : Int) : Int → Int := fun c => if c = 3 then (lvS r t (r 3).toNat).2 else (lvS r t (r 3).toNat).1 c
theorem b_X6_leavesJournal {d : Nat} {Rq : SmQ} {S : SmS} {I : SmI} {t : Int} (hM : MSk S) (h0 : 0 ≤ I 107 3) (h1 : I 107 3 ≤ 60) (ht : 0 ≤ t ∧ t < 4) (hw : ∀ i : Int, 0 ≤ i → i < I 107 3 → 0 ≤ I 107 (58 + 3 * i + 1) ∧ I 107 (58 + 3 * i + 1) < 4) (hR : Rq (.inl none) S (rwS I (gLv (I 107) t))) : SW mi_X6_leavesJournal 0 (d + 1) Rq [some (vR (some 106)), some (vI t), none, none, none, none, none] [] S I := by
  refine rv_X6_leavesJournal_0 ?_
  simp +contextual (disch := omega) only [tr_X6_leavesJournal_0, im_ic, im_lc, im_nul, im_iload, im_lload, im_aload, im_istore, im_astore, im_lstore, im_iinc, im_iadd, im_isub, im_imul, im_iand, im_ior, im_ishl, im_ishr, im_iushr, im_idiv, im_irem, im_ineg, im_i2l, im_l2i, im_i2b, im_i2s, im_ladd, im_lcmp, im_dup, im_pop, im_dup_x1, im_dup2, im_ceq, im_cne, im_clt, im_cge, im_cgt, im_cle, im_zeq, im_zne, im_zlt, im_zge, im_zgt, im_zle, im_ifnull, im_ifnn, im_acmpeq, im_acmpne, im_getI, im_getR, im_putI, im_putZ, im_putR, im_ald, im_iast, im_bast, im_sast, im_zast, im_aald, im_alen, im_new, im_newa, im_newq, im_tsw, im_lsw, tswA, lswA, im_callS_eq, im_callV_eq, chk_i, chk_T, dOk_i, tf_0, tf_n0, tf_1, tf_01, tf_F, tf_T, tf_em, tf_me, ↓reduceIte, Int.zero_add, Int.add_zero, Int.one_mul, Int.mul_one, Int.ediv_one, Int.sub_zero, im_ireturn, im_zreturn, im_areturn, im_return, im_objinit, popI_eq, popII_eq, popJ_eq, popJJ_eq, popR_eq, popRR_eq, popV_eq, popVV_eq, popA_eq, popIA_eq, popIIA_eq, popRA_eq, popRIA_eq, getI, getJ, getR, lget_0, lget_s, nlAt, cat1, wsum, List.set_cons_zero, List.set_cons_succ, List.take_succ_cons, List.take_zero, List.drop_succ_cons, List.drop_zero, List.reverse_cons, List.reverse_nil, List.nil_append, List.cons_append, List.length_cons, List.length_nil, true_and, and_true, and_self, ne_eq, not_false_eq_true, not_true_eq_false, Classical.not_not, false_or, or_false, true_or, or_true, imp_self, forall_const, forall_eq, implies_true, true_implies, false_implies, Nat.reduceAdd, Nat.reduceLeDiff, Nat.reduceEqDiff, Nat.reduceSub, Int.reduceNeg, Int.reduceEq, Int.reduceLT, Int.reduceLE, Int.reduceNe, Int.reduceAdd, Int.reduceSub, Nat.le_refl, Nat.zero_le, reduceCtorEq, Option.some.injEq, w32_i, MSk_t106 hM, MSk_p0 hM, MSk_t107 hM, MSk_n107 hM, MSk_p1 hM, MSk_t108 hM, MSk_n108 hM, MSk_p2 hM, MSk_t109 hM, MSk_n109 hM, MSk_p3 hM, MSk_t110 hM, MSk_n110 hM, MSk_p4 hM, MSk_t111 hM, MSk_n111 hM, MSk_p5 hM, MSk_t112 hM, MSk_n112 hM, MSk_p13 hM, MSk_t113 hM, MSk_n113 hM, MSk_p14 hM, MSk_t114 hM, MSk_n114 hM, MSk_p15 hM, MSk_t115 hM, MSk_n115 hM, MSk_p16 hM, MSk_t116 hM, MSk_n116 hM, MSk_p18 hM, MSk_t117 hM, MSk_n117 hM, MSk_p20 hM, MSk_t118 hM, MSk_n118 hM, MSk_p21 hM, MSk_t119 hM, MSk_n119 hM, MSk_p22 hM, MSk_t120 hM, MSk_n120 hM]
  refine mp_eq (loop_up (P := fun (i : Nat) => ∀ y : Option SmV, SW mi_X6_leavesJournal 4 (d + 1) Rq [some (vR (some 106)), some (vI t), some (vI (lvS (I 107) t i).2), some (vI i), y, none, none] [] S (rwS I (lvS (I 107) t i).1)) (n := (I 107 3).toNat) ?_ ?_ none) (by show SW _ _ _ _ _ _ _ (rwS I (I 107)) = _; rw [rwS_self]; rfl)
  · intro y
    obtain ⟨⟨a, b⟩, e⟩ := lvS_in (r := I 107) (t := t) (I 107 3).toNat
    have e3 := e 3 (by omega)
    generalize hs : lvS (I 107) t (I 107 3).toNat = s at *
    refine rv_X6_leavesJournal_4 ?_
    simp +contextual (disch := omega) only [tr_X6_leavesJournal_4, im_ic, im_lc, im_nul, im_iload, im_lload, im_aload, im_istore, im_astore, im_lstore, im_iinc, im_iadd, im_isub, im_imul, im_iand, im_ior, im_ishl, im_ishr, im_iushr, im_idiv, im_irem, im_ineg, im_i2l, im_l2i, im_i2b, im_i2s, im_ladd, im_lcmp, im_dup, im_pop, im_dup_x1, im_dup2, im_ceq, im_cne, im_clt, im_cge, im_cgt, im_cle, im_zeq, im_zne, im_zlt, im_zge, im_zgt, im_zle, im_ifnull, im_ifnn, im_acmpeq, im_acmpne, im_getI, im_getR, im_putI, im_putZ, im_putR, im_ald, im_iast, im_bast, im_sast, im_zast, im_aald, im_alen, im_new, im_newa, im_newq, im_tsw, im_lsw, tswA, lswA, im_callS_eq, im_callV_eq, chk_i, chk_T, dOk_i, tf_0, tf_n0, tf_1, tf_01, tf_F, tf_T, tf_em, tf_me, ↓reduceIte, Int.zero_add, Int.add_zero, Int.one_mul, Int.mul_one, Int.ediv_one, Int.sub_zero, im_ireturn, im_zreturn, im_areturn, im_return, im_objinit, popI_eq, popII_eq, popJ_eq, popJJ_eq, popR_eq, popRR_eq, popV_eq, popVV_eq, popA_eq, popIA_eq, popIIA_eq, popRA_eq, popRIA_eq, getI, getJ, getR, lget_0, lget_s, nlAt, cat1, wsum, List.set_cons_zero, List.set_cons_succ, List.take_succ_cons, List.take_zero, List.drop_succ_cons, List.drop_zero, List.reverse_cons, List.reverse_nil, List.nil_append, List.cons_append, List.length_cons, List.length_nil, true_and, and_true, and_self, ne_eq, not_false_eq_true, not_true_eq_false, Classical.not_not, false_or, or_false, true_or, or_true, imp_self, forall_const, forall_eq, implies_true, true_implies, false_implies, Nat.reduceAdd, Nat.reduceLeDiff, Nat.reduceEqDiff, Nat.reduceSub, Int.reduceNeg, Int.reduceEq, Int.reduceLT, Int.reduceLE, Int.reduceNe, Int.reduceAdd, Int.reduceSub, Nat.le_refl, Nat.zero_le, reduceCtorEq, Option.some.injEq, w32_i, MSk_t106 hM, MSk_p0 hM, MSk_t107 hM, MSk_n107 hM, MSk_p1 hM, MSk_t108 hM, MSk_n108 hM, MSk_p2 hM, MSk_t109 hM, MSk_n109 hM, MSk_p3 hM, MSk_t110 hM, MSk_n110 hM, MSk_p4 hM, MSk_t111 hM, MSk_n111 hM, MSk_p5 hM, MSk_t112 hM, MSk_n112 hM, MSk_p13 hM, MSk_t113 hM, MSk_n113 hM, MSk_p14 hM, MSk_t114 hM, MSk_n114 hM, MSk_p15 hM, MSk_t115 hM, MSk_n115 hM, MSk_p16 hM, MSk_t116 hM, MSk_n116 hM, MSk_p18 hM, MSk_t117 hM, MSk_n117 hM, MSk_p20 hM, MSk_t118 hM, MSk_n118 hM, MSk_p21 hM, MSk_t119 hM, MSk_n119 hM, MSk_p22 hM, MSk_t120 hM, MSk_n120 hM, rwS_st, e3]
    refine ⟨fun _ => ?_, fun h => absurd (show I 107 3 ≤ ((I 107 3).toNat : Int) by omega) h⟩
    refine Rq_as hR rfl rfl (rwS_eq ?_ (fun b hb => by rw [iSet_ne hb, rwS_ne hb]))
    funext c
    unfold gLv
    rw [hs, iSet_ap, rwS_st]
    by_cases z : c = 3
    · rw [if_pos ⟨rfl, z⟩, if_pos z]
    · rw [if_neg (fun w => z w.2), if_neg z]
  · intro i hi ih y
    obtain ⟨⟨a, b⟩, e⟩ := lvS_in (r := I 107) (t := t) i
    have e3 := e 3 (by omega)
    have e1 := e (58 + 3 * (i : Int) + 1) (by omega)
    have st := lvS_s (I 107) t i
    have hwi := hw i (by omega) (by omega)
    generalize hs : lvS (I 107) t i = s at *
    have h86 : ¬ s.1 (58 + 3 * (i : Int) + 1) = t → ∀ v : Int, v = (if t < s.1 (58 + 3 * (i : Int) + 1) then s.1 (58 + 3 * (i : Int) + 1) - 1 else s.1 (58 + 3 * (i : Int) + 1)) → SW mi_X6_leavesJournal 86 (d + 1) Rq [some (vR (some 106)), some (vI t), some (vI s.2), some (vI i), some (vI (s.1 (58 + 3 * (i : Int) + 1))), some (vI (s.1 (58 + 3 * (i : Int)))), some (vI (s.1 (58 + 3 * (i : Int) + 2)))] [vI v, vI (58 + 3 * s.2 + 1), vR (some 107)] S (iSet (rwS I s.1) 107 (58 + 3 * s.2) (s.1 (58 + 3 * (i : Int)))) := by
      intro hne v hv
      have nx := ih none
      rw [st.2 hne, cast_s, ← hv] at nx
      have eq : iSet (iSet (iSet (rwS I s.1) 107 (58 + 3 * s.2) (s.1 (58 + 3 * (i : Int)))) 107 (58 + 3 * s.2 + 1) v) 107 (58 + 3 * s.2 + 2) (s.1 (58 + 3 * (i : Int) + 2)) = rwS I (lvW s.1 s.2 (s.1 (58 + 3 * (i : Int))) v (s.1 (58 + 3 * (i : Int) + 2))) := by
        refine rwS_eq ?_ (fun b hb => by rw [iSet_ne hb, iSet_ne hb, iSet_ne hb, rwS_ne hb])
        funext c
        unfold lvW
        simp only [iSet_ap, rwS_st, true_and]
        by_cases c2 : c = 58 + 3 * s.2 + 2
        · rw [if_pos c2, if_neg (by omega), if_neg (by omega), if_pos c2]
        · by_cases c1 : c = 58 + 3 * s.2 + 1
          · rw [if_neg c2, if_pos c1, if_neg (show ¬ c = 58 + 3 * s.2 by omega), if_pos c1]
          · by_cases c0 : c = 58 + 3 * s.2
            · rw [if_neg c2, if_neg c1, if_pos c0, if_pos c0]
            · rw [if_neg c2, if_neg c1, if_neg c0, if_neg c0, if_neg c1, if_neg c2]
      rw [← eq] at nx
      refine rv_X6_leavesJournal_86 ?_
      simp +contextual (disch := omega) only [tr_X6_leavesJournal_86, im_ic, im_lc, im_nul, im_iload, im_lload, im_aload, im_istore, im_astore, im_lstore, im_iinc, im_iadd, im_isub, im_imul, im_iand, im_ior, im_ishl, im_ishr, im_iushr, im_idiv, im_irem, im_ineg, im_i2l, im_l2i, im_i2b, im_i2s, im_ladd, im_lcmp, im_dup, im_pop, im_dup_x1, im_dup2, im_ceq, im_cne, im_clt, im_cge, im_cgt, im_cle, im_zeq, im_zne, im_zlt, im_zge, im_zgt, im_zle, im_ifnull, im_ifnn, im_acmpeq, im_acmpne, im_getI, im_getR, im_putI, im_putZ, im_putR, im_ald, im_iast, im_bast, im_sast, im_zast, im_aald, im_alen, im_new, im_newa, im_newq, im_tsw, im_lsw, tswA, lswA, im_callS_eq, im_callV_eq, chk_i, chk_T, dOk_i, tf_0, tf_n0, tf_1, tf_01, tf_F, tf_T, tf_em, tf_me, ↓reduceIte, Int.zero_add, Int.add_zero, Int.one_mul, Int.mul_one, Int.ediv_one, Int.sub_zero, im_ireturn, im_zreturn, im_areturn, im_return, im_objinit, popI_eq, popII_eq, popJ_eq, popJJ_eq, popR_eq, popRR_eq, popV_eq, popVV_eq, popA_eq, popIA_eq, popIIA_eq, popRA_eq, popRIA_eq, getI, getJ, getR, lget_0, lget_s, nlAt, cat1, wsum, List.set_cons_zero, List.set_cons_succ, List.take_succ_cons, List.take_zero, List.drop_succ_cons, List.drop_zero, List.reverse_cons, List.reverse_nil, List.nil_append, List.cons_append, List.length_cons, List.length_nil, true_and, and_true, and_self, ne_eq, not_false_eq_true, not_true_eq_false, Classical.not_not, false_or, or_false, true_or, or_true, imp_self, forall_const, forall_eq, implies_true, true_implies, false_implies, Nat.reduceAdd, Nat.reduceLeDiff, Nat.reduceEqDiff, Nat.reduceSub, Int.reduceNeg, Int.reduceEq, Int.reduceLT, Int.reduceLE, Int.reduceNe, Int.reduceAdd, Int.reduceSub, Nat.le_refl, Nat.zero_le, reduceCtorEq, Option.some.injEq, w32_i, MSk_t106 hM, MSk_p0 hM, MSk_t107 hM, MSk_n107 hM, MSk_p1 hM, MSk_t108 hM, MSk_n108 hM, MSk_p2 hM, MSk_t109 hM, MSk_n109 hM, MSk_p3 hM, MSk_t110 hM, MSk_n110 hM, MSk_p4 hM, MSk_t111 hM, MSk_n111 hM, MSk_p5 hM, MSk_t112 hM, MSk_n112 hM, MSk_p13 hM, MSk_t113 hM, MSk_n113 hM, MSk_p14 hM, MSk_t114 hM, MSk_n114 hM, MSk_p15 hM, MSk_t115 hM, MSk_n115 hM, MSk_p16 hM, MSk_t116 hM, MSk_n116 hM, MSk_p18 hM, MSk_t117 hM, MSk_n117 hM, MSk_p20 hM, MSk_t118 hM, MSk_n118 hM, MSk_p21 hM, MSk_t119 hM, MSk_n119 hM, MSk_p22 hM, MSk_t120 hM, MSk_n120 hM]
      refine SW_as nx ?_ (by first | rfl | grind) (by first | rfl | grind) (by first | rfl | grind)
      simp only [leL_nil, leL_none, leL_some, Option.some.injEq, vI_inj, vR_inj, true_and, and_true]
      try grind
    refine rv_X6_leavesJournal_4 ?_
    simp +contextual (disch := omega) only [tr_X6_leavesJournal_4, im_ic, im_lc, im_nul, im_iload, im_lload, im_aload, im_istore, im_astore, im_lstore, im_iinc, im_iadd, im_isub, im_imul, im_iand, im_ior, im_ishl, im_ishr, im_iushr, im_idiv, im_irem, im_ineg, im_i2l, im_l2i, im_i2b, im_i2s, im_ladd, im_lcmp, im_dup, im_pop, im_dup_x1, im_dup2, im_ceq, im_cne, im_clt, im_cge, im_cgt, im_cle, im_zeq, im_zne, im_zlt, im_zge, im_zgt, im_zle, im_ifnull, im_ifnn, im_acmpeq, im_acmpne, im_getI, im_getR, im_putI, im_putZ, im_putR, im_ald, im_iast, im_bast, im_sast, im_zast, im_aald, im_alen, im_new, im_newa, im_newq, im_tsw, im_lsw, tswA, lswA, im_callS_eq, im_callV_eq, chk_i, chk_T, dOk_i, tf_0, tf_n0, tf_1, tf_01, tf_F, tf_T, tf_em, tf_me, ↓reduceIte, Int.zero_add, Int.add_zero, Int.one_mul, Int.mul_one, Int.ediv_one, Int.sub_zero, im_ireturn, im_zreturn, im_areturn, im_return, im_objinit, popI_eq, popII_eq, popJ_eq, popJJ_eq, popR_eq, popRR_eq, popV_eq, popVV_eq, popA_eq, popIA_eq, popIIA_eq, popRA_eq, popRIA_eq, getI, getJ, getR, lget_0, lget_s, nlAt, cat1, wsum, List.set_cons_zero, List.set_cons_succ, List.take_succ_cons, List.take_zero, List.drop_succ_cons, List.drop_zero, List.reverse_cons, List.reverse_nil, List.nil_append, List.cons_append, List.length_cons, List.length_nil, true_and, and_true, and_self, ne_eq, not_false_eq_true, not_true_eq_false, Classical.not_not, false_or, or_false, true_or, or_true, imp_self, forall_const, forall_eq, implies_true, true_implies, false_implies, Nat.reduceAdd, Nat.reduceLeDiff, Nat.reduceEqDiff, Nat.reduceSub, Int.reduceNeg, Int.reduceEq, Int.reduceLT, Int.reduceLE, Int.reduceNe, Int.reduceAdd, Int.reduceSub, Nat.le_refl, Nat.zero_le, reduceCtorEq, Option.some.injEq, w32_i, MSk_t106 hM, MSk_p0 hM, MSk_t107 hM, MSk_n107 hM, MSk_p1 hM, MSk_t108 hM, MSk_n108 hM, MSk_p2 hM, MSk_t109 hM, MSk_n109 hM, MSk_p3 hM, MSk_t110 hM, MSk_n110 hM, MSk_p4 hM, MSk_t111 hM, MSk_n111 hM, MSk_p5 hM, MSk_t112 hM, MSk_n112 hM, MSk_p13 hM, MSk_t113 hM, MSk_n113 hM, MSk_p14 hM, MSk_t114 hM, MSk_n114 hM, MSk_p15 hM, MSk_t115 hM, MSk_n115 hM, MSk_p16 hM, MSk_t116 hM, MSk_n116 hM, MSk_p18 hM, MSk_t117 hM, MSk_n117 hM, MSk_p20 hM, MSk_t118 hM, MSk_n118 hM, MSk_p21 hM, MSk_t119 hM, MSk_n119 hM, MSk_p22 hM, MSk_t120 hM, MSk_n120 hM, hM, rwS_st, e3, im_p_X6_entry]
    refine ⟨fun h => absurd h (by omega), fun _ => ⟨fun z => ?_, fun z => ⟨fun y => ?_, fun y => ?_⟩⟩⟩
    · have nx := ih none
      rw [st.1 z, cast_s] at nx
      refine SW_as nx ?_ (by first | rfl | grind) (by first | rfl | grind) (by first | rfl | grind)
      simp only [leL_nil, leL_none, leL_some, Option.some.injEq, vI_inj, vR_inj, true_and, and_true]
      try grind
    · exact h86 z _ (by rw [if_neg (by omega)])
    · exact h86 z _ (by rw [if_pos (by omega)])
theorem c_X6_leavesJournal {d : Nat} {Rq : SmQ} {S : SmS} {I : SmI} {t : Int} (hM : MSk S) (h0 : 0 ≤ I 107 3) (h1 : I 107 3 ≤ 60) (ht : 0 ≤ t ∧ t < 4) (hw : ∀ i : Int, 0 ≤ i → i < I 107 3 → 0 ≤ I 107 (58 + 3 * i + 1) ∧ I 107 (58 + 3 * i + 1) < 4) (hR : Rq (.inl none) S (rwS I (gLv (I 107) t))) : SC mi_X6_leavesJournal (d + 1) [vR (some 106), vI t] S I Rq := SC_of0 (Nat.le_of_ble_eq_true rfl) (b_X6_leavesJournal (S := sBud S 0 0) hM h0 h1 ht hw hR)