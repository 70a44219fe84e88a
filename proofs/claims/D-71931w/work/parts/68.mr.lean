/-! the text's words: where a token ends; the model's reads -/
set_option maxRecDepth 100000
def byT (T : Int → Int) (n p : Int) : Int := if p < n then T p else -1
noncomputable def skF (P : Int → Prop) (T : Int → Int) (n : Int) : Nat → Int → Int
  | 0, p => p
  | k + 1, p => by classical exact if P (byT T n p) then skF P T n k (p + 1) else p
noncomputable def skp (P : Int → Prop) (T : Int → Int) (n p : Int) : Int := skF P T n (n - p).toNat p
theorem skp_n {P : Int → Prop} {T : Int → Int} {n p : Int} (h : ¬ P (byT T n p)) : skp P T n p = p := by
  unfold skp
  cases (n - p).toNat with
  | zero => rfl
  | succ k => unfold skF; rw [if_neg h]
theorem skp_s {P : Int → Prop} {T : Int → Int} {n p : Int} (h1 : ¬ P (-1)) (h : P (byT T n p)) : p < n ∧ skp P T n p = skp P T n (p + 1) := by
  by_cases z : p < n
  · refine ⟨z, ?_⟩
    unfold skp
    obtain ⟨k, hk⟩ : ∃ k, (n - p).toNat = k + 1 := ⟨(n - p).toNat - 1, by omega⟩
    rw [hk, show (n - (p + 1)).toNat = k by omega]
    conv => lhs; unfold skF
    rw [if_pos h]
  · unfold byT at h
    rw [if_neg z] at h
    exact absurd h h1
theorem skp_in {P : Int → Prop} {T : Int → Int} {n p : Int} (h1 : ¬ P (-1)) (hp : p ≤ n) : p ≤ skp P T n p ∧ skp P T n p ≤ n := by
  have key : ∀ (k : Nat) (p : Int), p ≤ n → (n - p).toNat = k → p ≤ skp P T n p ∧ skp P T n p ≤ n := by
    intro k
    induction k with
    | zero =>
      intro p hp hk
      have e : skp P T n p = p := by unfold skp; rw [hk]; rfl
      omega
    | succ k ih =>
      intro p hp hk
      by_cases z : P (byT T n p)
      · obtain ⟨a, e⟩ := skp_s h1 z
        have := ih (p + 1) (by omega) (by omega)
        omega
      · have e := skp_n z
        omega
  exact key _ p hp rfl
def spc (x : Int) : Prop := x = 32
def ltr (x : Int) : Prop := 97 ≤ x ∧ x ≤ 122
def dgi (x : Int) : Prop := 48 ≤ x ∧ x ≤ 57
theorem spc_1 : ¬ spc (-1) := by unfold spc; omega
theorem ltr_1 : ¬ ltr (-1) := by unfold ltr; omega
theorem dgi_1 : ¬ dgi (-1) := by unfold dgi; omega
noncomputable def lxB (T : Int → Int) (n p : Int) : Int := skp spc T n p
noncomputable def lxS (T : Int → Int) (n p : Int) : Int := by
  classical exact if byT T n (lxB T n p) < 0 then 0 else if ltr (byT T n (lxB T n p)) then 1 else if dgi (byT T n (lxB T n p)) then 2 else 3
noncomputable def lxP (T : Int → Int) (n p : Int) : Int := if lxS T n p = 0 then lxB T n p else if lxS T n p = 1 then skp ltr T n (lxB T n p) else if lxS T n p = 2 then skp dgi T n (lxB T n p) else lxB T n p + 1
def fgA (T : Int → Int) (b p : Int) : Int := if p = b then 0 else if p = b + 1 then T b - 48 else 10 * (T b - 48) + (T (b + 1) - 48)
noncomputable def lxF (T : Int → Int) (n p : Int) : Int := fgA T (lxB T n p) (lxP T n p)
def lxE (T : Int → Int) (n p : Int) : Prop := (lxS T n p = 2 ∧ 2 < lxP T n p - lxB T n p) ∨ (lxS T n p = 3 ∧ byT T n (lxB T n p) ≠ 59)
def frT (J I : SmI) : Prop := (∀ b : Nat, b ≠ 106 → I b = J b) ∧ ∀ k : Int, (k < 7 ∨ 12 < k) → I 106 k = J 106 k
theorem frT_refl {J : SmI} : frT J J := ⟨fun _ _ => rfl, fun _ _ => rfl⟩
theorem frT_trans {J I I' : SmI} (h : frT J I) (h2 : frT I I') : frT J I' := ⟨fun b hb => (h2.1 b hb).trans (h.1 b hb), fun k hk => (h2.2 k hk).trans (h.2 k hk)⟩
theorem frT_set {J I : SmI} {k x : Int} (h : frT J I) (h0 : 7 ≤ k) (h1 : k ≤ 12) : frT J (iSet I 106 k x) := ⟨fun b hb => by rw [iSet_ne hb]; exact h.1 b hb, fun j hj => by rw [iSet_k (by omega)]; exact h.2 j hj⟩
theorem iSet_id {I : SmI} {a : Nat} {k : Int} : iSet I a k (I a k) = I := by
  funext b j
  rw [iSet_ap]
  by_cases h : b = a ∧ j = k
  · rw [if_pos h, h.1, h.2]
  · rw [if_neg h]
theorem iSet_idv {I : SmI} {a : Nat} {k x : Int} (h : I a k = x) : iSet I a k x = I := by rw [← h, iSet_id]
/-- what reads leaves -/
def lxR (I I' : SmI) : Prop := frT I I' ∧ I' 106 7 = lxP (I 112) (I 106 6) (I 106 7) ∧ I' 106 8 = lxB (I 112) (I 106 6) (I 106 7) ∧ I' 106 9 = lxS (I 112) (I 106 6) (I 106 7) ∧ (lxS (I 112) (I 106 6) (I 106 7) = 2 → I' 106 10 = lxF (I 112) (I 106 6) (I 106 7)) ∧ (¬ lxE (I 112) (I 106 6) (I 106 7) → I' 106 11 = 0 ∧ I' 106 12 = I 106 12) ∧ (lxE (I 112) (I 106 6) (I 106 7) → I' 106 11 = 1 ∧ I' 106 12 = lxB (I 112) (I 106 6) (I 106 7))
theorem b_X6_readsF {d : Nat} {Rq : SmQ} {S : SmS} {I : SmI} (hM : MSk S) (hf : 0 < I 106 11) (hR : Rq (.inl none) S I) : SW mi_X6_reads 0 (d + 1) Rq [some (vR (some 106)), none] [] S I := by
  refine rv_X6_reads_0 ?_
  simp +contextual (disch := omega) only [tr_X6_reads_0, im_ic, im_lc, im_nul, im_iload, im_lload, im_aload, im_istore, im_astore, im_lstore, im_iinc, im_iadd, im_isub, im_imul, im_iand, im_ior, im_ishl, im_ishr, im_iushr, im_idiv, im_irem, im_ineg, im_i2l, im_l2i, im_i2b, im_i2s, im_ladd, im_lcmp, im_dup, im_pop, im_dup_x1, im_dup2, im_ceq, im_cne, im_clt, im_cge, im_cgt, im_cle, im_zeq, im_zne, im_zlt, im_zge, im_zgt, im_zle, im_ifnull, im_ifnn, im_acmpeq, im_acmpne, im_getI, im_getR, im_putI, im_putZ, im_putR, im_ald, im_iast, im_bast, im_sast, im_zast, im_aald, im_alen, im_new, im_newa, im_newq, im_tsw, im_lsw, tswA, lswA, im_callS_eq, im_callV_eq, chk_i, chk_T, dOk_i, tf_0, tf_n0, tf_1, tf_01, tf_F, tf_T, tf_em, tf_me, ↓reduceIte, Int.zero_add, Int.add_zero, Int.one_mul, Int.mul_one, Int.ediv_one, Int.sub_zero, im_ireturn, im_zreturn, im_areturn, im_return, im_objinit, popI_eq, popII_eq, popJ_eq, popJJ_eq, popR_eq, popRR_eq, popV_eq, popVV_eq, popA_eq, popIA_eq, popIIA_eq, popRA_eq, popRIA_eq, getI, getJ, getR, lget_0, lget_s, nlAt, cat1, wsum, List.set_cons_zero, List.set_cons_succ, List.take_succ_cons, List.take_zero, List.drop_succ_cons, List.drop_zero, List.reverse_cons, List.reverse_nil, List.nil_append, List.cons_append, List.length_cons, List.length_nil, true_and, and_true, and_self, ne_eq, not_false_eq_true, not_true_eq_false, Classical.not_not, false_or, or_false, true_or, or_true, imp_self, forall_const, forall_eq, implies_true, true_implies, false_implies, Nat.reduceAdd, Nat.reduceLeDiff, Nat.reduceEqDiff, Nat.reduceSub, Int.reduceNeg, Int.reduceEq, Int.reduceLT, Int.reduceLE, Int.reduceNe, Int.reduceAdd, Int.reduceSub, Nat.le_refl, Nat.zero_le, reduceCtorEq, Option.some.injEq, w32_i, MSk_t106 hM, MSk_p0 hM, MSk_t107 hM, MSk_n107 hM, MSk_p1 hM, MSk_t108 hM, MSk_n108 hM, MSk_p2 hM, MSk_t109 hM, MSk_n109 hM, MSk_p3 hM, MSk_t110 hM, MSk_n110 hM, MSk_p4 hM, MSk_t111 hM, MSk_n111 hM, MSk_p5 hM, MSk_t112 hM, MSk_n112 hM, MSk_p13 hM, MSk_t113 hM, MSk_n113 hM, MSk_p14 hM, MSk_t114 hM, MSk_n114 hM, MSk_p15 hM, MSk_t115 hM, MSk_n115 hM, MSk_p16 hM, MSk_t116 hM, MSk_n116 hM, MSk_p18 hM, MSk_t117 hM, MSk_n117 hM, MSk_p20 hM, MSk_t118 hM, MSk_n118 hM, MSk_p21 hM, MSk_t119 hM, MSk_n119 hM, MSk_p22 hM, MSk_t120 hM, MSk_n120 hM]
  exact ⟨fun h => absurd h (by omega), fun _ => hR⟩
theorem c_X6_readsF {d : Nat} {Rq : SmQ} {S : SmS} {I : SmI} (hM : MSk S) (hf : 0 < I 106 11) (hR : Rq (.inl none) S I) : SC mi_X6_reads (d + 1) [vR (some 106)] S I Rq := SC_of0 (Nat.le_of_ble_eq_true rfl) (b_X6_readsF (S := sBud S 0 0) hM hf hR)
theorem mr_82 {d : Nat} {Rq : SmQ} {S : SmS} {I : SmI} {c : Int} (hM : MSk S) (h2 : I 106 6 ≤ 160) (hR : Rq (.inl none) S (iSet I 106 7 (skp ltr (I 112) (I 106 6) (I 106 7)))) : ∀ (m : Nat) (p : Int), 0 ≤ p → p ≤ I 106 6 → (I 106 6 - p).toNat = m → skp ltr (I 112) (I 106 6) p = skp ltr (I 112) (I 106 6) (I 106 7) → SW mi_X6_reads 82 (d + 1) Rq [some (vR (some 106)), some (vI c)] [] S (iSet I 106 7 p) := by
  intro m
  have eb : ∀ p, (if p < I 106 6 then I 112 p else -1) = byT (I 112) (I 106 6) p := fun _ => rfl
  induction m with
  | zero =>
    intro p p0 p1 hm hs
    have hn : ¬ ltr (byT (I 112) (I 106 6) p) := by unfold byT; rw [if_neg (by omega)]; exact ltr_1
    rw [skp_n hn] at hs
    rw [← hs] at hR
    unfold ltr at hn
    refine rv_X6_reads_82 ?_
    simp +contextual (disch := omega) only [tr_X6_reads_82, im_ic, im_lc, im_nul, im_iload, im_lload, im_aload, im_istore, im_astore, im_lstore, im_iinc, im_iadd, im_isub, im_imul, im_iand, im_ior, im_ishl, im_ishr, im_iushr, im_idiv, im_irem, im_ineg, im_i2l, im_l2i, im_i2b, im_i2s, im_ladd, im_lcmp, im_dup, im_pop, im_dup_x1, im_dup2, im_ceq, im_cne, im_clt, im_cge, im_cgt, im_cle, im_zeq, im_zne, im_zlt, im_zge, im_zgt, im_zle, im_ifnull, im_ifnn, im_acmpeq, im_acmpne, im_getI, im_getR, im_putI, im_putZ, im_putR, im_ald, im_iast, im_bast, im_sast, im_zast, im_aald, im_alen, im_new, im_newa, im_newq, im_tsw, im_lsw, tswA, lswA, im_callS_eq, im_callV_eq, chk_i, chk_T, dOk_i, tf_0, tf_n0, tf_1, tf_01, tf_F, tf_T, tf_em, tf_me, ↓reduceIte, Int.zero_add, Int.add_zero, Int.one_mul, Int.mul_one, Int.ediv_one, Int.sub_zero, im_ireturn, im_zreturn, im_areturn, im_return, im_objinit, popI_eq, popII_eq, popJ_eq, popJJ_eq, popR_eq, popRR_eq, popV_eq, popVV_eq, popA_eq, popIA_eq, popIIA_eq, popRA_eq, popRIA_eq, getI, getJ, getR, lget_0, lget_s, nlAt, cat1, wsum, List.set_cons_zero, List.set_cons_succ, List.take_succ_cons, List.take_zero, List.drop_succ_cons, List.drop_zero, List.reverse_cons, List.reverse_nil, List.nil_append, List.cons_append, List.length_cons, List.length_nil, true_and, and_true, and_self, ne_eq, not_false_eq_true, not_true_eq_false, Classical.not_not, false_or, or_false, true_or, or_true, imp_self, forall_const, forall_eq, implies_true, true_implies, false_implies, Nat.reduceAdd, Nat.reduceLeDiff, Nat.reduceEqDiff, Nat.reduceSub, Int.reduceNeg, Int.reduceEq, Int.reduceLT, Int.reduceLE, Int.reduceNe, Int.reduceAdd, Int.reduceSub, Nat.le_refl, Nat.zero_le, reduceCtorEq, Option.some.injEq, w32_i, MSk_t106 hM, MSk_p0 hM, MSk_t107 hM, MSk_n107 hM, MSk_p1 hM, MSk_t108 hM, MSk_n108 hM, MSk_p2 hM, MSk_t109 hM, MSk_n109 hM, MSk_p3 hM, MSk_t110 hM, MSk_n110 hM, MSk_p4 hM, MSk_t111 hM, MSk_n111 hM, MSk_p5 hM, MSk_t112 hM, MSk_n112 hM, MSk_p13 hM, MSk_t113 hM, MSk_n113 hM, MSk_p14 hM, MSk_t114 hM, MSk_n114 hM, MSk_p15 hM, MSk_t115 hM, MSk_n115 hM, MSk_p16 hM, MSk_t116 hM, MSk_n116 hM, MSk_p18 hM, MSk_t117 hM, MSk_n117 hM, MSk_p20 hM, MSk_t118 hM, MSk_n118 hM, MSk_p21 hM, MSk_t119 hM, MSk_n119 hM, MSk_p22 hM, MSk_t120 hM, MSk_n120 hM, hM, im_p_X6_byteAt, im_p_X6_in, iSet_ne, iSet_k, iSet_eq, eb]
    exact ⟨fun _ => hR, fun h => absurd h hn⟩
  | succ m ih =>
    intro p p0 p1 hm hs
    by_cases hl : ltr (byT (I 112) (I 106 6) p)
    · obtain ⟨p2, e⟩ := skp_s ltr_1 hl
      have nx := ih (p + 1) (by omega) (by omega) (by omega) (by rw [← e]; exact hs)
      unfold ltr at hl
      have ei : iSet (iSet I 106 7 p) 106 7 (p + 1) = iSet I 106 7 (p + 1) := by
        funext b j
        rw [iSet_ap, iSet_ap, iSet_ap]
        split <;> rfl
      refine rv_X6_reads_82 ?_
      simp +contextual (disch := omega) only [tr_X6_reads_82, im_ic, im_lc, im_nul, im_iload, im_lload, im_aload, im_istore, im_astore, im_lstore, im_iinc, im_iadd, im_isub, im_imul, im_iand, im_ior, im_ishl, im_ishr, im_iushr, im_idiv, im_irem, im_ineg, im_i2l, im_l2i, im_i2b, im_i2s, im_ladd, im_lcmp, im_dup, im_pop, im_dup_x1, im_dup2, im_ceq, im_cne, im_clt, im_cge, im_cgt, im_cle, im_zeq, im_zne, im_zlt, im_zge, im_zgt, im_zle, im_ifnull, im_ifnn, im_acmpeq, im_acmpne, im_getI, im_getR, im_putI, im_putZ, im_putR, im_ald, im_iast, im_bast, im_sast, im_zast, im_aald, im_alen, im_new, im_newa, im_newq, im_tsw, im_lsw, tswA, lswA, im_callS_eq, im_callV_eq, chk_i, chk_T, dOk_i, tf_0, tf_n0, tf_1, tf_01, tf_F, tf_T, tf_em, tf_me, ↓reduceIte, Int.zero_add, Int.add_zero, Int.one_mul, Int.mul_one, Int.ediv_one, Int.sub_zero, im_ireturn, im_zreturn, im_areturn, im_return, im_objinit, popI_eq, popII_eq, popJ_eq, popJJ_eq, popR_eq, popRR_eq, popV_eq, popVV_eq, popA_eq, popIA_eq, popIIA_eq, popRA_eq, popRIA_eq, getI, getJ, getR, lget_0, lget_s, nlAt, cat1, wsum, List.set_cons_zero, List.set_cons_succ, List.take_succ_cons, List.take_zero, List.drop_succ_cons, List.drop_zero, List.reverse_cons, List.reverse_nil, List.nil_append, List.cons_append, List.length_cons, List.length_nil, true_and, and_true, and_self, ne_eq, not_false_eq_true, not_true_eq_false, Classical.not_not, false_or, or_false, true_or, or_true, imp_self, forall_const, forall_eq, implies_true, true_implies, false_implies, Nat.reduceAdd, Nat.reduceLeDiff, Nat.reduceEqDiff, Nat.reduceSub, Int.reduceNeg, Int.reduceEq, Int.reduceLT, Int.reduceLE, Int.reduceNe, Int.reduceAdd, Int.reduceSub, Nat.le_refl, Nat.zero_le, reduceCtorEq, Option.some.injEq, w32_i, MSk_t106 hM, MSk_p0 hM, MSk_t107 hM, MSk_n107 hM, MSk_p1 hM, MSk_t108 hM, MSk_n108 hM, MSk_p2 hM, MSk_t109 hM, MSk_n109 hM, MSk_p3 hM, MSk_t110 hM, MSk_n110 hM, MSk_p4 hM, MSk_t111 hM, MSk_n111 hM, MSk_p5 hM, MSk_t112 hM, MSk_n112 hM, MSk_p13 hM, MSk_t113 hM, MSk_n113 hM, MSk_p14 hM, MSk_t114 hM, MSk_n114 hM, MSk_p15 hM, MSk_t115 hM, MSk_n115 hM, MSk_p16 hM, MSk_t116 hM, MSk_n116 hM, MSk_p18 hM, MSk_t117 hM, MSk_n117 hM, MSk_p20 hM, MSk_t118 hM, MSk_n118 hM, MSk_p21 hM, MSk_t119 hM, MSk_n119 hM, MSk_p22 hM, MSk_t120 hM, MSk_n120 hM, hM, im_p_X6_byteAt, im_p_X6_in, iSet_ne, iSet_k, iSet_eq, eb, ei]
      exact ⟨fun h => absurd hl h, fun _ => nx⟩
    · rw [skp_n hl] at hs
      rw [← hs] at hR
      unfold ltr at hl
      refine rv_X6_reads_82 ?_
      simp +contextual (disch := omega) only [tr_X6_reads_82, im_ic, im_lc, im_nul, im_iload, im_lload, im_aload, im_istore, im_astore, im_lstore, im_iinc, im_iadd, im_isub, im_imul, im_iand, im_ior, im_ishl, im_ishr, im_iushr, im_idiv, im_irem, im_ineg, im_i2l, im_l2i, im_i2b, im_i2s, im_ladd, im_lcmp, im_dup, im_pop, im_dup_x1, im_dup2, im_ceq, im_cne, im_clt, im_cge, im_cgt, im_cle, im_zeq, im_zne, im_zlt, im_zge, im_zgt, im_zle, im_ifnull, im_ifnn, im_acmpeq, im_acmpne, im_getI, im_getR, im_putI, im_putZ, im_putR, im_ald, im_iast, im_bast, im_sast, im_zast, im_aald, im_alen, im_new, im_newa, im_newq, im_tsw, im_lsw, tswA, lswA, im_callS_eq, im_callV_eq, chk_i, chk_T, dOk_i, tf_0, tf_n0, tf_1, tf_01, tf_F, tf_T, tf_em, tf_me, ↓reduceIte, Int.zero_add, Int.add_zero, Int.one_mul, Int.mul_one, Int.ediv_one, Int.sub_zero, im_ireturn, im_zreturn, im_areturn, im_return, im_objinit, popI_eq, popII_eq, popJ_eq, popJJ_eq, popR_eq, popRR_eq, popV_eq, popVV_eq, popA_eq, popIA_eq, popIIA_eq, popRA_eq, popRIA_eq, getI, getJ, getR, lget_0, lget_s, nlAt, cat1, wsum, List.set_cons_zero, List.set_cons_succ, List.take_succ_cons, List.take_zero, List.drop_succ_cons, List.drop_zero, List.reverse_cons, List.reverse_nil, List.nil_append, List.cons_append, List.length_cons, List.length_nil, true_and, and_true, and_self, ne_eq, not_false_eq_true, not_true_eq_false, Classical.not_not, false_or, or_false, true_or, or_true, imp_self, forall_const, forall_eq, implies_true, true_implies, false_implies, Nat.reduceAdd, Nat.reduceLeDiff, Nat.reduceEqDiff, Nat.reduceSub, Int.reduceNeg, Int.reduceEq, Int.reduceLT, Int.reduceLE, Int.reduceNe, Int.reduceAdd, Int.reduceSub, Nat.le_refl, Nat.zero_le, reduceCtorEq, Option.some.injEq, w32_i, MSk_t106 hM, MSk_p0 hM, MSk_t107 hM, MSk_n107 hM, MSk_p1 hM, MSk_t108 hM, MSk_n108 hM, MSk_p2 hM, MSk_t109 hM, MSk_n109 hM, MSk_p3 hM, MSk_t110 hM, MSk_n110 hM, MSk_p4 hM, MSk_t111 hM, MSk_n111 hM, MSk_p5 hM, MSk_t112 hM, MSk_n112 hM, MSk_p13 hM, MSk_t113 hM, MSk_n113 hM, MSk_p14 hM, MSk_t114 hM, MSk_n114 hM, MSk_p15 hM, MSk_t115 hM, MSk_n115 hM, MSk_p16 hM, MSk_t116 hM, MSk_n116 hM, MSk_p18 hM, MSk_t117 hM, MSk_n117 hM, MSk_p20 hM, MSk_t118 hM, MSk_n118 hM, MSk_p21 hM, MSk_t119 hM, MSk_n119 hM, MSk_p22 hM, MSk_t120 hM, MSk_n120 hM, hM, im_p_X6_byteAt, im_p_X6_in, iSet_ne, iSet_k, iSet_eq, eb]
      exact ⟨fun _ => hR, fun h => absurd h hl⟩
theorem iSet_2 {I : SmI} {a : Nat} {k x y : Int} : iSet (iSet I a k x) a k y = iSet I a k y := by
  funext b j
  rw [iSet_ap, iSet_ap, iSet_ap]
  split <;> rfl
theorem fgA_s {T : Int → Int} {b p : Int} (h : b ≤ p) : fgA T b (p + 1) = if p - b < 2 then 10 * fgA T b p + T p - 48 else fgA T b p := by
  unfold fgA
  by_cases e : p = b
  · rw [if_neg (by omega), if_pos (by omega), if_pos (by omega), if_pos e, e]; omega
  · by_cases e2 : p = b + 1
    · rw [if_neg (by omega), if_neg (by omega), if_pos (by omega), if_neg e, if_pos e2, e2]; omega
    · rw [if_neg (by omega), if_neg (by omega), if_neg (by omega), if_neg e, if_neg e2]
theorem fgA_in {T : Int → Int} {b p : Int} (h : ∀ q, b ≤ q → q < p → dgi (T q)) (hp : b ≤ p) : 0 ≤ fgA T b p ∧ fgA T b p ≤ 99 := by
  unfold fgA
  by_cases e : p = b
  · rw [if_pos e]; omega
  · have d0 := h b (by omega) (by omega)
    unfold dgi at d0
    by_cases e2 : p = b + 1
    · rw [if_neg e, if_pos e2]; omega
    · have d1 := h (b + 1) (by omega) (by omega)
      unfold dgi at d1
      rw [if_neg e, if_neg e2]; omega
/-- the figures: from p on -/
theorem mr_140 {d : Nat} {Rq : SmQ} {S : SmS} {I : SmI} {c b : Int} (hM : MSk S) (h2 : I 106 6 ≤ 160) (b0 : 0 ≤ b) (h8 : I 106 8 = b) (h11 : I 106 11 = 0)
  (hR : ∀ e, e = skp dgi (I 112) (I 106 6) b → ¬ 2 < e - b → Rq (.inl none) S (iSet (iSet I 106 10 (fgA (I 112) b e)) 106 7 e))
  (hE : ∀ e, e = skp dgi (I 112) (I 106 6) b → 2 < e - b → Rq (.inl none) S (iSet (iSet (iSet (iSet I 106 10 (fgA (I 112) b e)) 106 7 e) 106 11 1) 106 12 b)) :
  ∀ (m : Nat) (p : Int), b ≤ p → p ≤ I 106 6 → (I 106 6 - p).toNat = m → skp dgi (I 112) (I 106 6) p = skp dgi (I 112) (I 106 6) b → (∀ q, b ≤ q → q < p → dgi (I 112 q)) → SW mi_X6_reads 140 (d + 1) Rq [some (vR (some 106)), some (vI c)] [] S (iSet (iSet I 106 10 (fgA (I 112) b p)) 106 7 p) := by
  intro m
  have eb : ∀ p, (if p < I 106 6 then I 112 p else -1) = byT (I 112) (I 106 6) p := fun _ => rfl
  have stop : ∀ p, b ≤ p → p ≤ I 106 6 → skp dgi (I 112) (I 106 6) p = skp dgi (I 112) (I 106 6) b → ¬ dgi (byT (I 112) (I 106 6) p) → SW mi_X6_reads 140 (d + 1) Rq [some (vR (some 106)), some (vI c)] [] S (iSet (iSet I 106 10 (fgA (I 112) b p)) 106 7 p) := by
    intro p p0 p1 hs hl
    rw [skp_n hl] at hs
    unfold dgi at hl
    have n1 := hR p hs
    have n2 := hE p hs
    have c8 : iSet (iSet I 106 10 (fgA (I 112) b p)) 106 7 p 106 8 = b := by rw [iSet_k (by omega), iSet_k (by omega), h8]
    have c11 : iSet (iSet I 106 10 (fgA (I 112) b p)) 106 7 p 106 11 = 0 := by rw [iSet_k (by omega), iSet_k (by omega), h11]
    refine rv_X6_reads_140 ?_
    simp +contextual (disch := omega) only [tr_X6_reads_140, im_ic, im_lc, im_nul, im_iload, im_lload, im_aload, im_istore, im_astore, im_lstore, im_iinc, im_iadd, im_isub, im_imul, im_iand, im_ior, im_ishl, im_ishr, im_iushr, im_idiv, im_irem, im_ineg, im_i2l, im_l2i, im_i2b, im_i2s, im_ladd, im_lcmp, im_dup, im_pop, im_dup_x1, im_dup2, im_ceq, im_cne, im_clt, im_cge, im_cgt, im_cle, im_zeq, im_zne, im_zlt, im_zge, im_zgt, im_zle, im_ifnull, im_ifnn, im_acmpeq, im_acmpne, im_getI, im_getR, im_putI, im_putZ, im_putR, im_ald, im_iast, im_bast, im_sast, im_zast, im_aald, im_alen, im_new, im_newa, im_newq, im_tsw, im_lsw, tswA, lswA, im_callS_eq, im_callV_eq, chk_i, chk_T, dOk_i, tf_0, tf_n0, tf_1, tf_01, tf_F, tf_T, tf_em, tf_me, ↓reduceIte, Int.zero_add, Int.add_zero, Int.one_mul, Int.mul_one, Int.ediv_one, Int.sub_zero, im_ireturn, im_zreturn, im_areturn, im_return, im_objinit, popI_eq, popII_eq, popJ_eq, popJJ_eq, popR_eq, popRR_eq, popV_eq, popVV_eq, popA_eq, popIA_eq, popIIA_eq, popRA_eq, popRIA_eq, getI, getJ, getR, lget_0, lget_s, nlAt, cat1, wsum, List.set_cons_zero, List.set_cons_succ, List.take_succ_cons, List.take_zero, List.drop_succ_cons, List.drop_zero, List.reverse_cons, List.reverse_nil, List.nil_append, List.cons_append, List.length_cons, List.length_nil, true_and, and_true, and_self, ne_eq, not_false_eq_true, not_true_eq_false, Classical.not_not, false_or, or_false, true_or, or_true, imp_self, forall_const, forall_eq, implies_true, true_implies, false_implies, Nat.reduceAdd, Nat.reduceLeDiff, Nat.reduceEqDiff, Nat.reduceSub, Int.reduceNeg, Int.reduceEq, Int.reduceLT, Int.reduceLE, Int.reduceNe, Int.reduceAdd, Int.reduceSub, Nat.le_refl, Nat.zero_le, reduceCtorEq, Option.some.injEq, w32_i, MSk_t106 hM, MSk_p0 hM, MSk_t107 hM, MSk_n107 hM, MSk_p1 hM, MSk_t108 hM, MSk_n108 hM, MSk_p2 hM, MSk_t109 hM, MSk_n109 hM, MSk_p3 hM, MSk_t110 hM, MSk_n110 hM, MSk_p4 hM, MSk_t111 hM, MSk_n111 hM, MSk_p5 hM, MSk_t112 hM, MSk_n112 hM, MSk_p13 hM, MSk_t113 hM, MSk_n113 hM, MSk_p14 hM, MSk_t114 hM, MSk_n114 hM, MSk_p15 hM, MSk_t115 hM, MSk_n115 hM, MSk_p16 hM, MSk_t116 hM, MSk_n116 hM, MSk_p18 hM, MSk_t117 hM, MSk_n117 hM, MSk_p20 hM, MSk_t118 hM, MSk_n118 hM, MSk_p21 hM, MSk_t119 hM, MSk_n119 hM, MSk_p22 hM, MSk_t120 hM, MSk_n120 hM, hM, im_p_X6_byteAt, im_p_X6_in, iSet_ne, iSet_k, iSet_eq, eb, h8]
    refine ⟨fun _ => ⟨fun z => ?_, fun z => ?_⟩, fun z => absurd z hl⟩
    · refine c_X6_requires hM (fun w => absurd w (by rw [c11]; omega)) (fun _ _ => ?_)
      rw [retK_n, c8]
      refine rv_X6_reads_240 ?_
      simp +contextual (disch := omega) only [tr_X6_reads_240, im_ic, im_lc, im_nul, im_iload, im_lload, im_aload, im_istore, im_astore, im_lstore, im_iinc, im_iadd, im_isub, im_imul, im_iand, im_ior, im_ishl, im_ishr, im_iushr, im_idiv, im_irem, im_ineg, im_i2l, im_l2i, im_i2b, im_i2s, im_ladd, im_lcmp, im_dup, im_pop, im_dup_x1, im_dup2, im_ceq, im_cne, im_clt, im_cge, im_cgt, im_cle, im_zeq, im_zne, im_zlt, im_zge, im_zgt, im_zle, im_ifnull, im_ifnn, im_acmpeq, im_acmpne, im_getI, im_getR, im_putI, im_putZ, im_putR, im_ald, im_iast, im_bast, im_sast, im_zast, im_aald, im_alen, im_new, im_newa, im_newq, im_tsw, im_lsw, tswA, lswA, im_callS_eq, im_callV_eq, chk_i, chk_T, dOk_i, tf_0, tf_n0, tf_1, tf_01, tf_F, tf_T, tf_em, tf_me, ↓reduceIte, Int.zero_add, Int.add_zero, Int.one_mul, Int.mul_one, Int.ediv_one, Int.sub_zero, im_ireturn, im_zreturn, im_areturn, im_return, im_objinit, popI_eq, popII_eq, popJ_eq, popJJ_eq, popR_eq, popRR_eq, popV_eq, popVV_eq, popA_eq, popIA_eq, popIIA_eq, popRA_eq, popRIA_eq, getI, getJ, getR, lget_0, lget_s, nlAt, cat1, wsum, List.set_cons_zero, List.set_cons_succ, List.take_succ_cons, List.take_zero, List.drop_succ_cons, List.drop_zero, List.reverse_cons, List.reverse_nil, List.nil_append, List.cons_append, List.length_cons, List.length_nil, true_and, and_true, and_self, ne_eq, not_false_eq_true, not_true_eq_false, Classical.not_not, false_or, or_false, true_or, or_true, imp_self, forall_const, forall_eq, implies_true, true_implies, false_implies, Nat.reduceAdd, Nat.reduceLeDiff, Nat.reduceEqDiff, Nat.reduceSub, Int.reduceNeg, Int.reduceEq, Int.reduceLT, Int.reduceLE, Int.reduceNe, Int.reduceAdd, Int.reduceSub, Nat.le_refl, Nat.zero_le, reduceCtorEq, Option.some.injEq, w32_i]
      exact n2 z
    · refine c_X6_requires hM (fun _ => ?_) (fun w => absurd w (by omega))
      rw [retK_n]
      refine rv_X6_reads_240 ?_
      simp +contextual (disch := omega) only [tr_X6_reads_240, im_ic, im_lc, im_nul, im_iload, im_lload, im_aload, im_istore, im_astore, im_lstore, im_iinc, im_iadd, im_isub, im_imul, im_iand, im_ior, im_ishl, im_ishr, im_iushr, im_idiv, im_irem, im_ineg, im_i2l, im_l2i, im_i2b, im_i2s, im_ladd, im_lcmp, im_dup, im_pop, im_dup_x1, im_dup2, im_ceq, im_cne, im_clt, im_cge, im_cgt, im_cle, im_zeq, im_zne, im_zlt, im_zge, im_zgt, im_zle, im_ifnull, im_ifnn, im_acmpeq, im_acmpne, im_getI, im_getR, im_putI, im_putZ, im_putR, im_ald, im_iast, im_bast, im_sast, im_zast, im_aald, im_alen, im_new, im_newa, im_newq, im_tsw, im_lsw, tswA, lswA, im_callS_eq, im_callV_eq, chk_i, chk_T, dOk_i, tf_0, tf_n0, tf_1, tf_01, tf_F, tf_T, tf_em, tf_me, ↓reduceIte, Int.zero_add, Int.add_zero, Int.one_mul, Int.mul_one, Int.ediv_one, Int.sub_zero, im_ireturn, im_zreturn, im_areturn, im_return, im_objinit, popI_eq, popII_eq, popJ_eq, popJJ_eq, popR_eq, popRR_eq, popV_eq, popVV_eq, popA_eq, popIA_eq, popIIA_eq, popRA_eq, popRIA_eq, getI, getJ, getR, lget_0, lget_s, nlAt, cat1, wsum, List.set_cons_zero, List.set_cons_succ, List.take_succ_cons, List.take_zero, List.drop_succ_cons, List.drop_zero, List.reverse_cons, List.reverse_nil, List.nil_append, List.cons_append, List.length_cons, List.length_nil, true_and, and_true, and_self, ne_eq, not_false_eq_true, not_true_eq_false, Classical.not_not, false_or, or_false, true_or, or_true, imp_self, forall_const, forall_eq, implies_true, true_implies, false_implies, Nat.reduceAdd, Nat.reduceLeDiff, Nat.reduceEqDiff, Nat.reduceSub, Int.reduceNeg, Int.reduceEq, Int.reduceLT, Int.reduceLE, Int.reduceNe, Int.reduceAdd, Int.reduceSub, Nat.le_refl, Nat.zero_le, reduceCtorEq, Option.some.injEq, w32_i]
      exact n1 z
  have go : ∀ p, b ≤ p → p < I 106 6 → dgi (byT (I 112) (I 106 6) p) → (∀ q, b ≤ q → q < p → dgi (I 112 q)) → SW mi_X6_reads 140 (d + 1) Rq [some (vR (some 106)), some (vI c)] [] S (iSet (iSet I 106 10 (fgA (I 112) b (p + 1))) 106 7 (p + 1)) → SW mi_X6_reads 140 (d + 1) Rq [some (vR (some 106)), some (vI c)] [] S (iSet (iSet I 106 10 (fgA (I 112) b p)) 106 7 p) := by
    intro p p0 p1 hl hd nx
    have fi := fgA_in hd p0
    have fs := fgA_s (T := I 112) p0
    have et : byT (I 112) (I 106 6) p = I 112 p := if_pos p1
    unfold dgi at hl
    have h201 : ∀ v, v = fgA (I 112) b (p + 1) → SW mi_X6_reads 201 (d + 1) Rq [some (vR (some 106)), some (vI c)] [vI v, vR (some 106)] S (iSet (iSet I 106 10 (fgA (I 112) b p)) 106 7 p) := by
      intro v hv
      have e : iSet (iSet (iSet (iSet I 106 10 (fgA (I 112) b p)) 106 7 p) 106 10 v) 106 7 (p + 1) = iSet (iSet I 106 10 (fgA (I 112) b (p + 1))) 106 7 (p + 1) := by
        rw [← hv]
        funext x j
        simp only [iSet_ap]
        by_cases j7 : x = 106 ∧ j = 7
        · rw [if_pos j7, if_pos j7]
        · rw [if_neg j7, if_neg j7]
          by_cases j10 : x = 106 ∧ j = 10
          · rw [if_pos j10, if_neg j7, if_pos j10]
          · rw [if_neg j10, if_neg j10, if_neg j7, if_neg j10]
      rw [← e] at nx
      refine rv_X6_reads_201 ?_
      simp +contextual (disch := omega) only [tr_X6_reads_201, im_ic, im_lc, im_nul, im_iload, im_lload, im_aload, im_istore, im_astore, im_lstore, im_iinc, im_iadd, im_isub, im_imul, im_iand, im_ior, im_ishl, im_ishr, im_iushr, im_idiv, im_irem, im_ineg, im_i2l, im_l2i, im_i2b, im_i2s, im_ladd, im_lcmp, im_dup, im_pop, im_dup_x1, im_dup2, im_ceq, im_cne, im_clt, im_cge, im_cgt, im_cle, im_zeq, im_zne, im_zlt, im_zge, im_zgt, im_zle, im_ifnull, im_ifnn, im_acmpeq, im_acmpne, im_getI, im_getR, im_putI, im_putZ, im_putR, im_ald, im_iast, im_bast, im_sast, im_zast, im_aald, im_alen, im_new, im_newa, im_newq, im_tsw, im_lsw, tswA, lswA, im_callS_eq, im_callV_eq, chk_i, chk_T, dOk_i, tf_0, tf_n0, tf_1, tf_01, tf_F, tf_T, tf_em, tf_me, ↓reduceIte, Int.zero_add, Int.add_zero, Int.one_mul, Int.mul_one, Int.ediv_one, Int.sub_zero, im_ireturn, im_zreturn, im_areturn, im_return, im_objinit, popI_eq, popII_eq, popJ_eq, popJJ_eq, popR_eq, popRR_eq, popV_eq, popVV_eq, popA_eq, popIA_eq, popIIA_eq, popRA_eq, popRIA_eq, getI, getJ, getR, lget_0, lget_s, nlAt, cat1, wsum, List.set_cons_zero, List.set_cons_succ, List.take_succ_cons, List.take_zero, List.drop_succ_cons, List.drop_zero, List.reverse_cons, List.reverse_nil, List.nil_append, List.cons_append, List.length_cons, List.length_nil, true_and, and_true, and_self, ne_eq, not_false_eq_true, not_true_eq_false, Classical.not_not, false_or, or_false, true_or, or_true, imp_self, forall_const, forall_eq, implies_true, true_implies, false_implies, Nat.reduceAdd, Nat.reduceLeDiff, Nat.reduceEqDiff, Nat.reduceSub, Int.reduceNeg, Int.reduceEq, Int.reduceLT, Int.reduceLE, Int.reduceNe, Int.reduceAdd, Int.reduceSub, Nat.le_refl, Nat.zero_le, reduceCtorEq, Option.some.injEq, w32_i, MSk_t106 hM, MSk_p0 hM, MSk_t107 hM, MSk_n107 hM, MSk_p1 hM, MSk_t108 hM, MSk_n108 hM, MSk_p2 hM, MSk_t109 hM, MSk_n109 hM, MSk_p3 hM, MSk_t110 hM, MSk_n110 hM, MSk_p4 hM, MSk_t111 hM, MSk_n111 hM, MSk_p5 hM, MSk_t112 hM, MSk_n112 hM, MSk_p13 hM, MSk_t113 hM, MSk_n113 hM, MSk_p14 hM, MSk_t114 hM, MSk_n114 hM, MSk_p15 hM, MSk_t115 hM, MSk_n115 hM, MSk_p16 hM, MSk_t116 hM, MSk_n116 hM, MSk_p18 hM, MSk_t117 hM, MSk_n117 hM, MSk_p20 hM, MSk_t118 hM, MSk_n118 hM, MSk_p21 hM, MSk_t119 hM, MSk_n119 hM, MSk_p22 hM, MSk_t120 hM, MSk_n120 hM, iSet_k, iSet_eq]
      exact nx
    refine rv_X6_reads_140 ?_
    simp +contextual (disch := omega) only [tr_X6_reads_140, im_ic, im_lc, im_nul, im_iload, im_lload, im_aload, im_istore, im_astore, im_lstore, im_iinc, im_iadd, im_isub, im_imul, im_iand, im_ior, im_ishl, im_ishr, im_iushr, im_idiv, im_irem, im_ineg, im_i2l, im_l2i, im_i2b, im_i2s, im_ladd, im_lcmp, im_dup, im_pop, im_dup_x1, im_dup2, im_ceq, im_cne, im_clt, im_cge, im_cgt, im_cle, im_zeq, im_zne, im_zlt, im_zge, im_zgt, im_zle, im_ifnull, im_ifnn, im_acmpeq, im_acmpne, im_getI, im_getR, im_putI, im_putZ, im_putR, im_ald, im_iast, im_bast, im_sast, im_zast, im_aald, im_alen, im_new, im_newa, im_newq, im_tsw, im_lsw, tswA, lswA, im_callS_eq, im_callV_eq, chk_i, chk_T, dOk_i, tf_0, tf_n0, tf_1, tf_01, tf_F, tf_T, tf_em, tf_me, ↓reduceIte, Int.zero_add, Int.add_zero, Int.one_mul, Int.mul_one, Int.ediv_one, Int.sub_zero, im_ireturn, im_zreturn, im_areturn, im_return, im_objinit, popI_eq, popII_eq, popJ_eq, popJJ_eq, popR_eq, popRR_eq, popV_eq, popVV_eq, popA_eq, popIA_eq, popIIA_eq, popRA_eq, popRIA_eq, getI, getJ, getR, lget_0, lget_s, nlAt, cat1, wsum, List.set_cons_zero, List.set_cons_succ, List.take_succ_cons, List.take_zero, List.drop_succ_cons, List.drop_zero, List.reverse_cons, List.reverse_nil, List.nil_append, List.cons_append, List.length_cons, List.length_nil, true_and, and_true, and_self, ne_eq, not_false_eq_true, not_true_eq_false, Classical.not_not, false_or, or_false, true_or, or_true, imp_self, forall_const, forall_eq, implies_true, true_implies, false_implies, Nat.reduceAdd, Nat.reduceLeDiff, Nat.reduceEqDiff, Nat.reduceSub, Int.reduceNeg, Int.reduceEq, Int.reduceLT, Int.reduceLE, Int.reduceNe, Int.reduceAdd, Int.reduceSub, Nat.le_refl, Nat.zero_le, reduceCtorEq, Option.some.injEq, w32_i, MSk_t106 hM, MSk_p0 hM, MSk_t107 hM, MSk_n107 hM, MSk_p1 hM, MSk_t108 hM, MSk_n108 hM, MSk_p2 hM, MSk_t109 hM, MSk_n109 hM, MSk_p3 hM, MSk_t110 hM, MSk_n110 hM, MSk_p4 hM, MSk_t111 hM, MSk_n111 hM, MSk_p5 hM, MSk_t112 hM, MSk_n112 hM, MSk_p13 hM, MSk_t113 hM, MSk_n113 hM, MSk_p14 hM, MSk_t114 hM, MSk_n114 hM, MSk_p15 hM, MSk_t115 hM, MSk_n115 hM, MSk_p16 hM, MSk_t116 hM, MSk_n116 hM, MSk_p18 hM, MSk_t117 hM, MSk_n117 hM, MSk_p20 hM, MSk_t118 hM, MSk_n118 hM, MSk_p21 hM, MSk_t119 hM, MSk_n119 hM, MSk_p22 hM, MSk_t120 hM, MSk_n120 hM, hM, im_p_X6_byteAt, im_p_X6_in, iSet_ne, iSet_k, iSet_eq, eb, h8]
    refine ⟨fun z => absurd hl z, fun _ => ⟨fun z => h201 _ ?_, fun z => h201 _ ?_⟩⟩
    · rw [fs, if_neg (by omega)]
    · rw [fs, if_pos (by omega), et]
  induction m with
  | zero =>
    intro p p0 p1 hm hs _
    refine stop p p0 p1 hs ?_
    unfold byT
    rw [if_neg (by omega)]
    exact dgi_1
  | succ m ih =>
    intro p p0 p1 hm hs hd
    by_cases hl : dgi (byT (I 112) (I 106 6) p)
    · obtain ⟨p2, e⟩ := skp_s dgi_1 hl
      have et : byT (I 112) (I 106 6) p = I 112 p := if_pos p2
      refine go p p0 p2 hl hd (ih (p + 1) (by omega) (by omega) (by omega) (by rw [← e]; exact hs) (fun q q0 q1 => ?_))
      by_cases z : q = p
      · rw [z, ← et]; exact hl
      · exact hd q q0 (by omega)
    · exact stop p p0 p1 hs hl
/-- one token -/
theorem mr_8 {d : Nat} {Rq : SmQ} {S : SmS} {I : SmI} (hM : MSk S) (h0 : 0 ≤ I 106 7) (h1 : I 106 7 ≤ I 106 6) (h2 : I 106 6 ≤ 160) (h11 : I 106 11 = 0) (hR : ∀ I' : SmI, lxR I I' → Rq (.inl none) S I') (hB : byT (I 112) (I 106 6) (lxB (I 112) (I 106 6) (I 106 7)) ≠ 32) : SW mi_X6_reads 8 (d + 1) Rq [some (vR (some 106)), none] [] S (iSet I 106 7 (lxB (I 112) (I 106 6) (I 106 7))) := by
  have eb : ∀ p, (if p < I 106 6 then I 112 p else -1) = byT (I 112) (I 106 6) p := fun _ => rfl
  have bi := skp_in (P := spc) (T := I 112) spc_1 h1
  have bi' : I 106 7 ≤ lxB (I 112) (I 106 6) (I 106 7) ∧ lxB (I 112) (I 106 6) (I 106 7) ≤ I 106 6 := bi
  unfold lxR at hR
  have hS : lxS (I 112) (I 106 6) (I 106 7) = lxS (I 112) (I 106 6) (I 106 7) := rfl
  have hP : lxP (I 112) (I 106 6) (I 106 7) = lxP (I 112) (I 106 6) (I 106 7) := rfl
  unfold lxE lxF at hR
  conv at hS => rhs; unfold lxS
  conv at hP => rhs; unfold lxP
  generalize lxS (I 112) (I 106 6) (I 106 7) = sS at *
  generalize lxP (I 112) (I 106 6) (I 106 7) = sP at *
  generalize lxB (I 112) (I 106 6) (I 106 7) = B at *
  have fr : ∀ x, frT I (iSet (iSet (iSet I 106 7 B) 106 8 B) 106 9 x) := fun x => frT_set (frT_set (frT_set frT_refl (by omega) (by omega)) (by omega) (by omega)) (by omega) (by omega)
  have v7 : ∀ x, iSet (iSet (iSet I 106 7 B) 106 8 B) 106 9 x 106 7 = B := fun x => by rw [iSet_k (by omega), iSet_k (by omega), iSet_eq]
  have v8 : ∀ x, iSet (iSet (iSet I 106 7 B) 106 8 B) 106 9 x 106 8 = B := fun x => by rw [iSet_k (by omega), iSet_eq]
  have v9 : ∀ x, iSet (iSet (iSet I 106 7 B) 106 8 B) 106 9 x 106 9 = x := fun x => iSet_eq
  have v11 : ∀ x, iSet (iSet (iSet I 106 7 B) 106 8 B) 106 9 x 106 11 = 0 := fun x => by rw [iSet_k (by omega), iSet_k (by omega), iSet_k (by omega), h11]
  have v12 : ∀ x, iSet (iSet (iSet I 106 7 B) 106 8 B) 106 9 x 106 12 = I 106 12 := fun x => by rw [iSet_k (by omega), iSet_k (by omega), iSet_k (by omega)]
  have v6 : ∀ x, iSet (iSet (iSet I 106 7 B) 106 8 B) 106 9 x 106 6 = I 106 6 := fun x => (fr x).2 6 (by omega)
  have vt : ∀ x, iSet (iSet (iSet I 106 7 B) 106 8 B) 106 9 x 112 = I 112 := fun x => (fr x).1 112 (by decide)
  have q0 : ¬ 0 ≤ byT (I 112) (I 106 6) B → Rq (.inl none) S (iSet (iSet (iSet I 106 7 B) 106 8 B) 106 9 0) := fun z => by
    have s0 : sS = 0 := by rw [hS, if_pos (by omega)]
    have p0 : sP = B := by rw [hP, if_pos s0]
    exact hR _ ⟨fr 0, by rw [v7, p0], v8 0, by rw [v9, s0], fun w => by omega, fun _ => ⟨v11 0, v12 0⟩, fun w => by omega⟩
  have q1 : 0 ≤ byT (I 112) (I 106 6) B → ltr (byT (I 112) (I 106 6) B) → SW mi_X6_reads 82 (d + 1) Rq [some (vR (some 106)), some (vI (byT (I 112) (I 106 6) B))] [] S (iSet (iSet (iSet I 106 7 B) 106 8 B) 106 9 1) := fun z z1 => by
    have s0 : sS = 1 := by rw [hS, if_neg (by omega), if_pos z1]
    have p0 : sP = skp ltr (I 112) (I 106 6) B := by rw [hP, if_neg (by omega), if_pos s0]
    have := mr_82 (d := d) (Rq := Rq) (c := byT (I 112) (I 106 6) B) (I := iSet (iSet (iSet I 106 7 B) 106 8 B) 106 9 1) hM (by rw [v6]; exact h2) (by
      rw [v7, v6, vt, ← p0]
      exact hR _ ⟨frT_set (fr 1) (by omega) (by omega), iSet_eq, by rw [iSet_k (by omega), v8], by rw [iSet_k (by omega), v9, s0], fun w => by omega, fun _ => ⟨by rw [iSet_k (by omega), v11], by rw [iSet_k (by omega), v12]⟩, fun w => by omega⟩) _ B (by omega) (by rw [v6]; omega) rfl (by rw [v7])
    rw [iSet_idv (v7 1)] at this
    exact this
  have q2 : 0 ≤ byT (I 112) (I 106 6) B → ¬ ltr (byT (I 112) (I 106 6) B) → dgi (byT (I 112) (I 106 6) B) → SW mi_X6_reads 140 (d + 1) Rq [some (vR (some 106)), some (vI (byT (I 112) (I 106 6) B))] [] S (iSet (iSet (iSet (iSet I 106 7 B) 106 8 B) 106 9 2) 106 10 0) := fun z z1 z2 => by
    have s0 : sS = 2 := by rw [hS, if_neg (by omega), if_neg z1, if_pos z2]
    have p0 : sP = skp dgi (I 112) (I 106 6) B := by rw [hP, if_neg (by omega), if_neg (by omega), if_pos s0]
    have := mr_140 (d := d) (Rq := Rq) (c := byT (I 112) (I 106 6) B) (b := B) (I := iSet (iSet (iSet I 106 7 B) 106 8 B) 106 9 2) hM (by rw [v6]; exact h2) (by omega) (v8 2) (v11 2) (fun e he h => by
      rw [v6, vt, ← p0] at he
      subst he
      rw [vt]
      exact hR _ ⟨frT_set (frT_set (fr 2) (by omega) (by omega)) (by omega) (by omega), iSet_eq, by rw [iSet_k (by omega), iSet_k (by omega), v8], by rw [iSet_k (by omega), iSet_k (by omega), v9, s0], fun _ => by rw [iSet_k (by omega), iSet_eq], fun _ => ⟨by rw [iSet_k (by omega), iSet_k (by omega), v11], by rw [iSet_k (by omega), iSet_k (by omega), v12]⟩, fun w => by omega⟩) (fun e he h => by
      rw [v6, vt, ← p0] at he
      subst he
      rw [vt]
      exact hR _ ⟨frT_set (frT_set (frT_set (frT_set (fr 2) (by omega) (by omega)) (by omega) (by omega)) (by omega) (by omega)) (by omega) (by omega), by rw [iSet_k (by omega), iSet_k (by omega), iSet_eq], by rw [iSet_k (by omega), iSet_k (by omega), iSet_k (by omega), iSet_k (by omega), v8], by rw [iSet_k (by omega), iSet_k (by omega), iSet_k (by omega), iSet_k (by omega), v9, s0], fun _ => by rw [iSet_k (by omega), iSet_k (by omega), iSet_k (by omega), iSet_eq], fun w => absurd (Or.inl ⟨s0, h⟩) w, fun _ => ⟨by rw [iSet_k (by omega), iSet_eq], iSet_eq⟩⟩) _ B (by omega) (by rw [v6]; omega) rfl rfl (fun q a b => by omega)
    have e0 : fgA (iSet (iSet (iSet I 106 7 B) 106 8 B) 106 9 2 112) B B = 0 := if_pos rfl
    have e7 : iSet (iSet (iSet (iSet I 106 7 B) 106 8 B) 106 9 2) 106 10 0 106 7 = B := by rw [iSet_k (by omega), v7]
    rw [e0, iSet_idv e7] at this
    exact this
  have q3 : 0 ≤ byT (I 112) (I 106 6) B → ¬ ltr (byT (I 112) (I 106 6) B) → ¬ dgi (byT (I 112) (I 106 6) B) → ∀ I2 : SmI, frT I I2 → I2 106 7 = B → I2 106 8 = B → I2 106 9 = 3 → (byT (I 112) (I 106 6) B = 59 → I2 106 11 = 0 ∧ I2 106 12 = I 106 12) → (byT (I 112) (I 106 6) B ≠ 59 → I2 106 11 = 1 ∧ I2 106 12 = B) → ∀ o, SW mi_X6_reads 264 (d + 1) Rq [some (vR (some 106)), o] [] S I2 := fun z z1 z2 I2 k1 k2 k3 k4 k5 k6 o => by
    have s0 : sS = 3 := by rw [hS, if_neg (by omega), if_neg z1, if_neg z2]
    have p0 : sP = B + 1 := by rw [hP, if_neg (by omega), if_neg (by omega), if_neg (by omega)]
    have h9 := hR (iSet I2 106 7 (B + 1)) ⟨frT_set k1 (by omega) (by omega), by rw [iSet_eq, p0], by rw [iSet_k (by omega), k3], by rw [iSet_k (by omega), k4, s0], fun w => by omega, fun w => by
      rw [iSet_k (by omega), iSet_k (by omega)]
      exact k5 (Classical.byContradiction fun y => w (Or.inr ⟨s0, y⟩)), fun w => by
      rw [iSet_k (by omega), iSet_k (by omega)]
      exact k6 (w.elim (fun y => by omega) (fun y => y.2))⟩
    refine rv_X6_reads_264 ?_
    simp +contextual (disch := omega) only [tr_X6_reads_264, im_ic, im_lc, im_nul, im_iload, im_lload, im_aload, im_istore, im_astore, im_lstore, im_iinc, im_iadd, im_isub, im_imul, im_iand, im_ior, im_ishl, im_ishr, im_iushr, im_idiv, im_irem, im_ineg, im_i2l, im_l2i, im_i2b, im_i2s, im_ladd, im_lcmp, im_dup, im_pop, im_dup_x1, im_dup2, im_ceq, im_cne, im_clt, im_cge, im_cgt, im_cle, im_zeq, im_zne, im_zlt, im_zge, im_zgt, im_zle, im_ifnull, im_ifnn, im_acmpeq, im_acmpne, im_getI, im_getR, im_putI, im_putZ, im_putR, im_ald, im_iast, im_bast, im_sast, im_zast, im_aald, im_alen, im_new, im_newa, im_newq, im_tsw, im_lsw, tswA, lswA, im_callS_eq, im_callV_eq, chk_i, chk_T, dOk_i, tf_0, tf_n0, tf_1, tf_01, tf_F, tf_T, tf_em, tf_me, ↓reduceIte, Int.zero_add, Int.add_zero, Int.one_mul, Int.mul_one, Int.ediv_one, Int.sub_zero, im_ireturn, im_zreturn, im_areturn, im_return, im_objinit, popI_eq, popII_eq, popJ_eq, popJJ_eq, popR_eq, popRR_eq, popV_eq, popVV_eq, popA_eq, popIA_eq, popIIA_eq, popRA_eq, popRIA_eq, getI, getJ, getR, lget_0, lget_s, nlAt, cat1, wsum, List.set_cons_zero, List.set_cons_succ, List.take_succ_cons, List.take_zero, List.drop_succ_cons, List.drop_zero, List.reverse_cons, List.reverse_nil, List.nil_append, List.cons_append, List.length_cons, List.length_nil, true_and, and_true, and_self, ne_eq, not_false_eq_true, not_true_eq_false, Classical.not_not, false_or, or_false, true_or, or_true, imp_self, forall_const, forall_eq, implies_true, true_implies, false_implies, Nat.reduceAdd, Nat.reduceLeDiff, Nat.reduceEqDiff, Nat.reduceSub, Int.reduceNeg, Int.reduceEq, Int.reduceLT, Int.reduceLE, Int.reduceNe, Int.reduceAdd, Int.reduceSub, Nat.le_refl, Nat.zero_le, reduceCtorEq, Option.some.injEq, w32_i, MSk_t106 hM, MSk_p0 hM, MSk_t107 hM, MSk_n107 hM, MSk_p1 hM, MSk_t108 hM, MSk_n108 hM, MSk_p2 hM, MSk_t109 hM, MSk_n109 hM, MSk_p3 hM, MSk_t110 hM, MSk_n110 hM, MSk_p4 hM, MSk_t111 hM, MSk_n111 hM, MSk_p5 hM, MSk_t112 hM, MSk_n112 hM, MSk_p13 hM, MSk_t113 hM, MSk_n113 hM, MSk_p14 hM, MSk_t114 hM, MSk_n114 hM, MSk_p15 hM, MSk_t115 hM, MSk_n115 hM, MSk_p16 hM, MSk_t116 hM, MSk_n116 hM, MSk_p18 hM, MSk_t117 hM, MSk_n117 hM, MSk_p20 hM, MSk_t118 hM, MSk_n118 hM, MSk_p21 hM, MSk_t119 hM, MSk_n119 hM, MSk_p22 hM, MSk_t120 hM, MSk_n120 hM, k2]
    exact h9
  refine rv_X6_reads_8 ?_
  simp +contextual (disch := omega) only [tr_X6_reads_8, im_ic, im_lc, im_nul, im_iload, im_lload, im_aload, im_istore, im_astore, im_lstore, im_iinc, im_iadd, im_isub, im_imul, im_iand, im_ior, im_ishl, im_ishr, im_iushr, im_idiv, im_irem, im_ineg, im_i2l, im_l2i, im_i2b, im_i2s, im_ladd, im_lcmp, im_dup, im_pop, im_dup_x1, im_dup2, im_ceq, im_cne, im_clt, im_cge, im_cgt, im_cle, im_zeq, im_zne, im_zlt, im_zge, im_zgt, im_zle, im_ifnull, im_ifnn, im_acmpeq, im_acmpne, im_getI, im_getR, im_putI, im_putZ, im_putR, im_ald, im_iast, im_bast, im_sast, im_zast, im_aald, im_alen, im_new, im_newa, im_newq, im_tsw, im_lsw, tswA, lswA, im_callS_eq, im_callV_eq, chk_i, chk_T, dOk_i, tf_0, tf_n0, tf_1, tf_01, tf_F, tf_T, tf_em, tf_me, ↓reduceIte, Int.zero_add, Int.add_zero, Int.one_mul, Int.mul_one, Int.ediv_one, Int.sub_zero, im_ireturn, im_zreturn, im_areturn, im_return, im_objinit, popI_eq, popII_eq, popJ_eq, popJJ_eq, popR_eq, popRR_eq, popV_eq, popVV_eq, popA_eq, popIA_eq, popIIA_eq, popRA_eq, popRIA_eq, getI, getJ, getR, lget_0, lget_s, nlAt, cat1, wsum, List.set_cons_zero, List.set_cons_succ, List.take_succ_cons, List.take_zero, List.drop_succ_cons, List.drop_zero, List.reverse_cons, List.reverse_nil, List.nil_append, List.cons_append, List.length_cons, List.length_nil, true_and, and_true, and_self, ne_eq, not_false_eq_true, not_true_eq_false, Classical.not_not, false_or, or_false, true_or, or_true, imp_self, forall_const, forall_eq, implies_true, true_implies, false_implies, Nat.reduceAdd, Nat.reduceLeDiff, Nat.reduceEqDiff, Nat.reduceSub, Int.reduceNeg, Int.reduceEq, Int.reduceLT, Int.reduceLE, Int.reduceNe, Int.reduceAdd, Int.reduceSub, Nat.le_refl, Nat.zero_le, reduceCtorEq, Option.some.injEq, w32_i, MSk_t106 hM, MSk_p0 hM, MSk_t107 hM, MSk_n107 hM, MSk_p1 hM, MSk_t108 hM, MSk_n108 hM, MSk_p2 hM, MSk_t109 hM, MSk_n109 hM, MSk_p3 hM, MSk_t110 hM, MSk_n110 hM, MSk_p4 hM, MSk_t111 hM, MSk_n111 hM, MSk_p5 hM, MSk_t112 hM, MSk_n112 hM, MSk_p13 hM, MSk_t113 hM, MSk_n113 hM, MSk_p14 hM, MSk_t114 hM, MSk_n114 hM, MSk_p15 hM, MSk_t115 hM, MSk_n115 hM, MSk_p16 hM, MSk_t116 hM, MSk_n116 hM, MSk_p18 hM, MSk_t117 hM, MSk_n117 hM, MSk_p20 hM, MSk_t118 hM, MSk_n118 hM, MSk_p21 hM, MSk_t119 hM, MSk_n119 hM, MSk_p22 hM, MSk_t120 hM, MSk_n120 hM, hM, im_p_X6_byteAt, im_p_X6_in, iSet_ne, iSet_k, iSet_eq, eb]
  refine ⟨fun _ => ⟨fun z => ⟨fun z1 => ⟨fun z2 => ⟨fun z3 => ?_, fun z3 => ?_⟩, fun z2 => q2 z z1 z2⟩, fun z1 => q1 z z1⟩, q0⟩, fun h => absurd h hB⟩
  · refine c_X6_requires hM (fun w => absurd w (by rw [v11]; omega)) (fun _ _ => ?_)
    rw [retK_n, v8]
    exact q3 z z1 z2 _ (frT_set (frT_set (fr 3) (by omega) (by omega)) (by omega) (by omega)) (by rw [iSet_k (by omega), iSet_k (by omega), v7]) (by rw [iSet_k (by omega), iSet_k (by omega), v8]) (by rw [iSet_k (by omega), iSet_k (by omega), v9]) (fun w => absurd w z3) (fun _ => ⟨by rw [iSet_k (by omega), iSet_eq], iSet_eq⟩) _
  · refine c_X6_requires hM (fun _ => ?_) (fun w => absurd w (by omega))
    rw [retK_n]
    exact q3 z z1 z2 _ (fr 3) (v7 3) (v8 3) (v9 3) (fun _ => ⟨v11 3, v12 3⟩) (fun w => absurd z3 w) _
theorem b_X6_reads {d : Nat} {Rq : SmQ} {S : SmS} {I : SmI} (hM : MSk S) (h0 : 0 ≤ I 106 7) (h1 : I 106 7 ≤ I 106 6) (h2 : I 106 6 ≤ 160) (h11 : I 106 11 = 0) (hR : ∀ I' : SmI, lxR I I' → Rq (.inl none) S I') : SW mi_X6_reads 0 (d + 1) Rq [some (vR (some 106)), none] [] S I := by
  have eb : ∀ p, (if p < I 106 6 then I 112 p else -1) = byT (I 112) (I 106 6) p := fun _ => rfl
  have l8 : ∀ (m : Nat) (p : Int), I 106 7 ≤ p → p ≤ I 106 6 → (I 106 6 - p).toNat = m → skp spc (I 112) (I 106 6) p = lxB (I 112) (I 106 6) (I 106 7) → SW mi_X6_reads 8 (d + 1) Rq [some (vR (some 106)), none] [] S (iSet I 106 7 p) := by
    intro m
    induction m with
    | zero =>
      intro p p0 p1 hm hs
      have hn : ¬ spc (byT (I 112) (I 106 6) p) := by unfold byT; rw [if_neg (by omega)]; exact spc_1
      rw [skp_n hn] at hs
      rw [hs] at hn ⊢
      exact mr_8 hM h0 h1 h2 h11 hR hn
    | succ m ih =>
      intro p p0 p1 hm hs
      by_cases hl : spc (byT (I 112) (I 106 6) p)
      · obtain ⟨p2, e⟩ := skp_s spc_1 hl
        have nx := ih (p + 1) (by omega) (by omega) (by omega) (by rw [← e]; exact hs)
        unfold spc at hl
        refine rv_X6_reads_8 ?_
        simp +contextual (disch := omega) only [tr_X6_reads_8, im_ic, im_lc, im_nul, im_iload, im_lload, im_aload, im_istore, im_astore, im_lstore, im_iinc, im_iadd, im_isub, im_imul, im_iand, im_ior, im_ishl, im_ishr, im_iushr, im_idiv, im_irem, im_ineg, im_i2l, im_l2i, im_i2b, im_i2s, im_ladd, im_lcmp, im_dup, im_pop, im_dup_x1, im_dup2, im_ceq, im_cne, im_clt, im_cge, im_cgt, im_cle, im_zeq, im_zne, im_zlt, im_zge, im_zgt, im_zle, im_ifnull, im_ifnn, im_acmpeq, im_acmpne, im_getI, im_getR, im_putI, im_putZ, im_putR, im_ald, im_iast, im_bast, im_sast, im_zast, im_aald, im_alen, im_new, im_newa, im_newq, im_tsw, im_lsw, tswA, lswA, im_callS_eq, im_callV_eq, chk_i, chk_T, dOk_i, tf_0, tf_n0, tf_1, tf_01, tf_F, tf_T, tf_em, tf_me, ↓reduceIte, Int.zero_add, Int.add_zero, Int.one_mul, Int.mul_one, Int.ediv_one, Int.sub_zero, im_ireturn, im_zreturn, im_areturn, im_return, im_objinit, popI_eq, popII_eq, popJ_eq, popJJ_eq, popR_eq, popRR_eq, popV_eq, popVV_eq, popA_eq, popIA_eq, popIIA_eq, popRA_eq, popRIA_eq, getI, getJ, getR, lget_0, lget_s, nlAt, cat1, wsum, List.set_cons_zero, List.set_cons_succ, List.take_succ_cons, List.take_zero, List.drop_succ_cons, List.drop_zero, List.reverse_cons, List.reverse_nil, List.nil_append, List.cons_append, List.length_cons, List.length_nil, true_and, and_true, and_self, ne_eq, not_false_eq_true, not_true_eq_false, Classical.not_not, false_or, or_false, true_or, or_true, imp_self, forall_const, forall_eq, implies_true, true_implies, false_implies, Nat.reduceAdd, Nat.reduceLeDiff, Nat.reduceEqDiff, Nat.reduceSub, Int.reduceNeg, Int.reduceEq, Int.reduceLT, Int.reduceLE, Int.reduceNe, Int.reduceAdd, Int.reduceSub, Nat.le_refl, Nat.zero_le, reduceCtorEq, Option.some.injEq, w32_i, MSk_t106 hM, MSk_p0 hM, MSk_t107 hM, MSk_n107 hM, MSk_p1 hM, MSk_t108 hM, MSk_n108 hM, MSk_p2 hM, MSk_t109 hM, MSk_n109 hM, MSk_p3 hM, MSk_t110 hM, MSk_n110 hM, MSk_p4 hM, MSk_t111 hM, MSk_n111 hM, MSk_p5 hM, MSk_t112 hM, MSk_n112 hM, MSk_p13 hM, MSk_t113 hM, MSk_n113 hM, MSk_p14 hM, MSk_t114 hM, MSk_n114 hM, MSk_p15 hM, MSk_t115 hM, MSk_n115 hM, MSk_p16 hM, MSk_t116 hM, MSk_n116 hM, MSk_p18 hM, MSk_t117 hM, MSk_n117 hM, MSk_p20 hM, MSk_t118 hM, MSk_n118 hM, MSk_p21 hM, MSk_t119 hM, MSk_n119 hM, MSk_p22 hM, MSk_t120 hM, MSk_n120 hM, hM, im_p_X6_byteAt, iSet_ne, iSet_k, iSet_eq, eb, hl, iSet_2]
        exact nx
      · have hn := hl
        rw [skp_n hl] at hs
        rw [hs] at hn ⊢
        exact mr_8 hM h0 h1 h2 h11 hR hn
  refine rv_X6_reads_0 ?_
  simp +contextual (disch := omega) only [tr_X6_reads_0, im_ic, im_lc, im_nul, im_iload, im_lload, im_aload, im_istore, im_astore, im_lstore, im_iinc, im_iadd, im_isub, im_imul, im_iand, im_ior, im_ishl, im_ishr, im_iushr, im_idiv, im_irem, im_ineg, im_i2l, im_l2i, im_i2b, im_i2s, im_ladd, im_lcmp, im_dup, im_pop, im_dup_x1, im_dup2, im_ceq, im_cne, im_clt, im_cge, im_cgt, im_cle, im_zeq, im_zne, im_zlt, im_zge, im_zgt, im_zle, im_ifnull, im_ifnn, im_acmpeq, im_acmpne, im_getI, im_getR, im_putI, im_putZ, im_putR, im_ald, im_iast, im_bast, im_sast, im_zast, im_aald, im_alen, im_new, im_newa, im_newq, im_tsw, im_lsw, tswA, lswA, im_callS_eq, im_callV_eq, chk_i, chk_T, dOk_i, tf_0, tf_n0, tf_1, tf_01, tf_F, tf_T, tf_em, tf_me, ↓reduceIte, Int.zero_add, Int.add_zero, Int.one_mul, Int.mul_one, Int.ediv_one, Int.sub_zero, im_ireturn, im_zreturn, im_areturn, im_return, im_objinit, popI_eq, popII_eq, popJ_eq, popJJ_eq, popR_eq, popRR_eq, popV_eq, popVV_eq, popA_eq, popIA_eq, popIIA_eq, popRA_eq, popRIA_eq, getI, getJ, getR, lget_0, lget_s, nlAt, cat1, wsum, List.set_cons_zero, List.set_cons_succ, List.take_succ_cons, List.take_zero, List.drop_succ_cons, List.drop_zero, List.reverse_cons, List.reverse_nil, List.nil_append, List.cons_append, List.length_cons, List.length_nil, true_and, and_true, and_self, ne_eq, not_false_eq_true, not_true_eq_false, Classical.not_not, false_or, or_false, true_or, or_true, imp_self, forall_const, forall_eq, implies_true, true_implies, false_implies, Nat.reduceAdd, Nat.reduceLeDiff, Nat.reduceEqDiff, Nat.reduceSub, Int.reduceNeg, Int.reduceEq, Int.reduceLT, Int.reduceLE, Int.reduceNe, Int.reduceAdd, Int.reduceSub, Nat.le_refl, Nat.zero_le, reduceCtorEq, Option.some.injEq, w32_i, MSk_t106 hM, MSk_p0 hM, MSk_t107 hM, MSk_n107 hM, MSk_p1 hM, MSk_t108 hM, MSk_n108 hM, MSk_p2 hM, MSk_t109 hM, MSk_n109 hM, MSk_p3 hM, MSk_t110 hM, MSk_n110 hM, MSk_p4 hM, MSk_t111 hM, MSk_n111 hM, MSk_p5 hM, MSk_t112 hM, MSk_n112 hM, MSk_p13 hM, MSk_t113 hM, MSk_n113 hM, MSk_p14 hM, MSk_t114 hM, MSk_n114 hM, MSk_p15 hM, MSk_t115 hM, MSk_n115 hM, MSk_p16 hM, MSk_t116 hM, MSk_n116 hM, MSk_p18 hM, MSk_t117 hM, MSk_n117 hM, MSk_p20 hM, MSk_t118 hM, MSk_n118 hM, MSk_p21 hM, MSk_t119 hM, MSk_n119 hM, MSk_p22 hM, MSk_t120 hM, MSk_n120 hM, h11]
  have := l8 _ (I 106 7) (by omega) h1 rfl rfl
  rw [iSet_id] at this
  exact this
theorem c_X6_reads {d : Nat} {Rq : SmQ} {S : SmS} {I : SmI} (hM : MSk S) (h0 : 0 ≤ I 106 7) (h1 : I 106 7 ≤ I 106 6) (h2 : I 106 6 ≤ 160) (h11 : I 106 11 = 0) (hR : ∀ I' : SmI, lxR I I' → Rq (.inl none) S I') : SC mi_X6_reads (d + 1) [vR (some 106)] S I Rq := SC_of0 (Nat.le_of_ble_eq_true rfl) (b_X6_reads (S := sBud S 0 0) hM h0 h1 h2 h11 hR)