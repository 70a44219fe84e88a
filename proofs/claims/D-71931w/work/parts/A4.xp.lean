/-! trains arrive -- @IDX -/
set_option maxRecDepth 100000
def arX (b : Nat) (I : SmI) (t : Int) : Prop := I (b + 14) t ≠ 0 ∧ I (b + 15) t ≤ I b 11
theorem b_X9_init {d : Nat} {Rq : SmQ} {S : SmS} {I : SmI} {z : Nat} {t w : Int} (hz : sT S z = 9) (hR : Rq (.inl none) S (iSet (iSet I z 0 t) z 1 w)) : SW mi_X9_init 0 d Rq [some (vR (some z)), some (vI t), some (vI w)] [] S I := by
  refine rv_X9_init_0 ?_
  simp +contextual (disch := omega) only [tr_X9_init_0, im_ic, im_lc, im_nul, im_iload, im_lload, im_aload, im_istore, im_astore, im_lstore, im_iinc, im_iadd, im_isub, im_imul, im_iand, im_ior, im_ishl, im_ishr, im_iushr, im_idiv, im_irem, im_ineg, im_i2l, im_l2i, im_i2b, im_i2s, im_ladd, im_lcmp, im_dup, im_pop, im_dup_x1, im_dup2, im_ceq, im_cne, im_clt, im_cge, im_cgt, im_cle, im_zeq, im_zne, im_zlt, im_zge, im_zgt, im_zle, im_ifnull, im_ifnn, im_acmpeq, im_acmpne, im_getI, im_getR, im_putI, im_putZ, im_putR, im_ald, im_iast, im_bast, im_sast, im_zast, im_aald, im_alen, im_new, im_newa, im_newq, im_tsw, im_lsw, tswA, lswA, im_callS_eq, im_callV_eq, chk_i, chk_T, dOk_i, tf_0, tf_n0, tf_1, tf_01, tf_F, tf_T, tf_em, tf_me, im_min, im_max, im_abs, ↓reduceIte, Int.zero_add, Int.add_zero, Int.one_mul, Int.mul_one, Int.ediv_one, Int.sub_zero, im_ireturn, im_zreturn, im_areturn, im_return, im_objinit, popI_eq, popII_eq, popJ_eq, popJJ_eq, popR_eq, popRR_eq, popV_eq, popVV_eq, popA_eq, popIA_eq, popIIA_eq, popRA_eq, popRIA_eq, getI, getJ, getR, cat1, wsum, List.take_succ_cons, List.take_zero, List.drop_succ_cons, List.drop_zero, List.reverse_cons, List.reverse_nil, List.nil_append, List.cons_append, List.length_cons, List.length_nil, true_and, and_true, and_self, ne_eq, not_false_eq_true, not_true_eq_false, Classical.not_not, false_or, or_false, true_or, or_true, imp_self, forall_const, forall_eq, implies_true, true_implies, false_implies, Nat.reduceAdd, Nat.reduceLeDiff, Nat.reduceEqDiff, Nat.reduceSub, Int.reduceNeg, Int.reduceEq, Int.reduceLT, Int.reduceLE, Int.reduceNe, Int.reduceAdd, Int.reduceSub, Nat.le_refl, Nat.zero_le, reduceCtorEq, Option.some.injEq, lg0_, lg1_, lg2_, lg3_, lg4_, lg5_, lg6_, lg7_, lg8_, lg9_, lg10_, lg11_, lg12_, lg13_, lg14_, lg15_, ls0_, ls1_, ls2_, ls3_, ls4_, ls5_, ls6_, ls7_, ls8_, ls9_, ls10_, ls11_, ls12_, ls13_, ls14_, ls15_, nl0_, nl1_, nl2_, nl3_, nl4_, nl5_, nl6_, nl7_, nl8_, nl9_, nl10_, nl11_, nl12_, nl13_, nl14_, nl15_, nlO_n, nlO_I, nlO_R, w32_i, hz]
  exact ⟨by omega, hR⟩
theorem c_X9_init {d : Nat} {Rq : SmQ} {S : SmS} {I : SmI} {z : Nat} {t w : Int} (hz : sT S z = 9) (hR : Rq (.inl none) S (iSet (iSet I z 0 t) z 1 w)) : SC mi_X9_init d [vR (some z), vI t, vI w] S I Rq := SC_of0 (Nat.le_of_ble_eq_true rfl) (b_X9_init (S := sBud S 0 0) hz hR)
/-- those that arrived among the first t are in the queue -/
def arI (b : Nat) (S S1 : SmS) (I I1 : SmI) (t : Nat) (n : Int) (Q : Nat → Prop) : Prop := wld (fun v => v = 24) (fun v => v = 26) S S1 I I1 ∧ (inQ S1 n Q ∧ I1 24 1 = n ∧ n = cntTo (arX b I) t) ∧ (∀ x, Q x → (sT S1 x = 9 ∧ sZ S ≤ x ∧ x < sZ S1) ∧ ∃ u : Nat, u < t ∧ arX b I u ∧ I1 x 0 = u) ∧ (∀ u : Nat, u < t → arX b I u → ∃ x, Q x ∧ I1 x 0 = u) ∧ 4 ≤ sC S1 + t ∧ 8 ≤ sB S1 + 2 * t
theorem arI_no {b : Nat} {S S1 : SmS} {I I1 : SmI} {t : Nat} {n : Int} {Q : Nat → Prop} (h : arI b S S1 I I1 t n Q) (hn : ¬ arX b I t) : arI b S S1 I I1 (t + 1) n Q := by
  obtain ⟨a1, ⟨a2, a3, a4⟩, a5, a6, a7, a8⟩ := h
  refine ⟨a1, ⟨a2, a3, by rw [cntTo_s, tf_f hn, Int.add_zero]; exact a4⟩, fun x hx => ?_, fun u hu hau => ?_, by omega, by omega⟩
  · obtain ⟨q, u, u1, u2, u3⟩ := a5 x hx
    exact ⟨q, u, by omega, u2, u3⟩
  · by_cases e : u = t
    · rw [e] at hau; exact absurd hau hn
    · exact a6 u (by omega) hau
theorem arI_yes {b : Nat} {S S1 S3 : SmS} {I I1 I3 : SmI} {t : Nat} {n w : Int} {Q : Nat → Prop} (hz : 106 ≤ sZ S) (h : arI b S S1 I I1 t n Q) (hn : arX b I t) (f1 : frQ (sNew S1 9 0 2) S3) (f2 : frN2 (iSet (iSet (iNew I1 (sZ S1)) (sZ S1) 0 t) (sZ S1) 1 w) I3) (f3 : I3 24 1 = n + 1) (f4 : inQ S3 (n + 1) (fun y => Q y ∨ y = sZ S1)) (hC : 1 ≤ sC S1) (hB : 2 ≤ sB S1) : arI b S S3 I I3 (t + 1) (n + 1) (fun y => Q y ∨ y = sZ S1) := by
  obtain ⟨a1, ⟨a2, a3, a4⟩, a5, a6, a7, a8⟩ := h
  have z1 := a1.1
  have i3 : ∀ v j, v ≠ 24 → v ≠ sZ S1 → I3 v j = I1 v j := fun v j v1 v2 => by
    rw [f2 v j (Or.inl v1), iSet_ne v2, iSet_ne v2]; exact if_neg v2
  have sz3 : sZ S3 = sZ S1 + 1 := f1.1.2.2.1
  have t3 : ∀ v, v ≠ sZ S1 → sT S3 v = sT S1 v := fun v hv => by rw [f1.1.1]; exact if_neg hv
  have t3z : sT S3 (sZ S1) = 9 := by rw [f1.1.1]; exact if_pos rfl
  have i3z : I3 (sZ S1) 0 = t := by
    rw [f2 _ _ (Or.inl (by omega)), iSet_k (by omega), iSet_eq]
  have w2 : wld (fun v => v = 24) (fun v => v = 26) S1 S3 I1 I3 := ⟨by omega, fun v hv => by
    have hv2 : v ≠ sZ S1 := by omega
    refine ⟨t3 v hv2, by rw [f1.1.2.1]; exact if_neg hv2, fun q => ?_, fun q => ?_⟩
    · funext j; rw [f1.2 v j q]; exact if_neg hv2
    · funext j; exact i3 v j q hv2⟩
  refine ⟨wld_trans a1 w2, ⟨f4, f3, by rw [cntTo_s, tf_t hn, ← a4]⟩, fun x hx => ?_, fun u hu hau => ?_, ?_, ?_⟩
  · rcases hx with hx | hx
    · obtain ⟨⟨q1, q2, q3⟩, u, u1, u2, u3⟩ := a5 x hx
      exact ⟨⟨by rw [t3 x (by omega)]; exact q1, q2, by omega⟩, u, by omega, u2, by rw [i3 x 0 (by omega) (by omega)]; exact u3⟩
    · rw [hx]
      exact ⟨⟨t3z, by omega, by omega⟩, t, by omega, hn, i3z⟩
  · by_cases e : u = t
    · exact ⟨sZ S1, Or.inr rfl, by rw [i3z, e]⟩
    · obtain ⟨x, q1, q2⟩ := a6 u (by omega) hau
      have q3 := (a5 x q1).1
      exact ⟨x, Or.inl q1, by rw [i3 x 0 (by omega) (by omega)]; exact q2⟩
  · have e : sC S3 = sC S1 - 1 := f1.1.2.2.2.1
    omega
  · have e : sB S3 = sB S1 - 2 := f1.1.2.2.2.2
    omega
/-- those in the queue are still to be told -/
def arJ (b : Nat) (S S1 : SmS) (I I1 : SmI) (N : Nat) (m : Int) (Q : Nat → Prop) : Prop := wld (fun v => v = 24 ∨ v = b + 14) (fun v => v = 26) S S1 I I1 ∧ (inQ S1 m Q ∧ I1 24 1 = m) ∧ (∀ x, Q x → (sT S1 x = 9 ∧ sZ S ≤ x) ∧ ∃ u : Nat, u < N ∧ arX b I u ∧ I1 x 0 = u) ∧ (∀ u : Nat, u < N → arX b I u → I1 (b + 14) u = 0 ∨ ∃ x, Q x ∧ I1 x 0 = u) ∧ ∀ k : Int, ¬ (∃ u : Nat, u < N ∧ arX b I u ∧ k = u) → I1 (b + 14) k = I (b + 14) k
theorem arI_J {b : Nat} {S S1 : SmS} {I I1 : SmI} {t : Nat} {n : Int} {Q : Nat → Prop} (hb : b + 16 ≤ sZ S) (hd : b + 16 ≤ 24 ∨ 25 ≤ b) (h : arI b S S1 I I1 t n Q) : arJ b S S1 I I1 t n Q := by
  obtain ⟨a1, ⟨a2, a3, a4⟩, a5, a6, a7, a8⟩ := h
  refine ⟨wld_mono a1 (fun v q => Or.inl q) (fun v q => q), ⟨a2, a3⟩, fun x hx => ⟨⟨(a5 x hx).1.1, (a5 x hx).1.2.1⟩, (a5 x hx).2⟩, fun u hu hau => Or.inr (a6 u hu hau), fun k _ => ?_⟩
  rw [(a1.2 (b + 14) (by omega)).2.2.2 (by omega)]
theorem arJ_s {b : Nat} {S S1 S2 : SmS} {I I1 I2 : SmI} {N x : Nat} {m : Int} {Q : Nat → Prop} (hz : 106 ≤ sZ S) (hb : b + 16 ≤ sZ S) (hd : b + 16 ≤ 24 ∨ 25 ≤ b) (h : arJ b S S1 I I1 N m Q) (f1 : frQ S1 S2) (f2 : frN2 I1 I2) (f3 : I2 24 1 = m - 1) (hx : Q x) (f4 : inQ S2 (m - 1) (fun y => Q y ∧ y ≠ x)) : arJ b S S2 I (iSet I2 (b + 14) (I2 x 0) 0) N (m - 1) (fun y => Q y ∧ y ≠ x) := by
  obtain ⟨a1, ⟨a2, a3⟩, a5, a6, a7⟩ := h
  have i2 : ∀ v j, v ≠ 24 → I2 v j = I1 v j := fun v j v1 => f2 v j (Or.inl v1)
  obtain ⟨⟨x1, x2⟩, u0, u1, u2, u3⟩ := a5 x hx
  have ex : I2 x 0 = u0 := by rw [i2 x 0 (by omega)]; exact u3
  rw [ex]
  have w2 : wld (fun v => v = 24 ∨ v = b + 14) (fun v => v = 26) S1 S2 I1 (iSet I2 (b + 14) u0 0) := ⟨by rw [f1.1.2.2.1]; exact Nat.le_refl _, fun v hv => ⟨by rw [f1.1.1], by rw [f1.1.2.1], fun q => by funext j; exact f1.2 v j q, fun q => by
    rw [iSet_ne (fun z => q (Or.inr z))]; funext j; exact i2 v j (fun z => q (Or.inl z))⟩⟩
  refine ⟨wld_trans a1 w2, ⟨f4, by rw [iSet_ne (by omega)]; exact f3⟩, fun y hy => ?_, fun u hu hau => ?_, fun k hk => ?_⟩
  · obtain ⟨⟨y1, y2⟩, u, v1, v2, v3⟩ := a5 y hy.1
    exact ⟨⟨by rw [f1.1.1]; exact y1, y2⟩, u, v1, v2, by rw [iSet_ne (by omega), i2 y 0 (by omega)]; exact v3⟩
  · by_cases e : u = u0
    · left; rw [e, iSet_eq]
    · rcases a6 u hu hau with q | ⟨y, q1, q2⟩
      · left; rw [iSet_k (by omega), i2 _ _ (by omega)]; exact q
      · by_cases e2 : y = x
        · rw [e2, u3] at q2; omega
        · right
          have y2 := (a5 y q1).1.2
          exact ⟨y, ⟨q1, e2⟩, by rw [iSet_ne (by omega), i2 y 0 (by omega)]; exact q2⟩
  · rw [iSet_k (fun z => hk ⟨u0, u1, u2, z⟩), i2 _ _ (by omega)]; exact a7 k hk
/-- what is told of those that arrived -/
def arQ (Rq : SmQ) (b : Nat) (S : SmS) (I : SmI) : Prop := ∀ (S' : SmS) (I' : SmI), wld (fun v => v = 24 ∨ v = b + 14) (fun v => v = 26) S S' I I' → I' 24 1 = 0 → (∀ u : Nat, (u : Int) < I b 10 → arX b I u → I' (b + 14) u = 0) → (∀ k : Int, ¬ (0 ≤ k ∧ k < I b 10 ∧ arX b I k) → I' (b + 14) k = I (b + 14) k) → Rq (.inl (some (vI (cntTo (arX b I) (I b 10).toNat)))) S' I'
theorem ar_68 {d : Nat} {Rq : SmQ} {S : SmS} {I : SmI} {b : Nat} (hX : XSk S) (hL : LnS b S) (hd : b + 16 ≤ 24 ∨ 25 ≤ b) (hb : b + 16 ≤ sZ S) (hz : 106 ≤ sZ S) (h4 : 0 ≤ I b 10 ∧ I b 10 ≤ 4) (hR : arQ Rq b S I) : ∀ (m : Nat) (S1 : SmS) (I1 : SmI) (Q : Nat → Prop), m ≤ 4 → arJ b S S1 I I1 (I b 10).toNat m Q → SW mi_X0_arrives 68 (d + 7) Rq [some (vR (some 0)), some (vR (some b)), some (vI (cntTo (arX b I) (I b 10).toNat))] [] S1 I1 := by
  have tie : ∀ v j, v < 106 → v = 26 → xTie v j := fun v j _ h => Or.inl h
  intro m
  induction m with
  | zero =>
    intro S1 I1 Q _ hJ
    have hX1 : XSk S1 := XSk_w hX hJ.1 hz tie
    obtain ⟨a1, ⟨a2, a3⟩, a5, a6, a7⟩ := hJ
    have noQ : ∀ x, ¬ Q x := fun x hx => by
      obtain ⟨j, j0, j1, _⟩ := a2.2.1 x hx
      omega
    have h9 := hR S1 I1 a1 a3 (fun u hu hau => (a6 u (by omega) hau).resolve_right (fun ⟨x, hx, _⟩ => noQ x hx)) (fun k hk => a7 k (fun ⟨u, u1, u2, u3⟩ => hk ⟨by omega, by omega, by rw [u3]; exact u2⟩))
    have call : SC mi_J6_size (d + 6) [vR (some 24)] S1 I1 (retK mi_X0_arrives 72 75 (d + 7) Rq [some (vR (some 0)), some (vR (some b)), some (vI (cntTo (arX b I) (I b 10).toNat))] []) := by
      refine c_J6_size (XSk_q hX1) ?_
      rw [retK_v, a3]
      refine rv_X0_arrives_75 ?_
      simp +contextual (disch := omega) only [tr_X0_arrives_75, im_ic, im_lc, im_nul, im_iload, im_lload, im_aload, im_istore, im_astore, im_lstore, im_iinc, im_iadd, im_isub, im_imul, im_iand, im_ior, im_ishl, im_ishr, im_iushr, im_idiv, im_irem, im_ineg, im_i2l, im_l2i, im_i2b, im_i2s, im_ladd, im_lcmp, im_dup, im_pop, im_dup_x1, im_dup2, im_ceq, im_cne, im_clt, im_cge, im_cgt, im_cle, im_zeq, im_zne, im_zlt, im_zge, im_zgt, im_zle, im_ifnull, im_ifnn, im_acmpeq, im_acmpne, im_getI, im_getR, im_putI, im_putZ, im_putR, im_ald, im_iast, im_bast, im_sast, im_zast, im_aald, im_alen, im_new, im_newa, im_newq, im_tsw, im_lsw, tswA, lswA, im_callS_eq, im_callV_eq, chk_i, chk_T, dOk_i, tf_0, tf_n0, tf_1, tf_01, tf_F, tf_T, tf_em, tf_me, im_min, im_max, im_abs, ↓reduceIte, Int.zero_add, Int.add_zero, Int.one_mul, Int.mul_one, Int.ediv_one, Int.sub_zero, im_ireturn, im_zreturn, im_areturn, im_return, im_objinit, popI_eq, popII_eq, popJ_eq, popJJ_eq, popR_eq, popRR_eq, popV_eq, popVV_eq, popA_eq, popIA_eq, popIIA_eq, popRA_eq, popRIA_eq, getI, getJ, getR, cat1, wsum, List.take_succ_cons, List.take_zero, List.drop_succ_cons, List.drop_zero, List.reverse_cons, List.reverse_nil, List.nil_append, List.cons_append, List.length_cons, List.length_nil, true_and, and_true, and_self, ne_eq, not_false_eq_true, not_true_eq_false, Classical.not_not, false_or, or_false, true_or, or_true, imp_self, forall_const, forall_eq, implies_true, true_implies, false_implies, Nat.reduceAdd, Nat.reduceLeDiff, Nat.reduceEqDiff, Nat.reduceSub, Int.reduceNeg, Int.reduceEq, Int.reduceLT, Int.reduceLE, Int.reduceNe, Int.reduceAdd, Int.reduceSub, Nat.le_refl, Nat.zero_le, reduceCtorEq, Option.some.injEq, lg0_, lg1_, lg2_, lg3_, lg4_, lg5_, lg6_, lg7_, lg8_, lg9_, lg10_, lg11_, lg12_, lg13_, lg14_, lg15_, ls0_, ls1_, ls2_, ls3_, ls4_, ls5_, ls6_, ls7_, ls8_, ls9_, ls10_, ls11_, ls12_, ls13_, ls14_, ls15_, nl0_, nl1_, nl2_, nl3_, nl4_, nl5_, nl6_, nl7_, nl8_, nl9_, nl10_, nl11_, nl12_, nl13_, nl14_, nl15_, nlO_n, nlO_I, nlO_R, w32_i]
      exact ⟨fun _ => h9, fun h => absurd (Int.le_refl _) h⟩
    have x0 := XSk_t0 hX1
    have x6 := XSk_p6 hX1
    have t24 := XSk_t24 hX1
    refine rv_X0_arrives_68 ?_
    simp +contextual (disch := omega) only [tr_X0_arrives_68, im_ic, im_lc, im_nul, im_iload, im_lload, im_aload, im_istore, im_astore, im_lstore, im_iinc, im_iadd, im_isub, im_imul, im_iand, im_ior, im_ishl, im_ishr, im_iushr, im_idiv, im_irem, im_ineg, im_i2l, im_l2i, im_i2b, im_i2s, im_ladd, im_lcmp, im_dup, im_pop, im_dup_x1, im_dup2, im_ceq, im_cne, im_clt, im_cge, im_cgt, im_cle, im_zeq, im_zne, im_zlt, im_zge, im_zgt, im_zle, im_ifnull, im_ifnn, im_acmpeq, im_acmpne, im_getI, im_getR, im_putI, im_putZ, im_putR, im_ald, im_iast, im_bast, im_sast, im_zast, im_aald, im_alen, im_new, im_newa, im_newq, im_tsw, im_lsw, tswA, lswA, im_callS_eq, im_callV_eq, chk_i, chk_T, dOk_i, tf_0, tf_n0, tf_1, tf_01, tf_F, tf_T, tf_em, tf_me, im_min, im_max, im_abs, ↓reduceIte, Int.zero_add, Int.add_zero, Int.one_mul, Int.mul_one, Int.ediv_one, Int.sub_zero, im_ireturn, im_zreturn, im_areturn, im_return, im_objinit, popI_eq, popII_eq, popJ_eq, popJJ_eq, popR_eq, popRR_eq, popV_eq, popVV_eq, popA_eq, popIA_eq, popIIA_eq, popRA_eq, popRIA_eq, getI, getJ, getR, cat1, wsum, List.take_succ_cons, List.take_zero, List.drop_succ_cons, List.drop_zero, List.reverse_cons, List.reverse_nil, List.nil_append, List.cons_append, List.length_cons, List.length_nil, true_and, and_true, and_self, ne_eq, not_false_eq_true, not_true_eq_false, Classical.not_not, false_or, or_false, true_or, or_true, imp_self, forall_const, forall_eq, implies_true, true_implies, false_implies, Nat.reduceAdd, Nat.reduceLeDiff, Nat.reduceEqDiff, Nat.reduceSub, Int.reduceNeg, Int.reduceEq, Int.reduceLT, Int.reduceLE, Int.reduceNe, Int.reduceAdd, Int.reduceSub, Nat.le_refl, Nat.zero_le, reduceCtorEq, Option.some.injEq, lg0_, lg1_, lg2_, lg3_, lg4_, lg5_, lg6_, lg7_, lg8_, lg9_, lg10_, lg11_, lg12_, lg13_, lg14_, lg15_, ls0_, ls1_, ls2_, ls3_, ls4_, ls5_, ls6_, ls7_, ls8_, ls9_, ls10_, ls11_, ls12_, ls13_, ls14_, ls15_, nl0_, nl1_, nl2_, nl3_, nl4_, nl5_, nl6_, nl7_, nl8_, nl9_, nl10_, nl11_, nl12_, nl13_, nl14_, nl15_, nlO_n, nlO_I, nlO_R, w32_i, x0, x6, t24]
    exact call
  | succ m ih =>
    intro S1 I1 Q hm hJ
    have hJ9 := hJ
    have hX1 : XSk S1 := XSk_w hX hJ.1 hz tie
    have hL1 : LnS b S1 := LnS_cg hL (fun v v1 v2 => ⟨(hJ.1.2 v (by omega)).1, (hJ.1.2 v (by omega)).2.1⟩) (fun v j v1 v2 => by
      by_cases e : v = 26
      · have t1 := (XSk_t26 hX)
        exfalso
        have k1 := (hL.2.1)
        have := XSk_n26 hX
        by_cases c : b = 26
        · have := LnS_t hL; rw [c, t1] at this; exact absurd this (by decide)
        · by_cases c1 : b + 1 = 26
          · have := LnS_t1 hL; rw [c1, t1] at this; exact absurd this (by decide)
          · omega
      · rw [(hJ.1.2 v (by omega)).2.2.1 e])
    obtain ⟨a1, ⟨a2, a3⟩, a5, a6, a7⟩ := hJ
    rw [cast_s] at a2 a3 hJ9
    have x0 := XSk_t0 hX1
    have x6 := XSk_p6 hX1
    have t24 := XSk_t24 hX1
    have call2 : SC mi_J6_poll (d + 6) [vR (some 24)] S1 I1 (retK mi_X0_arrives 86 89 (d + 7) Rq [some (vR (some 0)), some (vR (some b)), some (vI (cntTo (arX b I) (I b 10).toNat))] [vR (some (b + 14))]) := by
      refine c_J6_poll (d := d + 2) (XSk_q hX1) (n := (m : Int) + 1) (by omega) (by omega) (fun y hy => (a5 y hy).1.1) a3 a2 (fun S2 I2 x f1 f2 f3 f4 f5 => ?_)
      rw [retK_v]
      have hs := arJ_s hz hb hd hJ9 f1 f2 f3 f4 f5
      rw [show (m : Int) + 1 - 1 = m by omega] at hs
      have nx := ih S2 _ _ (by omega) hs
      obtain ⟨⟨x1, x2⟩, u, u1, u2, u3⟩ := a5 x f4
      have xt : sT S2 x = 9 := by rw [f1.1.1]; exact x1
      have l14 : sT S2 (b + 14) = 102 := by rw [f1.1.1]; exact LnS_t14 hL1
      have n14 : sN S2 (b + 14) = 4 := by rw [f1.1.2.1]; exact LnS_n14 hL1
      have ex : I2 x 0 = u := by rw [f2 x 0 (Or.inl (by omega))]; exact u3
      rw [ex] at nx
      refine rv_X0_arrives_89 ?_
      simp +contextual (disch := omega) only [tr_X0_arrives_89, im_ic, im_lc, im_nul, im_iload, im_lload, im_aload, im_istore, im_astore, im_lstore, im_iinc, im_iadd, im_isub, im_imul, im_iand, im_ior, im_ishl, im_ishr, im_iushr, im_idiv, im_irem, im_ineg, im_i2l, im_l2i, im_i2b, im_i2s, im_ladd, im_lcmp, im_dup, im_pop, im_dup_x1, im_dup2, im_ceq, im_cne, im_clt, im_cge, im_cgt, im_cle, im_zeq, im_zne, im_zlt, im_zge, im_zgt, im_zle, im_ifnull, im_ifnn, im_acmpeq, im_acmpne, im_getI, im_getR, im_putI, im_putZ, im_putR, im_ald, im_iast, im_bast, im_sast, im_zast, im_aald, im_alen, im_new, im_newa, im_newq, im_tsw, im_lsw, tswA, lswA, im_callS_eq, im_callV_eq, chk_i, chk_T, dOk_i, tf_0, tf_n0, tf_1, tf_01, tf_F, tf_T, tf_em, tf_me, im_min, im_max, im_abs, ↓reduceIte, Int.zero_add, Int.add_zero, Int.one_mul, Int.mul_one, Int.ediv_one, Int.sub_zero, im_ireturn, im_zreturn, im_areturn, im_return, im_objinit, popI_eq, popII_eq, popJ_eq, popJJ_eq, popR_eq, popRR_eq, popV_eq, popVV_eq, popA_eq, popIA_eq, popIIA_eq, popRA_eq, popRIA_eq, getI, getJ, getR, cat1, wsum, List.take_succ_cons, List.take_zero, List.drop_succ_cons, List.drop_zero, List.reverse_cons, List.reverse_nil, List.nil_append, List.cons_append, List.length_cons, List.length_nil, true_and, and_true, and_self, ne_eq, not_false_eq_true, not_true_eq_false, Classical.not_not, false_or, or_false, true_or, or_true, imp_self, forall_const, forall_eq, implies_true, true_implies, false_implies, Nat.reduceAdd, Nat.reduceLeDiff, Nat.reduceEqDiff, Nat.reduceSub, Int.reduceNeg, Int.reduceEq, Int.reduceLT, Int.reduceLE, Int.reduceNe, Int.reduceAdd, Int.reduceSub, Nat.le_refl, Nat.zero_le, reduceCtorEq, Option.some.injEq, lg0_, lg1_, lg2_, lg3_, lg4_, lg5_, lg6_, lg7_, lg8_, lg9_, lg10_, lg11_, lg12_, lg13_, lg14_, lg15_, ls0_, ls1_, ls2_, ls3_, ls4_, ls5_, ls6_, ls7_, ls8_, ls9_, ls10_, ls11_, ls12_, ls13_, ls14_, ls15_, nl0_, nl1_, nl2_, nl3_, nl4_, nl5_, nl6_, nl7_, nl8_, nl9_, nl10_, nl11_, nl12_, nl13_, nl14_, nl15_, nlO_n, nlO_I, nlO_R, w32_i, im_castO, cOk_s, xt, List.mem_singleton, ex, l14, n14]
      exact nx
    have call : SC mi_J6_size (d + 6) [vR (some 24)] S1 I1 (retK mi_X0_arrives 72 75 (d + 7) Rq [some (vR (some 0)), some (vR (some b)), some (vI (cntTo (arX b I) (I b 10).toNat))] []) := by
      refine c_J6_size (XSk_q hX1) ?_
      rw [retK_v, a3]
      have l0 := LnS_t hL1
      have l8 := LnS_p8 hL1
      refine rv_X0_arrives_75 ?_
      simp +contextual (disch := omega) only [tr_X0_arrives_75, im_ic, im_lc, im_nul, im_iload, im_lload, im_aload, im_istore, im_astore, im_lstore, im_iinc, im_iadd, im_isub, im_imul, im_iand, im_ior, im_ishl, im_ishr, im_iushr, im_idiv, im_irem, im_ineg, im_i2l, im_l2i, im_i2b, im_i2s, im_ladd, im_lcmp, im_dup, im_pop, im_dup_x1, im_dup2, im_ceq, im_cne, im_clt, im_cge, im_cgt, im_cle, im_zeq, im_zne, im_zlt, im_zge, im_zgt, im_zle, im_ifnull, im_ifnn, im_acmpeq, im_acmpne, im_getI, im_getR, im_putI, im_putZ, im_putR, im_ald, im_iast, im_bast, im_sast, im_zast, im_aald, im_alen, im_new, im_newa, im_newq, im_tsw, im_lsw, tswA, lswA, im_callS_eq, im_callV_eq, chk_i, chk_T, dOk_i, tf_0, tf_n0, tf_1, tf_01, tf_F, tf_T, tf_em, tf_me, im_min, im_max, im_abs, ↓reduceIte, Int.zero_add, Int.add_zero, Int.one_mul, Int.mul_one, Int.ediv_one, Int.sub_zero, im_ireturn, im_zreturn, im_areturn, im_return, im_objinit, popI_eq, popII_eq, popJ_eq, popJJ_eq, popR_eq, popRR_eq, popV_eq, popVV_eq, popA_eq, popIA_eq, popIIA_eq, popRA_eq, popRIA_eq, getI, getJ, getR, cat1, wsum, List.take_succ_cons, List.take_zero, List.drop_succ_cons, List.drop_zero, List.reverse_cons, List.reverse_nil, List.nil_append, List.cons_append, List.length_cons, List.length_nil, true_and, and_true, and_self, ne_eq, not_false_eq_true, not_true_eq_false, Classical.not_not, false_or, or_false, true_or, or_true, imp_self, forall_const, forall_eq, implies_true, true_implies, false_implies, Nat.reduceAdd, Nat.reduceLeDiff, Nat.reduceEqDiff, Nat.reduceSub, Int.reduceNeg, Int.reduceEq, Int.reduceLT, Int.reduceLE, Int.reduceNe, Int.reduceAdd, Int.reduceSub, Nat.le_refl, Nat.zero_le, reduceCtorEq, Option.some.injEq, lg0_, lg1_, lg2_, lg3_, lg4_, lg5_, lg6_, lg7_, lg8_, lg9_, lg10_, lg11_, lg12_, lg13_, lg14_, lg15_, ls0_, ls1_, ls2_, ls3_, ls4_, ls5_, ls6_, ls7_, ls8_, ls9_, ls10_, ls11_, ls12_, ls13_, ls14_, ls15_, nl0_, nl1_, nl2_, nl3_, nl4_, nl5_, nl6_, nl7_, nl8_, nl9_, nl10_, nl11_, nl12_, nl13_, nl14_, nl15_, nlO_n, nlO_I, nlO_R, w32_i, x0, x6, t24, l0, l8]
      first | exact call2 | exact ⟨fun h => absurd h (by omega), fun _ => call2⟩
    refine rv_X0_arrives_68 ?_
    simp +contextual (disch := omega) only [tr_X0_arrives_68, im_ic, im_lc, im_nul, im_iload, im_lload, im_aload, im_istore, im_astore, im_lstore, im_iinc, im_iadd, im_isub, im_imul, im_iand, im_ior, im_ishl, im_ishr, im_iushr, im_idiv, im_irem, im_ineg, im_i2l, im_l2i, im_i2b, im_i2s, im_ladd, im_lcmp, im_dup, im_pop, im_dup_x1, im_dup2, im_ceq, im_cne, im_clt, im_cge, im_cgt, im_cle, im_zeq, im_zne, im_zlt, im_zge, im_zgt, im_zle, im_ifnull, im_ifnn, im_acmpeq, im_acmpne, im_getI, im_getR, im_putI, im_putZ, im_putR, im_ald, im_iast, im_bast, im_sast, im_zast, im_aald, im_alen, im_new, im_newa, im_newq, im_tsw, im_lsw, tswA, lswA, im_callS_eq, im_callV_eq, chk_i, chk_T, dOk_i, tf_0, tf_n0, tf_1, tf_01, tf_F, tf_T, tf_em, tf_me, im_min, im_max, im_abs, ↓reduceIte, Int.zero_add, Int.add_zero, Int.one_mul, Int.mul_one, Int.ediv_one, Int.sub_zero, im_ireturn, im_zreturn, im_areturn, im_return, im_objinit, popI_eq, popII_eq, popJ_eq, popJJ_eq, popR_eq, popRR_eq, popV_eq, popVV_eq, popA_eq, popIA_eq, popIIA_eq, popRA_eq, popRIA_eq, getI, getJ, getR, cat1, wsum, List.take_succ_cons, List.take_zero, List.drop_succ_cons, List.drop_zero, List.reverse_cons, List.reverse_nil, List.nil_append, List.cons_append, List.length_cons, List.length_nil, true_and, and_true, and_self, ne_eq, not_false_eq_true, not_true_eq_false, Classical.not_not, false_or, or_false, true_or, or_true, imp_self, forall_const, forall_eq, implies_true, true_implies, false_implies, Nat.reduceAdd, Nat.reduceLeDiff, Nat.reduceEqDiff, Nat.reduceSub, Int.reduceNeg, Int.reduceEq, Int.reduceLT, Int.reduceLE, Int.reduceNe, Int.reduceAdd, Int.reduceSub, Nat.le_refl, Nat.zero_le, reduceCtorEq, Option.some.injEq, lg0_, lg1_, lg2_, lg3_, lg4_, lg5_, lg6_, lg7_, lg8_, lg9_, lg10_, lg11_, lg12_, lg13_, lg14_, lg15_, ls0_, ls1_, ls2_, ls3_, ls4_, ls5_, ls6_, ls7_, ls8_, ls9_, ls10_, ls11_, ls12_, ls13_, ls14_, ls15_, nl0_, nl1_, nl2_, nl3_, nl4_, nl5_, nl6_, nl7_, nl8_, nl9_, nl10_, nl11_, nl12_, nl13_, nl14_, nl15_, nlO_n, nlO_I, nlO_R, w32_i, x0, x6, t24]
    exact call
