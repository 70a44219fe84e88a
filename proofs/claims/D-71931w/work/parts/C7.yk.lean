/-! lets -- @IDX -/
set_option maxRecDepth 100000
theorem lt_60 {d : Nat} {Rq : SmQ} {S : SmS} {I : SmI} {t : Int} {s a : Nat} {r : Int → Int} (hX : XSk S) (hW : WR r) (hA : LnR r 2 I) (t0 : 0 ≤ t) (t1 : t < r 1) (hst : r (34 + 6 * t + 4) = 0) (h5 : sP S 0 5 = some s) (hs : sT S s = 12) (hs0 : sP S s 0 = some a) (ha : sT S a = 13) (h60 : I a 4 ≤ 60) (hR : Rq (.inl none) S (lGo 2 I t)) : SW mi_X0_lets 31 (d + 8) Rq [some (vR (some 0)), some (vI t)] [vI 1] S I := by
  have x0 := XSk_t0 hX
  have p3 := XSk_p3 hX
  have hN := XSk_now hX
  have call2 : SC mi_X0_goes (d + 7) [vR (some 2), vI t] S I (retK mi_X0_lets 57 60 (d + 8) Rq [some (vR (some 0)), some (vI t)] []) := by
    refine c_X0_goes (d := d + 5) hN hW hA t0 t1 hst ?_
    rw [retK_n]
    refine rv_X0_lets_60 ?_
    simp +contextual (disch := omega) only [tr_X0_lets_60, im_ic, im_lc, im_nul, im_iload, im_lload, im_aload, im_istore, im_astore, im_lstore, im_iinc, im_iadd, im_isub, im_imul, im_iand, im_ior, im_ishl, im_ishr, im_iushr, im_idiv, im_irem, im_ineg, im_i2l, im_l2i, im_i2b, im_i2s, im_ladd, im_lcmp, im_dup, im_pop, im_dup_x1, im_dup2, im_ceq, im_cne, im_clt, im_cge, im_cgt, im_cle, im_zeq, im_zne, im_zlt, im_zge, im_zgt, im_zle, im_ifnull, im_ifnn, im_acmpeq, im_acmpne, im_getI, im_getR, im_putI, im_putZ, im_putR, im_ald, im_iast, im_bast, im_sast, im_zast, im_aald, im_alen, im_new, im_newa, im_newq, im_tsw, im_lsw, tswA, lswA, im_callS_eq, im_callV_eq, chk_i, chk_T, dOk_i, tf_0, tf_n0, tf_1, tf_01, tf_F, tf_T, tf_em, tf_me, im_min, im_max, im_abs, ↓reduceIte, Int.zero_add, Int.add_zero, Int.one_mul, Int.mul_one, Int.ediv_one, Int.sub_zero, im_ireturn, im_zreturn, im_areturn, im_return, im_objinit, popI_eq, popII_eq, popJ_eq, popJJ_eq, popR_eq, popRR_eq, popV_eq, popVV_eq, popA_eq, popIA_eq, popIIA_eq, popRA_eq, popRIA_eq, getI, getJ, getR, cat1, wsum, List.take_succ_cons, List.take_zero, List.drop_succ_cons, List.drop_zero, List.reverse_cons, List.reverse_nil, List.nil_append, List.cons_append, List.length_cons, List.length_nil, true_and, and_true, and_self, ne_eq, not_false_eq_true, not_true_eq_false, Classical.not_not, false_or, or_false, true_or, or_true, imp_self, forall_const, forall_eq, implies_true, true_implies, false_implies, Nat.reduceAdd, Nat.reduceLeDiff, Nat.reduceEqDiff, Nat.reduceSub, Int.reduceNeg, Int.reduceEq, Int.reduceLT, Int.reduceLE, Int.reduceNe, Int.reduceAdd, Int.reduceSub, Nat.le_refl, Nat.zero_le, reduceCtorEq, Option.some.injEq, lg0_, lg1_, lg2_, lg3_, lg4_, lg5_, lg6_, lg7_, lg8_, lg9_, lg10_, lg11_, lg12_, lg13_, lg14_, lg15_, ls0_, ls1_, ls2_, ls3_, ls4_, ls5_, ls6_, ls7_, ls8_, ls9_, ls10_, ls11_, ls12_, ls13_, ls14_, ls15_, nl0_, nl1_, nl2_, nl3_, nl4_, nl5_, nl6_, nl7_, nl8_, nl9_, nl10_, nl11_, nl12_, nl13_, nl14_, nl15_, nlO_n, nlO_I, nlO_R, w32_i]
    exact hR
  have call : SC mi_J2_size (d + 7) [vR (some s)] S I (retK mi_X0_lets 36 39 (d + 8) Rq [some (vR (some 0)), some (vI t)] []) := by
    refine c_J2_size (d := d + 6) hs hs0 ha ?_
    rw [retK_v]
    refine rv_X0_lets_39 ?_
    simp +contextual (disch := omega) only [tr_X0_lets_39, im_ic, im_lc, im_nul, im_iload, im_lload, im_aload, im_istore, im_astore, im_lstore, im_iinc, im_iadd, im_isub, im_imul, im_iand, im_ior, im_ishl, im_ishr, im_iushr, im_idiv, im_irem, im_ineg, im_i2l, im_l2i, im_i2b, im_i2s, im_ladd, im_lcmp, im_dup, im_pop, im_dup_x1, im_dup2, im_ceq, im_cne, im_clt, im_cge, im_cgt, im_cle, im_zeq, im_zne, im_zlt, im_zge, im_zgt, im_zle, im_ifnull, im_ifnn, im_acmpeq, im_acmpne, im_getI, im_getR, im_putI, im_putZ, im_putR, im_ald, im_iast, im_bast, im_sast, im_zast, im_aald, im_alen, im_new, im_newa, im_newq, im_tsw, im_lsw, tswA, lswA, im_callS_eq, im_callV_eq, chk_i, chk_T, dOk_i, tf_0, tf_n0, tf_1, tf_01, tf_F, tf_T, tf_em, tf_me, im_min, im_max, im_abs, ↓reduceIte, Int.zero_add, Int.add_zero, Int.one_mul, Int.mul_one, Int.ediv_one, Int.sub_zero, im_ireturn, im_zreturn, im_areturn, im_return, im_objinit, popI_eq, popII_eq, popJ_eq, popJJ_eq, popR_eq, popRR_eq, popV_eq, popVV_eq, popA_eq, popIA_eq, popIIA_eq, popRA_eq, popRIA_eq, getI, getJ, getR, cat1, wsum, List.take_succ_cons, List.take_zero, List.drop_succ_cons, List.drop_zero, List.reverse_cons, List.reverse_nil, List.nil_append, List.cons_append, List.length_cons, List.length_nil, true_and, and_true, and_self, ne_eq, not_false_eq_true, not_true_eq_false, Classical.not_not, false_or, or_false, true_or, or_true, imp_self, forall_const, forall_eq, implies_true, true_implies, false_implies, Nat.reduceAdd, Nat.reduceLeDiff, Nat.reduceEqDiff, Nat.reduceSub, Int.reduceNeg, Int.reduceEq, Int.reduceLT, Int.reduceLE, Int.reduceNe, Int.reduceAdd, Int.reduceSub, Nat.le_refl, Nat.zero_le, reduceCtorEq, Option.some.injEq, lg0_, lg1_, lg2_, lg3_, lg4_, lg5_, lg6_, lg7_, lg8_, lg9_, lg10_, lg11_, lg12_, lg13_, lg14_, lg15_, ls0_, ls1_, ls2_, ls3_, ls4_, ls5_, ls6_, ls7_, ls8_, ls9_, ls10_, ls11_, ls12_, ls13_, ls14_, ls15_, nl0_, nl1_, nl2_, nl3_, nl4_, nl5_, nl6_, nl7_, nl8_, nl9_, nl10_, nl11_, nl12_, nl13_, nl14_, nl15_, nlO_n, nlO_I, nlO_R, w32_i, x0, p3, h60]
    exact call2
  refine rv_X0_lets_31 ?_
  simp +contextual (disch := omega) only [tr_X0_lets_31, im_ic, im_lc, im_nul, im_iload, im_lload, im_aload, im_istore, im_astore, im_lstore, im_iinc, im_iadd, im_isub, im_imul, im_iand, im_ior, im_ishl, im_ishr, im_iushr, im_idiv, im_irem, im_ineg, im_i2l, im_l2i, im_i2b, im_i2s, im_ladd, im_lcmp, im_dup, im_pop, im_dup_x1, im_dup2, im_ceq, im_cne, im_clt, im_cge, im_cgt, im_cle, im_zeq, im_zne, im_zlt, im_zge, im_zgt, im_zle, im_ifnull, im_ifnn, im_acmpeq, im_acmpne, im_getI, im_getR, im_putI, im_putZ, im_putR, im_ald, im_iast, im_bast, im_sast, im_zast, im_aald, im_alen, im_new, im_newa, im_newq, im_tsw, im_lsw, tswA, lswA, im_callS_eq, im_callV_eq, chk_i, chk_T, dOk_i, tf_0, tf_n0, tf_1, tf_01, tf_F, tf_T, tf_em, tf_me, im_min, im_max, im_abs, ↓reduceIte, Int.zero_add, Int.add_zero, Int.one_mul, Int.mul_one, Int.ediv_one, Int.sub_zero, im_ireturn, im_zreturn, im_areturn, im_return, im_objinit, popI_eq, popII_eq, popJ_eq, popJJ_eq, popR_eq, popRR_eq, popV_eq, popVV_eq, popA_eq, popIA_eq, popIIA_eq, popRA_eq, popRIA_eq, getI, getJ, getR, cat1, wsum, List.take_succ_cons, List.take_zero, List.drop_succ_cons, List.drop_zero, List.reverse_cons, List.reverse_nil, List.nil_append, List.cons_append, List.length_cons, List.length_nil, true_and, and_true, and_self, ne_eq, not_false_eq_true, not_true_eq_false, Classical.not_not, false_or, or_false, true_or, or_true, imp_self, forall_const, forall_eq, implies_true, true_implies, false_implies, Nat.reduceAdd, Nat.reduceLeDiff, Nat.reduceEqDiff, Nat.reduceSub, Int.reduceNeg, Int.reduceEq, Int.reduceLT, Int.reduceLE, Int.reduceNe, Int.reduceAdd, Int.reduceSub, Nat.le_refl, Nat.zero_le, reduceCtorEq, Option.some.injEq, lg0_, lg1_, lg2_, lg3_, lg4_, lg5_, lg6_, lg7_, lg8_, lg9_, lg10_, lg11_, lg12_, lg13_, lg14_, lg15_, ls0_, ls1_, ls2_, ls3_, ls4_, ls5_, ls6_, ls7_, ls8_, ls9_, ls10_, ls11_, ls12_, ls13_, ls14_, ls15_, nl0_, nl1_, nl2_, nl3_, nl4_, nl5_, nl6_, nl7_, nl8_, nl9_, nl10_, nl11_, nl12_, nl13_, nl14_, nl15_, nlO_n, nlO_I, nlO_R, w32_i, x0, h5, hs]
  exact call
theorem c_X0_lets {d : Nat} {Rq : SmQ} {S : SmS} {I : SmI} {t : Int} {s a n : Nat} {nd ky : Nat → Nat} {r : Int → Int} (hC : 2 ≤ sC S) (hB : 9 ≤ sB S) (hX : XSk S) (hz : 106 ≤ sZ S) (hW : WR r) (hA : LnR r 2 I) (t0 : 0 ≤ t) (t1 : t < r 1) (hst : r (34 + 6 * t + 4) = 0) (h5 : sP S 0 5 = some s) (hs : sT S s = 12) (hs0 : sP S s 0 = some a) (hj : jrR r S I a n nd ky) (hO : jrO r) (h60 : n < 60) (hax : a = 23) (hnd : ∀ v, sT S v = 14 → 106 ≤ v)
    (hR : ∀ (S' : SmS) (I' : SmI) (nd' ky' : Nat → Nat), wld (ltX S a) (ltY S a) S S' I I' → jrR (gGo r t) S' I' a (n + 1) nd' ky' → LnR (gGo r t) 2 I' → sC S' = sC S - 2 → sB S' = sB S - 9 → Rq (.inl none) S' I') : SC mi_X0_lets (d + 8) [vR (some 0), vI t] S I Rq := by
  have h4 := hW.1.2.1
  have t4 : t < 4 := by omega
  refine SC_of (Nat.le_of_ble_eq_true rfl) 2 9 hC hB (SW_lt fun lt => ?_)
  show SW mi_X0_lets 0 (d + 8) _ [some (vR (some 0)), some (vI t)] [] (sBud S 2 9) I
  have ltS : ∀ v, sT S v ≠ 0 → sT S v < 200 → v < sZ S := lt
  have ta : sT S a = 13 := (TRb_t hj.1.1).1
  have al : a < sZ S := ltS a (by rw [ta]; decide) (by rw [ta]; decide)
  have sl : s < sZ S := ltS s (by rw [hs]; decide) (by rw [hs]; decide)
  have e11 : I 2 11 = r 2 := hA.2.1.1.2
  have e15 : I 15 t = r (34 + 6 * t + 3) := (hA.2.1.2 t t0 t1).1
  have n1 : ∀ v, v ≠ sZ S → sT (sNew (sBud S 2 9) 8 0 3) v = sT S v ∧ sN (sNew (sBud S 2 9) 8 0 3) v = sN S v ∧ sP (sNew (sBud S 2 9) 8 0 3) v = sP S v ∧ iSet (iSet (iSet (iNew I (sZ S)) (sZ S) 0 (r 2)) (sZ S) 1 t) (sZ S) 2 (r (34 + 6 * t + 3)) v = I v := fun v hv => ⟨if_neg hv, if_neg hv, funext fun j => if_neg hv, by rw [iSet_ne hv, iSet_ne hv, iSet_ne hv]; exact funext fun j => if_neg hv⟩
  have w1 : wld (fun _ => False) (fun _ => False) S (sNew (sBud S 2 9) 8 0 3) I (iSet (iSet (iSet (iNew I (sZ S)) (sZ S) 0 (r 2)) (sZ S) 1 t) (sZ S) 2 (r (34 + 6 * t + 3))) := newW (t := 0) (c := 0) (b := 0) (u := 0) (w := 0) rfl n1
  have J1 := wld_JT (Y := fun _ => False) ltS hj.1 w1 (fun v z => z.elim)
  have X1 : XSk (sNew (sBud S 2 9) 8 0 3) := XSk_w hX w1 hz (fun v j _ h => h.elim)
  have tz : sT (sNew (sBud S 2 9) 8 0 3) (sZ S) = 8 := if_pos rfl
  have i0 : iSet (iSet (iSet (iNew I (sZ S)) (sZ S) 0 (r 2)) (sZ S) 1 t) (sZ S) 2 (r (34 + 6 * t + 3)) (sZ S) 0 = r 2 := by rw [iSet_k (by omega), iSet_k (by omega), iSet_eq]
  have i1 : iSet (iSet (iSet (iNew I (sZ S)) (sZ S) 0 (r 2)) (sZ S) 1 t) (sZ S) 2 (r (34 + 6 * t + 3)) (sZ S) 1 = t := by rw [iSet_k (by omega), iSet_eq]
  have i2 : iSet (iSet (iSet (iNew I (sZ S)) (sZ S) 0 (r 2)) (sZ S) 1 t) (sZ S) 2 (r (34 + 6 * t + 3)) (sZ S) 2 = r (34 + 6 * t + 3) := iSet_eq
  have kn := kpF_in (r := r) (t := t) n
  have j1 : jrR r (sNew (sBud S 2 9) 8 0 3) (iSet (iSet (iSet (iNew I (sZ S)) (sZ S) 0 (r 2)) (sZ S) 1 t) (sZ S) 2 (r (34 + 6 * t + 3))) a n nd ky := ⟨J1, hj.2.1, fun i hi9 => by
    have q8 := (hj.1.2.2.1 i hi9).2
    have ql : ky i < sZ S := ltS _ (by rw [q8]; decide) (by rw [q8]; decide)
    rw [(n1 (ky i) (by omega)).2.2.2]
    exact hj.2.2 i hi9⟩
  have gap := jr_gap j1 hO hst i0 i1
  have s1 : sT (sNew (sBud S 2 9) 8 0 3) s = 12 := by rw [(n1 s (by omega)).1]; exact hs
  have sp : sP (sNew (sBud S 2 9) 8 0 3) s 0 = some a := by rw [(n1 s (by omega)).2.2.1]; exact hs0
  have add : SC mi_J2_add (d + 7) [vR (some s), vR (some (sZ S))] (sNew (sBud S 2 9) 8 0 3) (iSet (iSet (iSet (iNew I (sZ S)) (sZ S) 0 (r 2)) (sZ S) 1 t) (sZ S) 2 (r (34 + 6 * t + 3))) (retK mi_X0_lets 28 31 (d + 8) (fun o S' I' => Rq o (sBud S' (sC S - 2) (sB S - 9)) I') [some (vR (some 0)), some (vI t)] []) := by
    refine c_J2_add (d := d) (k := (kpF r t n).toNat) (Nat.le_refl 1) (Nat.le_refl 6) s1 sp J1 (by omega) tz (by omega) gap.1 gap.2 (fun S2 I2 x2 J2 _ _ => ?_)
    rw [retK_v]
    have w2 := exJ_wld x2 (TRb_t J1.1).2
    have yy : ∀ v, ltY (sNew (sBud S 2 9) 8 0 3) a v → ltY S a v := fun v y => by
      rcases y with y | y
      · exact Or.inl y
      · by_cases e : v = sZ S
        · rw [e, tz] at y; exact absurd y (by decide)
        · rw [(n1 v e).1] at y; exact Or.inr y
    have w02 : wld (ltY S a) (ltY S a) S S2 I I2 := wld_trans (wld_mono w1 (fun v z => z.elim) (fun v z => z.elim)) (wld_mono w2 yy yy)
    have hX2 : XSk S2 := XSk_w hX w02 hz (fun v j hv y => by
      rcases y with y | y
      · exact Or.inr (Or.inr (Or.inr (Or.inr (Or.inl (y.trans hax)))))
      · have := hnd v y; omega)
    have old : ∀ v, v < sZ S → sT S v ≠ 14 → v ≠ 23 → sT S2 v = sT S v ∧ sP S2 v = sP S v ∧ I2 v = I v := fun v h1 h2 h3 => by
      have ny : ¬ ltY S a v := fun y => by
        rcases y with y | y
        · exact h3 (y.trans hax)
        · exact h2 y
      obtain ⟨q1, _, q3, q4⟩ := w02.2 v (Or.inl h1)
      exact ⟨q1, q3 ny, q4 ny⟩
    have lo : ∀ q : Nat, q < 106 → q ≠ 23 → sT S2 q = sT S q ∧ sP S2 q = sP S q ∧ I2 q = I q := fun q h1 h2 => old q (by omega) (fun y => by have := hnd q y; omega) h2
    have hA2 : LnR r 2 I2 := LnR_fr hA (fun q q0 q1 => (lo q (by omega) (by omega)).2.2)
    have o0 := lo 0 (by omega) (by omega)
    have os := old s sl (by rw [hs]; decide) (fun y => by rw [← hax] at y; rw [y, ta] at hs; exact absurd hs (by decide))
    have j2 : jrR (gGo r t) S2 I2 a (n + 1) (ndI (kpF r t n).toNat (sZ (sNew (sBud S 2 9) 8 0 3)) nd) (ndI (kpF r t n).toNat (sZ S) ky) := by
      rw [gGo_ins t0 t4 hj.2.1 h60]
      have jg : jrR (gGo1 r t) (sNew (sBud S 2 9) 8 0 3) (iSet (iSet (iSet (iNew I (sZ S)) (sZ S) 0 (r 2)) (sZ S) 1 t) (sZ S) 2 (r (34 + 6 * t + 3))) a n nd ky := jrR_cg (gGo1_o (by omega) (by omega) (by omega)) (fun c hc => gGo1_o (by omega) (by omega) (by omega)) j1
      have key : ∀ (v : Nat) (j : Int), sT (sNew (sBud S 2 9) 8 0 3) v = 8 → I2 v j = iSet (iSet (iSet (iNew I (sZ S)) (sZ S) 0 (r 2)) (sZ S) 1 t) (sZ S) 2 (r (34 + 6 * t + 3)) v j := fun v j h8 => by
        have vl : v < sZ (sNew (sBud S 2 9) 8 0 3) := by
          by_cases e : v = sZ S
          · rw [e]; show sZ S < sZ S + 1; omega
          · rw [(n1 v e).1] at h8
            have := ltS v (by rw [h8]; decide) (by rw [h8]; decide)
            show v < sZ S + 1; omega
        rw [(w2.2 v (Or.inl vl)).2.2.2 (fun y => by
          rcases y with y | y
          · rw [y, (n1 a (by omega)).1, ta] at h8; exact absurd h8 (by decide)
          · rw [y] at h8; exact absurd h8 (by decide))]
      have g2 : gGo1 r t 2 = r 2 := gGo1_o (by omega) (by omega) (by omega)
      exact jr_put jg (by omega) J2 (by rw [key _ _ tz, i0, g2]) (by rw [key _ _ tz, i1]) (by rw [key _ _ tz, i2]) key
    have hN2 := XSk_now hX2
    have lg : ∀ v, v ≠ 15 → v ≠ 16 → v ≠ 17 → lGo 2 I2 t v = I2 v := fun v a1 a2 a3 => by
      unfold lGo
      rw [iSet_ne (by omega), iSet_ne (by omega), iSet_ne (by omega)]
    have t15 : sT S2 15 = 100 := LnS_t13 hN2
    have t16 : sT S2 16 = 102 := LnS_t14 hN2
    have t17 : sT S2 17 = 100 := LnS_t15 hN2
    have lt3 : ∀ v, (sT S2 v = 13 ∨ sT S2 v = 14 ∨ sT S2 v = 8) → lGo 2 I2 t v = I2 v := fun v hv => lg v (fun e => by rw [e, t15] at hv; omega) (fun e => by rw [e, t16] at hv; omega) (fun e => by rw [e, t17] at hv; omega)
    have j3 : jrR (gGo r t) S2 (lGo 2 I2 t) a (n + 1) (ndI (kpF r t n).toNat (sZ (sNew (sBud S 2 9) 8 0 3)) nd) (ndI (kpF r t n).toNat (sZ S) ky) := ⟨JT_cg j2.1 (fun v hv => ⟨rfl, fun _ => ⟨rfl, rfl, by rw [lt3 v hv]⟩, fun _ => rfl, fun _ => lt3 v hv⟩), j2.2.1, fun i hi9 => by
      rw [lt3 _ (Or.inr (Or.inr (j2.1.2.2.1 i hi9).2))]
      exact j2.2.2 i hi9⟩
    have h9 := hR (sBud S2 (sC S - 2) (sB S - 9)) (lGo 2 I2 t) _ _ (wld_bud (wld_trans (wld_mono w02 (fun v y => Or.inr y) (fun v y => y)) (wld_I (fun v hv => lg v (fun e => hv (Or.inl (by omega))) (fun e => hv (Or.inl (by omega))) (fun e => hv (Or.inl (by omega))))))) j3 (LnR_go hW hA2 t0 t1 hst) rfl rfl
    have i4 : I2 a 4 = ((n + 1 : Nat) : Int) := J2.2.1.1
    exact lt_60 (s := s) (a := a) hX2 hW hA2 t0 t1 hst (by rw [o0.2.1]; exact h5) (os.1.trans hs) (by rw [os.2.1]; exact hs0) (TRb_t J2.1).1 (by omega) h9
  have init : SC mi_X10_init (d + 7) [vR (some (sZ S)), vI (r 2), vI t, vI (r (34 + 6 * t + 3))] (sNew (sBud S 2 9) 8 0 3) (iNew I (sZ S)) (retK mi_X0_lets 25 28 (d + 8) (fun o S' I' => Rq o (sBud S' (sC S - 2) (sB S - 9)) I') [some (vR (some 0)), some (vI t)] [vR (some (sZ S)), vR (some s)]) := by
    refine c_X10_init tz ?_
    rw [retK_n]
    refine rv_X0_lets_28 ?_
    simp +contextual (disch := omega) only [tr_X0_lets_28, im_ic, im_lc, im_nul, im_iload, im_lload, im_aload, im_istore, im_astore, im_lstore, im_iinc, im_iadd, im_isub, im_imul, im_iand, im_ior, im_ishl, im_ishr, im_iushr, im_idiv, im_irem, im_ineg, im_i2l, im_l2i, im_i2b, im_i2s, im_ladd, im_lcmp, im_dup, im_pop, im_dup_x1, im_dup2, im_ceq, im_cne, im_clt, im_cge, im_cgt, im_cle, im_zeq, im_zne, im_zlt, im_zge, im_zgt, im_zle, im_ifnull, im_ifnn, im_acmpeq, im_acmpne, im_getI, im_getR, im_putI, im_putZ, im_putR, im_ald, im_iast, im_bast, im_sast, im_zast, im_aald, im_alen, im_new, im_newa, im_newq, im_tsw, im_lsw, tswA, lswA, im_callS_eq, im_callV_eq, chk_i, chk_T, dOk_i, tf_0, tf_n0, tf_1, tf_01, tf_F, tf_T, tf_em, tf_me, im_min, im_max, im_abs, ↓reduceIte, Int.zero_add, Int.add_zero, Int.one_mul, Int.mul_one, Int.ediv_one, Int.sub_zero, im_ireturn, im_zreturn, im_areturn, im_return, im_objinit, popI_eq, popII_eq, popJ_eq, popJJ_eq, popR_eq, popRR_eq, popV_eq, popVV_eq, popA_eq, popIA_eq, popIIA_eq, popRA_eq, popRIA_eq, getI, getJ, getR, cat1, wsum, List.take_succ_cons, List.take_zero, List.drop_succ_cons, List.drop_zero, List.reverse_cons, List.reverse_nil, List.nil_append, List.cons_append, List.length_cons, List.length_nil, true_and, and_true, and_self, ne_eq, not_false_eq_true, not_true_eq_false, Classical.not_not, false_or, or_false, true_or, or_true, imp_self, forall_const, forall_eq, implies_true, true_implies, false_implies, Nat.reduceAdd, Nat.reduceLeDiff, Nat.reduceEqDiff, Nat.reduceSub, Int.reduceNeg, Int.reduceEq, Int.reduceLT, Int.reduceLE, Int.reduceNe, Int.reduceAdd, Int.reduceSub, Nat.le_refl, Nat.zero_le, reduceCtorEq, Option.some.injEq, lg0_, lg1_, lg2_, lg3_, lg4_, lg5_, lg6_, lg7_, lg8_, lg9_, lg10_, lg11_, lg12_, lg13_, lg14_, lg15_, ls0_, ls1_, ls2_, ls3_, ls4_, ls5_, ls6_, ls7_, ls8_, ls9_, ls10_, ls11_, ls12_, ls13_, ls14_, ls15_, nl0_, nl1_, nl2_, nl3_, nl4_, nl5_, nl6_, nl7_, nl8_, nl9_, nl10_, nl11_, nl12_, nl13_, nl14_, nl15_, nlO_n, nlO_I, nlO_R, w32_i, s1]
    exact add
  have x0 : sT (sBud S 2 9) 0 = 1 := XSk_t0 hX
  have p5 : sP (sBud S 2 9) 0 5 = some s := h5
  have hz1 : sZ (sBud S 2 9) = sZ S := rfl
  have hc1 : sC (sBud S 2 9) = 2 := rfl
  have hb1 : sB (sBud S 2 9) = 9 := rfl
  have x1 := XSk_t0 X1
  have p3 := XSk_p3 X1
  have hN := XSk_now X1
  have l0 := LnS_t hN
  have f11 : iNew I (sZ S) 2 11 = r 2 := by rw [show iNew I (sZ S) 2 11 = I 2 11 from if_neg (by omega)]; exact e11
  have f15 : iNew I (sZ S) 15 t = r (34 + 6 * t + 3) := by rw [show iNew I (sZ S) 15 t = I 15 t from if_neg (by omega)]; exact e15
  have l7 := LnS_p7 hN
  have l13 := LnS_t13 hN
  have k13 := LnS_n13 hN
  have ts : sT (sBud S 2 9) s = 12 := hs
  refine rv_X0_lets_0 ?_
  simp +contextual (disch := omega) only [tr_X0_lets_0, im_ic, im_lc, im_nul, im_iload, im_lload, im_aload, im_istore, im_astore, im_lstore, im_iinc, im_iadd, im_isub, im_imul, im_iand, im_ior, im_ishl, im_ishr, im_iushr, im_idiv, im_irem, im_ineg, im_i2l, im_l2i, im_i2b, im_i2s, im_ladd, im_lcmp, im_dup, im_pop, im_dup_x1, im_dup2, im_ceq, im_cne, im_clt, im_cge, im_cgt, im_cle, im_zeq, im_zne, im_zlt, im_zge, im_zgt, im_zle, im_ifnull, im_ifnn, im_acmpeq, im_acmpne, im_getI, im_getR, im_putI, im_putZ, im_putR, im_ald, im_iast, im_bast, im_sast, im_zast, im_aald, im_alen, im_new, im_newa, im_newq, im_tsw, im_lsw, tswA, lswA, im_callS_eq, im_callV_eq, chk_i, chk_T, dOk_i, tf_0, tf_n0, tf_1, tf_01, tf_F, tf_T, tf_em, tf_me, im_min, im_max, im_abs, ↓reduceIte, Int.zero_add, Int.add_zero, Int.one_mul, Int.mul_one, Int.ediv_one, Int.sub_zero, im_ireturn, im_zreturn, im_areturn, im_return, im_objinit, popI_eq, popII_eq, popJ_eq, popJJ_eq, popR_eq, popRR_eq, popV_eq, popVV_eq, popA_eq, popIA_eq, popIIA_eq, popRA_eq, popRIA_eq, getI, getJ, getR, cat1, wsum, List.take_succ_cons, List.take_zero, List.drop_succ_cons, List.drop_zero, List.reverse_cons, List.reverse_nil, List.nil_append, List.cons_append, List.length_cons, List.length_nil, true_and, and_true, and_self, ne_eq, not_false_eq_true, not_true_eq_false, Classical.not_not, false_or, or_false, true_or, or_true, imp_self, forall_const, forall_eq, implies_true, true_implies, false_implies, Nat.reduceAdd, Nat.reduceLeDiff, Nat.reduceEqDiff, Nat.reduceSub, Int.reduceNeg, Int.reduceEq, Int.reduceLT, Int.reduceLE, Int.reduceNe, Int.reduceAdd, Int.reduceSub, Nat.le_refl, Nat.zero_le, reduceCtorEq, Option.some.injEq, lg0_, lg1_, lg2_, lg3_, lg4_, lg5_, lg6_, lg7_, lg8_, lg9_, lg10_, lg11_, lg12_, lg13_, lg14_, lg15_, ls0_, ls1_, ls2_, ls3_, ls4_, ls5_, ls6_, ls7_, ls8_, ls9_, ls10_, ls11_, ls12_, ls13_, ls14_, ls15_, nl0_, nl1_, nl2_, nl3_, nl4_, nl5_, nl6_, nl7_, nl8_, nl9_, nl10_, nl11_, nl12_, nl13_, nl14_, nl15_, nlO_n, nlO_I, nlO_R, w32_i, x0, p5, hz1, hc1, hb1, x1, p3, l0, f11, f15, l7, l13, k13, tz, s1, ts]
  exact init
