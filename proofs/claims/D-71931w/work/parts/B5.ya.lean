/-! counted by a lambda; place -- @IDX -/
set_option maxRecDepth 100000
theorem cn_1 {d : Nat} {Rq : SmQ} {S : SmS} {I : SmI} {f : Nat} {r : Int → Int} (hX : XSk S) (hW : WR r) (hA : LnR r 2 I) (hTf : sT S f = 51) (hPf : sP S f 0 = some 0) (hR : Rq (.inl (some (vI (cntTo (fun t => r (34 + 6 * t + 4) = 1) (r 1).toNat)))) S I) : SC mi_X0_counted (d + 2) [vR (some 0), vR (some f)] S I Rq := by
  refine SC_of0 (Nat.le_of_ble_eq_true rfl) ?_
  refine b_X0_counted (d := d + 1) (S := sBud S 0 0) (Iv := fun I' => I' = I) (P := fun t => r (34 + 6 * t + 4) = 1) hX hW.1.2.1 (fun I' e => by rw [e]; exact hA.1.1) rfl (fun I1 k l rr e k0 k1 hw hn => ?_) (fun I' e => by rw [e]; exact hR)
  subst e
  refine lam_1 (d := d) hTf hPf (XSk_t0 hX) hw (c_X0_lambda_rule_0 (S := sBud S 0 0) hX hW hA k0 k1 ⟨_, rfl, tf_01', hn _ rfl⟩)
theorem cn_2 {d : Nat} {Rq : SmQ} {S : SmS} {I : SmI} {f : Nat} {r : Int → Int} (hX : XSk S) (hW : WR r) (hA : LnR r 2 I) (hTf : sT S f = 52) (hPf : sP S f 0 = some 0) (hR : Rq (.inl (some (vI (cntTo (fun t => r (34 + 6 * t + 4) = 2) (r 1).toNat)))) S I) : SC mi_X0_counted (d + 3) [vR (some 0), vR (some f)] S I Rq := by
  refine SC_of0 (Nat.le_of_ble_eq_true rfl) ?_
  refine b_X0_counted (d := d + 2) (S := sBud S 0 0) (Iv := fun I' => I' = I) (P := fun t => r (34 + 6 * t + 4) = 2) hX hW.1.2.1 (fun I' e => by rw [e]; exact hA.1.1) rfl (fun I1 k l rr e k0 k1 hw hn => ?_) (fun I' e => by rw [e]; exact hR)
  subst e
  refine lam_2 (d := d + 1) hTf hPf (XSk_t0 hX) hw (c_X0_lambda_rule_1 (S := sBud S 0 0) hX hW hA k0 k1 ⟨_, rfl, tf_01', hn _ rfl⟩)
theorem cn_3 {d : Nat} {Rq : SmQ} {S : SmS} {I : SmI} {f : Nat} {r : Int → Int} (hX : XSk S) (hz : 106 ≤ f) (hW : WR r) (hA : LnR r 2 I) (hK : YdK r 18 I) (hTf : sT S f = 53) (hPf : sP S f 0 = some 0) (hR : ∀ I' : SmI, frY I I' → YdK r 18 I' → Rq (.inl (some (vI (cntTo (fun t => agn (rS r) t = 0) (r 1).toNat)))) S I') : SC mi_X0_counted (d + 29) [vR (some 0), vR (some f)] S I Rq := by
  refine SC_of0 (Nat.le_of_ble_eq_true rfl) ?_
  refine b_X0_counted (d := d + 28) (S := sBud S 0 0) (Iv := fun I' => frY I I' ∧ YdK r 18 I') (P := fun t => agn (rS r) t = 0) hX hW.1.2.1 (fun I' e => by rw [e.1 2 (by decide) (by decide) (by decide)]; exact hA.1.1) ⟨frY_refl, hK⟩ (fun I1 k l rr e k0 k1 hw hn => ?_) (fun I' e => hR I' e.1 e.2)
  refine lam_3 (d := d + 27) hTf hPf (XSk_t0 hX) hw (c_X0_lambda_rule_2 (S := sBud S 0 0) hX hW (LnR_Y hA e.1 (Or.inl (by omega))) e.2 k0 k1 (fun I2 f2 k2 => ⟨_, rfl, tf_01', hn I2 ⟨frY_trans e.1 f2, k2⟩⟩))
theorem cn_4 {d : Nat} {Rq : SmQ} {S : SmS} {I : SmI} {f : Nat} {p : Int} {r : Int → Int} (hX : XSk S) (hW : WR r) (hA : LnR r 2 I) (hTf : sT S f = 54) (hPf : sP S f 0 = some 0) (hp : I f 1 = p) (hR : Rq (.inl (some (vI (cntTo (fun t => dgt (xcd (rS r) (pNow (rS r))) t = p) (r 1).toNat)))) S I) : SC mi_X0_counted (d + 3) [vR (some 0), vR (some f)] S I Rq := by
  refine SC_of0 (Nat.le_of_ble_eq_true rfl) ?_
  refine b_X0_counted (d := d + 2) (S := sBud S 0 0) (Iv := fun I' => I' = I) (P := fun t => dgt (xcd (rS r) (pNow (rS r))) t = p) hX hW.1.2.1 (fun I' e => by rw [e]; exact hA.1.1) rfl (fun I1 k l rr e k0 k1 hw hn => ?_) (fun I' e => by rw [e]; exact hR)
  subst e
  subst hp
  refine lam_4 (d := d + 1) hTf hPf (XSk_t0 hX) hw (c_X0_lambda_place_3 (S := sBud S 0 0) hX hW hA k0 k1 ⟨_, rfl, tf_01', hn _ rfl⟩)
/-- how many stand at a place -/
theorem atP_x {r : Int → Int} {p : Int} (hW : WR r) (p0 : 0 ≤ p) (p1 : p < 6) : cntTo (fun t => dgt (xcd (rS r) (pNow (rS r))) t = p) (r 1).toNat = mAtP (rS r) p (r 1).toNat := by
  have h4 := hW.1.2.1
  refine cntTo_congr (fun j hj => ?_)
  have hj' : (j : Int) < r 1 := by omega
  rw [xcd_p (J := rS r) (by omega) hj' h4.2 p0 p1, pNow_d (J := rS r) hW (by omega) (by omega), rS_ap]
  have e := WR_dn (J := rS r) hW (t := j) (by omega) hj'
  rw [e]
  show pD r j = p + 1 ↔ ¬ r (34 + 6 * (j : Int) + 3) = r (34 + 6 * (j : Int) + 1) ∧ r (34 + 6 * (j : Int) + 3) = p
  unfold pD
  by_cases z : r (34 + 6 * (j : Int) + 3) = r (34 + 6 * (j : Int) + 1)
  · rw [if_neg (fun y => y.2.2 z)]
    exact ⟨fun y => absurd y (by omega), fun y => absurd z y.1⟩
  · rw [if_pos ⟨by omega, hj', z⟩]
    exact ⟨fun y => ⟨z, by omega⟩, fun y => by omega⟩
theorem pl_n {r : Int → Int} {p w : Int} (h : ¬ (0 ≤ p ∧ p ≤ r 0 - 1)) : mPlace (rS r) p w = -1 := by unfold mPlace; exact if_pos (fun z => h ⟨z.1, by have : p < r 0 := z.2; omega⟩)
theorem pl_y {r : Int → Int} {p w : Int} (h : 0 ≤ p ∧ p ≤ r 0 - 1) : mPlace (rS r) p w = if w = 0 then r (4 + 5 * p) else if w = 1 ∨ w = 2 ∨ w = 3 then mTO (rS r) p (w - 1) else if w = 4 then mAtP (rS r) p (r 1).toNat else if w = 5 then (if p = r 0 - 1 then -4 else r (4 + 5 * p + 4)) else -1 := by unfold mPlace; exact if_neg (fun z => z ⟨h.1, by show p < r 0; omega⟩)
theorem xp_58 {d : Nat} {Rq : SmQ} {S : SmS} {I : SmI} {p w : Int} {r : Int → Int} (hX : XSk S) (hW : WR r) (hA : LnR r 2 I) (p0 : 0 ≤ p) (p6 : p < 6) (hw : 1 ≤ w ∧ w ≤ 3) (hR : Rq (.inl (some (vI (mTO (rS r) p (w - 1))))) S I) : SW mi_X0_place 58 d Rq [some (vR (some 0)), some (vI p), some (vI w)] [] S I := by
  obtain ⟨e1, e2, e3⟩ := hA.1.2.1 p p0 p6
  have e1' : I 10 p = r (4 + 5 * p) := e1
  obtain ⟨q1, _⟩ := hW.2.1 p p0 p6
  have sd := mTO_sd (I := rS r) (p := p) q1.1
  refine rv_X0_place_58 ?_
  simp +contextual (disch := omega) only [tr_X0_place_58, im_ic, im_lc, im_nul, im_iload, im_lload, im_aload, im_istore, im_astore, im_lstore, im_iinc, im_iadd, im_isub, im_imul, im_iand, im_ior, im_ishl, im_ishr, im_iushr, im_idiv, im_irem, im_ineg, im_i2l, im_l2i, im_i2b, im_i2s, im_ladd, im_lcmp, im_dup, im_pop, im_dup_x1, im_dup2, im_ceq, im_cne, im_clt, im_cge, im_cgt, im_cle, im_zeq, im_zne, im_zlt, im_zge, im_zgt, im_zle, im_ifnull, im_ifnn, im_acmpeq, im_acmpne, im_getI, im_getR, im_putI, im_putZ, im_putR, im_ald, im_iast, im_bast, im_sast, im_zast, im_aald, im_alen, im_new, im_newa, im_newq, im_tsw, im_lsw, tswA, lswA, im_callS_eq, im_callV_eq, chk_i, chk_T, dOk_i, tf_0, tf_n0, tf_1, tf_01, tf_F, tf_T, tf_em, tf_me, im_min, im_max, im_abs, ↓reduceIte, Int.zero_add, Int.add_zero, Int.one_mul, Int.mul_one, Int.ediv_one, Int.sub_zero, im_ireturn, im_zreturn, im_areturn, im_return, im_objinit, popI_eq, popII_eq, popJ_eq, popJJ_eq, popR_eq, popRR_eq, popV_eq, popVV_eq, popA_eq, popIA_eq, popIIA_eq, popRA_eq, popRIA_eq, getI, getJ, getR, cat1, wsum, List.take_succ_cons, List.take_zero, List.drop_succ_cons, List.drop_zero, List.reverse_cons, List.reverse_nil, List.nil_append, List.cons_append, List.length_cons, List.length_nil, true_and, and_true, and_self, ne_eq, not_false_eq_true, not_true_eq_false, Classical.not_not, false_or, or_false, true_or, or_true, imp_self, forall_const, forall_eq, implies_true, true_implies, false_implies, Nat.reduceAdd, Nat.reduceLeDiff, Nat.reduceEqDiff, Nat.reduceSub, Int.reduceNeg, Int.reduceEq, Int.reduceLT, Int.reduceLE, Int.reduceNe, Int.reduceAdd, Int.reduceSub, Nat.le_refl, Nat.zero_le, reduceCtorEq, Option.some.injEq, lg0_, lg1_, lg2_, lg3_, lg4_, lg5_, lg6_, lg7_, lg8_, lg9_, lg10_, lg11_, lg12_, lg13_, lg14_, lg15_, ls0_, ls1_, ls2_, ls3_, ls4_, ls5_, ls6_, ls7_, ls8_, ls9_, ls10_, ls11_, ls12_, ls13_, ls14_, ls15_, nl0_, nl1_, nl2_, nl3_, nl4_, nl5_, nl6_, nl7_, nl8_, nl9_, nl10_, nl11_, nl12_, nl13_, nl14_, nl15_, nlO_n, nlO_I, nlO_R, w32_i, XSk_t0 hX, XSk_p0 hX, XSk_t1 hX, XSk_n1 hX, XSk_p3 hX, XSk_p4 hX, XSk_p6 hX, XSk_t24 hX, XSk_q0 hX, XSk_q2 hX, XSk_t25 hX, XSk_t26 hX, XSk_n26 hX, XSk_p7 hX, XSk_p8 hX, XSk_t43 hX, XSk_n43 hX, XSk_i0 hX, XSk_i1 hX, XSk_t44 hX, XSk_j0 hX, XSk_j1 hX, XSk_t63 hX, XSk_k0 hX, XSk_k1 hX, XSk_p9 hX, XSk_t82 hX, XSk_a0 hX, XSk_a1 hX, XSk_p10 hX, XSk_t101 hX, XSk_n101 hX, XSk_s0 hX, XSk_s1 hX, XSk_s2 hX, XSk_s3 hX, XSk_t102 hX, XSk_t103 hX, XSk_t104 hX, XSk_t105 hX, now_t (XSk_now hX), now_p0 (XSk_now hX), now_t1 (XSk_now hX), now_n1 (XSk_now hX), now_rp (XSk_now hX), now_rt (XSk_now hX), now_rn (XSk_now hX), now_p1 (XSk_now hX), now_t8 (XSk_now hX), now_n8 (XSk_now hX), now_p2 (XSk_now hX), now_t9 (XSk_now hX), now_n9 (XSk_now hX), now_p4 (XSk_now hX), now_t10 (XSk_now hX), now_n10 (XSk_now hX), now_p5 (XSk_now hX), now_t11 (XSk_now hX), now_n11 (XSk_now hX), now_p6 (XSk_now hX), now_t12 (XSk_now hX), now_n12 (XSk_now hX), now_p7 (XSk_now hX), now_t13 (XSk_now hX), now_n13 (XSk_now hX), now_p8 (XSk_now hX), now_t14 (XSk_now hX), now_n14 (XSk_now hX), now_p9 (XSk_now hX), now_t15 (XSk_now hX), now_n15 (XSk_now hX), e1']
  refine ⟨fun a => ?_, fun a => ?_⟩
  · rw [mTO_none (I := rS r) (show r (4 + 5 * p) ≤ w - 1 by omega)] at hR
    exact hR
  · rw [← sdB_eq e3 sd (k := w - 1) (by omega) (by show w - 1 < r (4 + 5 * p); omega)] at hR
    have ee : 2 + 2 + p.toNat = 4 + p.toNat := by omega
    rw [ee] at hR
    exact hR
theorem dynW {S : SmS} {I : SmI} {t a : Nat} {X Y : Nat → Prop} {c b : Nat} {I' : SmI} (hI : ∀ v, v ≠ sZ S → I' v = I v) : wld X Y S (sBud (sPut (sNew S t 0 2) (sZ S) 0 (some a)) c b) I I' := ⟨by show sZ S ≤ sZ S + 1; omega, fun v hv => by
    have hv2 : v ≠ sZ S := by have e : sZ (sBud (sPut (sNew S t 0 2) (sZ S) 0 (some a)) c b) = sZ S + 1 := rfl
                              rw [e] at hv; omega
    refine ⟨if_neg hv2, if_neg hv2, fun _ => ?_, fun _ => hI v hv2⟩
    show sP (sPut (sNew S t 0 2) (sZ S) 0 (some a)) v = sP S v
    rw [sPut_ne hv2]; funext j; exact if_neg hv2⟩
theorem c_X0_place {d : Nat} {Rq : SmQ} {S : SmS} {I : SmI} {p w : Int} {r : Int → Int} (hC : 1 ≤ sC S) (hB : 2 ≤ sB S) (hX : XSk S) (hz : 106 ≤ sZ S) (hW : WR r) (hA : LnR r 2 I)
    (hR : ∀ (S' : SmS) (I' : SmI), wld (fun _ => False) (fun _ => False) S S' I I' → sC S' = sC S - 1 → sB S' = sB S - 2 → Rq (.inl (some (vI (mPlace (rS r) p w)))) S' I') : SC mi_X0_place (d + 4) [vR (some 0), vI p, vI w] S I Rq := by
  refine SC_of (Nat.le_of_ble_eq_true rfl) 1 2 hC hB ?_
  show SW mi_X0_place 0 (d + 4) _ [some (vR (some 0)), some (vI p), some (vI w)] [] (sBud S 1 2) I
  have e3 : I 2 3 = r 0 := hA.2.1.1.1
  have hr := hW.1.1
  have hX1 : XSk (sBud S 1 2) := hX
  have x0 := XSk_t0 hX1
  have p3 := XSk_p3 hX1
  have hN := XSk_now hX1
  have l0 := LnS_t hN
  have h9 := hR (sBud (sBud S 1 2) (sC S - 1) (sB S - 2)) I wld_refl rfl rfl
  by_cases a : 0 ≤ p ∧ p ≤ r 0 - 1
  · have a0 := a.1
    have a1 := a.2
    have p6 : p < 6 := by omega
    obtain ⟨e1, e2, _⟩ := hA.1.2.1 p a0 p6
    have e1' : I 10 p = r (4 + 5 * p) := e1
    have e2' : I 11 p = r (4 + 5 * p + 4) := e2
    have t58 := fun hw : 1 ≤ w ∧ w ≤ 3 => xp_58 (d := d + 4) (Rq := fun o S' I' => Rq o (sBud S' (sC S - 1) (sB S - 2)) I') (S := sBud S 1 2) (I := I) (p := p) (w := w) hX hW hA a0 p6 hw
    have hz1 : sZ (sBud S 1 2) = sZ S := rfl
    have m1 := LnS_p1 hN
    have m2 := LnS_p2 hN
    have m8 := LnS_t8 hN
    have k8 := LnS_n8 hN
    have m9 := LnS_t9 hN
    have k9 := LnS_n9 hN
    have tt : sT (sPut (sNew (sBud S 1 2) 54 0 2) (sZ S) 0 (some 0)) 0 = 1 := by
      show (if (0 : Nat) = sZ S then 54 else sT S 0) = 1
      rw [if_neg (by omega)]; exact x0
    have hc1 : sC (sBud S 1 2) = 1 := rfl
    have hb1 : sB (sBud S 1 2) = 2 := rfl
    rw [pl_y a] at h9
    have c4 : w = 4 → SC mi_X0_counted (d + 3) [vR (some 0), vR (some (sZ S))] (sPut (sNew (sBud S 1 2) 54 0 2) (sZ S) 0 (some 0)) (iSet (iNew I (sZ S)) (sZ S) 1 p) (retK mi_X0_place 98 101 (d + 4) (fun o S' I' => Rq o (sBud S' (sC S - 1) (sB S - 2)) I') [some (vR (some 0)), some (vI p), some (vI w)] []) := by
      intro hw
      have wl : wld (fun _ => False) (fun _ => False) S (sBud (sPut (sNew (sBud S 1 2) 54 0 2) (sZ S) 0 (some 0)) (sC S - 1) (sB S - 2)) I (iSet (iNew I (sZ S)) (sZ S) 1 p) := wld_bud (dynW (S := sBud S 1 2) (t := 54) (a := 0) (c := 0) (b := 0) (fun v hv => by rw [iSet_ne (show v ≠ sZ S from hv)]; funext j; exact if_neg (show v ≠ sZ S from hv)))
      refine cn_4 (p := p) (d := d) (XSk_w hX wl hz (fun v j _ h => h.elim)) hW (LnR_fr hA (fun q q0 q1 => (wl.2 q (by omega)).2.2.2 (fun z => z))) (if_pos rfl) sPut_eq iSet_eq ?_
      rw [retK_v, atP_x hW a0 p6]
      have h8 := hR _ _ wl rfl rfl
      rw [pl_y a, if_neg (by omega), if_neg (by omega), if_pos hw] at h8
      refine rv_X0_place_101 ?_
      simp +contextual (disch := omega) only [tr_X0_place_101, im_ic, im_lc, im_nul, im_iload, im_lload, im_aload, im_istore, im_astore, im_lstore, im_iinc, im_iadd, im_isub, im_imul, im_iand, im_ior, im_ishl, im_ishr, im_iushr, im_idiv, im_irem, im_ineg, im_i2l, im_l2i, im_i2b, im_i2s, im_ladd, im_lcmp, im_dup, im_pop, im_dup_x1, im_dup2, im_ceq, im_cne, im_clt, im_cge, im_cgt, im_cle, im_zeq, im_zne, im_zlt, im_zge, im_zgt, im_zle, im_ifnull, im_ifnn, im_acmpeq, im_acmpne, im_getI, im_getR, im_putI, im_putZ, im_putR, im_ald, im_iast, im_bast, im_sast, im_zast, im_aald, im_alen, im_new, im_newa, im_newq, im_tsw, im_lsw, tswA, lswA, im_callS_eq, im_callV_eq, chk_i, chk_T, dOk_i, tf_0, tf_n0, tf_1, tf_01, tf_F, tf_T, tf_em, tf_me, im_min, im_max, im_abs, ↓reduceIte, Int.zero_add, Int.add_zero, Int.one_mul, Int.mul_one, Int.ediv_one, Int.sub_zero, im_ireturn, im_zreturn, im_areturn, im_return, im_objinit, popI_eq, popII_eq, popJ_eq, popJJ_eq, popR_eq, popRR_eq, popV_eq, popVV_eq, popA_eq, popIA_eq, popIIA_eq, popRA_eq, popRIA_eq, getI, getJ, getR, cat1, wsum, List.take_succ_cons, List.take_zero, List.drop_succ_cons, List.drop_zero, List.reverse_cons, List.reverse_nil, List.nil_append, List.cons_append, List.length_cons, List.length_nil, true_and, and_true, and_self, ne_eq, not_false_eq_true, not_true_eq_false, Classical.not_not, false_or, or_false, true_or, or_true, imp_self, forall_const, forall_eq, implies_true, true_implies, false_implies, Nat.reduceAdd, Nat.reduceLeDiff, Nat.reduceEqDiff, Nat.reduceSub, Int.reduceNeg, Int.reduceEq, Int.reduceLT, Int.reduceLE, Int.reduceNe, Int.reduceAdd, Int.reduceSub, Nat.le_refl, Nat.zero_le, reduceCtorEq, Option.some.injEq, lg0_, lg1_, lg2_, lg3_, lg4_, lg5_, lg6_, lg7_, lg8_, lg9_, lg10_, lg11_, lg12_, lg13_, lg14_, lg15_, ls0_, ls1_, ls2_, ls3_, ls4_, ls5_, ls6_, ls7_, ls8_, ls9_, ls10_, ls11_, ls12_, ls13_, ls14_, ls15_, nl0_, nl1_, nl2_, nl3_, nl4_, nl5_, nl6_, nl7_, nl8_, nl9_, nl10_, nl11_, nl12_, nl13_, nl14_, nl15_, nlO_n, nlO_I, nlO_R, w32_i]
      exact h8
    refine rv_X0_place_0 ?_
    simp +contextual (disch := omega) only [tr_X0_place_0, im_ic, im_lc, im_nul, im_iload, im_lload, im_aload, im_istore, im_astore, im_lstore, im_iinc, im_iadd, im_isub, im_imul, im_iand, im_ior, im_ishl, im_ishr, im_iushr, im_idiv, im_irem, im_ineg, im_i2l, im_l2i, im_i2b, im_i2s, im_ladd, im_lcmp, im_dup, im_pop, im_dup_x1, im_dup2, im_ceq, im_cne, im_clt, im_cge, im_cgt, im_cle, im_zeq, im_zne, im_zlt, im_zge, im_zgt, im_zle, im_ifnull, im_ifnn, im_acmpeq, im_acmpne, im_getI, im_getR, im_putI, im_putZ, im_putR, im_ald, im_iast, im_bast, im_sast, im_zast, im_aald, im_alen, im_new, im_newa, im_newq, im_tsw, im_lsw, tswA, lswA, im_callS_eq, im_callV_eq, chk_i, chk_T, dOk_i, tf_0, tf_n0, tf_1, tf_01, tf_F, tf_T, tf_em, tf_me, im_min, im_max, im_abs, ↓reduceIte, Int.zero_add, Int.add_zero, Int.one_mul, Int.mul_one, Int.ediv_one, Int.sub_zero, im_ireturn, im_zreturn, im_areturn, im_return, im_objinit, popI_eq, popII_eq, popJ_eq, popJJ_eq, popR_eq, popRR_eq, popV_eq, popVV_eq, popA_eq, popIA_eq, popIIA_eq, popRA_eq, popRIA_eq, getI, getJ, getR, cat1, wsum, List.take_succ_cons, List.take_zero, List.drop_succ_cons, List.drop_zero, List.reverse_cons, List.reverse_nil, List.nil_append, List.cons_append, List.length_cons, List.length_nil, true_and, and_true, and_self, ne_eq, not_false_eq_true, not_true_eq_false, Classical.not_not, false_or, or_false, true_or, or_true, imp_self, forall_const, forall_eq, implies_true, true_implies, false_implies, Nat.reduceAdd, Nat.reduceLeDiff, Nat.reduceEqDiff, Nat.reduceSub, Int.reduceNeg, Int.reduceEq, Int.reduceLT, Int.reduceLE, Int.reduceNe, Int.reduceAdd, Int.reduceSub, Nat.le_refl, Nat.zero_le, reduceCtorEq, Option.some.injEq, lg0_, lg1_, lg2_, lg3_, lg4_, lg5_, lg6_, lg7_, lg8_, lg9_, lg10_, lg11_, lg12_, lg13_, lg14_, lg15_, ls0_, ls1_, ls2_, ls3_, ls4_, ls5_, ls6_, ls7_, ls8_, ls9_, ls10_, ls11_, ls12_, ls13_, ls14_, ls15_, nl0_, nl1_, nl2_, nl3_, nl4_, nl5_, nl6_, nl7_, nl8_, nl9_, nl10_, nl11_, nl12_, nl13_, nl14_, nl15_, nlO_n, nlO_I, nlO_R, w32_i, x0, p3, l0, im_p_X0_isPlace, e3, hr, a0, a1, p6, e1', e2', im_dyn4, hz1, hc1, hb1, m1, m2, m8, k8, m9, k9]
    refine ⟨hX, ⟨fun h => ?_, fun h => ?_, fun h => ?_, fun h => ?_, fun h => ⟨tt, ?_⟩, fun h => ⟨fun b => ?_, fun b => ?_⟩⟩, fun h => ?_⟩
    · subst h
      exact h9
    · subst h
      exact t58 (by omega) h9
    · subst h
      exact t58 (by omega) h9
    · subst h
      exact t58 (by omega) h9
    · subst h
      exact c4 rfl
    · subst h
      rw [if_neg (by omega), if_neg (by omega), if_neg (by omega), if_pos rfl, if_pos (by omega)] at h9
      exact h9
    · subst h
      rw [if_neg (by omega), if_neg (by omega), if_neg (by omega), if_pos rfl, if_neg (by omega)] at h9
      exact h9
    · rw [if_neg (by omega), if_neg (by omega), if_neg (by omega), if_neg (by omega)] at h9
      exact h9
  · rw [pl_n a] at h9
    refine rv_X0_place_0 ?_
    simp +contextual (disch := omega) only [tr_X0_place_0, im_ic, im_lc, im_nul, im_iload, im_lload, im_aload, im_istore, im_astore, im_lstore, im_iinc, im_iadd, im_isub, im_imul, im_iand, im_ior, im_ishl, im_ishr, im_iushr, im_idiv, im_irem, im_ineg, im_i2l, im_l2i, im_i2b, im_i2s, im_ladd, im_lcmp, im_dup, im_pop, im_dup_x1, im_dup2, im_ceq, im_cne, im_clt, im_cge, im_cgt, im_cle, im_zeq, im_zne, im_zlt, im_zge, im_zgt, im_zle, im_ifnull, im_ifnn, im_acmpeq, im_acmpne, im_getI, im_getR, im_putI, im_putZ, im_putR, im_ald, im_iast, im_bast, im_sast, im_zast, im_aald, im_alen, im_new, im_newa, im_newq, im_tsw, im_lsw, tswA, lswA, im_callS_eq, im_callV_eq, chk_i, chk_T, dOk_i, tf_0, tf_n0, tf_1, tf_01, tf_F, tf_T, tf_em, tf_me, im_min, im_max, im_abs, ↓reduceIte, Int.zero_add, Int.add_zero, Int.one_mul, Int.mul_one, Int.ediv_one, Int.sub_zero, im_ireturn, im_zreturn, im_areturn, im_return, im_objinit, popI_eq, popII_eq, popJ_eq, popJJ_eq, popR_eq, popRR_eq, popV_eq, popVV_eq, popA_eq, popIA_eq, popIIA_eq, popRA_eq, popRIA_eq, getI, getJ, getR, cat1, wsum, List.take_succ_cons, List.take_zero, List.drop_succ_cons, List.drop_zero, List.reverse_cons, List.reverse_nil, List.nil_append, List.cons_append, List.length_cons, List.length_nil, true_and, and_true, and_self, ne_eq, not_false_eq_true, not_true_eq_false, Classical.not_not, false_or, or_false, true_or, or_true, imp_self, forall_const, forall_eq, implies_true, true_implies, false_implies, Nat.reduceAdd, Nat.reduceLeDiff, Nat.reduceEqDiff, Nat.reduceSub, Int.reduceNeg, Int.reduceEq, Int.reduceLT, Int.reduceLE, Int.reduceNe, Int.reduceAdd, Int.reduceSub, Nat.le_refl, Nat.zero_le, reduceCtorEq, Option.some.injEq, lg0_, lg1_, lg2_, lg3_, lg4_, lg5_, lg6_, lg7_, lg8_, lg9_, lg10_, lg11_, lg12_, lg13_, lg14_, lg15_, ls0_, ls1_, ls2_, ls3_, ls4_, ls5_, ls6_, ls7_, ls8_, ls9_, ls10_, ls11_, ls12_, ls13_, ls14_, ls15_, nl0_, nl1_, nl2_, nl3_, nl4_, nl5_, nl6_, nl7_, nl8_, nl9_, nl10_, nl11_, nl12_, nl13_, nl14_, nl15_, nlO_n, nlO_I, nlO_R, w32_i, x0, p3, l0, im_p_X0_isPlace, e3, hr, a]
    exact ⟨hX, h9⟩
