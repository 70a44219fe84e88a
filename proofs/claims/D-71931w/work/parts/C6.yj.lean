/-! a train is let go -- @IDX -/
set_option maxRecDepth 100000
theorem kpF_cg {r r' : Int → Int} {t : Int} (h2 : r' 2 = r 2) (h : ∀ c : Int, 58 ≤ c → r' c = r c) : ∀ n : Nat, kpF r' t n = kpF r t n := by
  intro n
  induction n with
  | zero => unfold kpF; rfl
  | succ n ih => rw [kpF_s, kpF_s, ih, h2, h _ (by omega), h _ (by omega)]
theorem jrR_cg {r r' : Int → Int} {S : SmS} {I : SmI} {a n : Nat} {nd ky : Nat → Nat} (h3 : r' 3 = r 3) (h : ∀ c : Int, 58 ≤ c → r' c = r c) (hj : jrR r S I a n nd ky) : jrR r' S I a n nd ky := ⟨hj.1, h3.trans hj.2.1, fun i hi9 => by rw [h _ (by omega), h _ (by omega), h _ (by omega)]; exact hj.2.2 i hi9⟩
theorem gGo_ins {r : Int → Int} {t : Int} {n : Nat} (t0 : 0 ≤ t) (t1 : t < 4) (hn : r 3 = n) (h60 : n < 60) : gGo r t = gIns (gGo1 r t) ((kpF r t n).toNat : Nat) t (r (34 + 6 * t + 3)) := by
  have e3 : gGo1 r t 3 = r 3 := gGo1_o (by omega) (by omega) (by omega)
  have es : gShift (gGo1 r t) = gGo1 r t := by
    unfold gShift
    rw [if_neg (by rw [e3]; omega)]
  unfold gGo gEnt
  have ek : kpF (gGo1 r t) t n = kpF r t n := kpF_cg (gGo1_o (by omega) (by omega) (by omega)) (fun c hc => gGo1_o (by omega) (by omega) (by omega)) n
  have kn := kpF_in (r := r) (t := t) n
  rw [es, e3, hn, show ((n : Int)).toNat = n by omega, ek, show (((kpF r t n).toNat : Nat) : Int) = kpF r t n by omega]
theorem b_X10_init {d : Nat} {Rq : SmQ} {S : SmS} {I : SmI} {e : Nat} {u t l : Int} (he : sT S e = 8) (hR : Rq (.inl none) S (iSet (iSet (iSet I e 0 u) e 1 t) e 2 l)) : SW mi_X10_init 0 d Rq [some (vR (some e)), some (vI u), some (vI t), some (vI l)] [] S I := by
  refine rv_X10_init_0 ?_
  simp +contextual (disch := omega) only [tr_X10_init_0, im_ic, im_lc, im_nul, im_iload, im_lload, im_aload, im_istore, im_astore, im_lstore, im_iinc, im_iadd, im_isub, im_imul, im_iand, im_ior, im_ishl, im_ishr, im_iushr, im_idiv, im_irem, im_ineg, im_i2l, im_l2i, im_i2b, im_i2s, im_ladd, im_lcmp, im_dup, im_pop, im_dup_x1, im_dup2, im_ceq, im_cne, im_clt, im_cge, im_cgt, im_cle, im_zeq, im_zne, im_zlt, im_zge, im_zgt, im_zle, im_ifnull, im_ifnn, im_acmpeq, im_acmpne, im_getI, im_getR, im_putI, im_putZ, im_putR, im_ald, im_iast, im_bast, im_sast, im_zast, im_aald, im_alen, im_new, im_newa, im_newq, im_tsw, im_lsw, tswA, lswA, im_callS_eq, im_callV_eq, chk_i, chk_T, dOk_i, tf_0, tf_n0, tf_1, tf_01, tf_F, tf_T, tf_em, tf_me, im_min, im_max, im_abs, ↓reduceIte, Int.zero_add, Int.add_zero, Int.one_mul, Int.mul_one, Int.ediv_one, Int.sub_zero, im_ireturn, im_zreturn, im_areturn, im_return, im_objinit, popI_eq, popII_eq, popJ_eq, popJJ_eq, popR_eq, popRR_eq, popV_eq, popVV_eq, popA_eq, popIA_eq, popIIA_eq, popRA_eq, popRIA_eq, getI, getJ, getR, cat1, wsum, List.take_succ_cons, List.take_zero, List.drop_succ_cons, List.drop_zero, List.reverse_cons, List.reverse_nil, List.nil_append, List.cons_append, List.length_cons, List.length_nil, true_and, and_true, and_self, ne_eq, not_false_eq_true, not_true_eq_false, Classical.not_not, false_or, or_false, true_or, or_true, imp_self, forall_const, forall_eq, implies_true, true_implies, false_implies, Nat.reduceAdd, Nat.reduceLeDiff, Nat.reduceEqDiff, Nat.reduceSub, Int.reduceNeg, Int.reduceEq, Int.reduceLT, Int.reduceLE, Int.reduceNe, Int.reduceAdd, Int.reduceSub, Nat.le_refl, Nat.zero_le, reduceCtorEq, Option.some.injEq, lg0_, lg1_, lg2_, lg3_, lg4_, lg5_, lg6_, lg7_, lg8_, lg9_, lg10_, lg11_, lg12_, lg13_, lg14_, lg15_, ls0_, ls1_, ls2_, ls3_, ls4_, ls5_, ls6_, ls7_, ls8_, ls9_, ls10_, ls11_, ls12_, ls13_, ls14_, ls15_, nl0_, nl1_, nl2_, nl3_, nl4_, nl5_, nl6_, nl7_, nl8_, nl9_, nl10_, nl11_, nl12_, nl13_, nl14_, nl15_, nlO_n, nlO_I, nlO_R, w32_i, he]
  exact ⟨by omega, hR⟩
theorem c_X10_init {d : Nat} {Rq : SmQ} {S : SmS} {I : SmI} {e : Nat} {u t l : Int} (he : sT S e = 8) (hR : Rq (.inl none) S (iSet (iSet (iSet I e 0 u) e 1 t) e 2 l)) : SC mi_X10_init d [vR (some e), vI u, vI t, vI l] S I Rq := SC_of0 (Nat.le_of_ble_eq_true rfl) (b_X10_init (S := sBud S 0 0) he hR)
def ltX (S : SmS) (a v : Nat) : Prop := (15 ≤ v ∧ v ≤ 17) ∨ v = a ∨ sT S v = 14
def ltY (S : SmS) (a v : Nat) : Prop := v = a ∨ sT S v = 14
theorem exJ_wld {S S' : SmS} {I I' : SmI} {a n : Nat} {nd : Nat → Nat} (h : exJ a n nd S S' I I') (ht : ∀ i, i < n → sT S (nd i) = 14) : wld (ltY S a) (ltY S a) S S' I I' := by
  obtain ⟨⟨z, e1⟩, _, e2, e3⟩ := h
  refine ⟨by omega, fun v hv => ?_⟩
  have hv2 : v ≠ sZ S := by omega
  refine ⟨(e1 v hv2).1, (e1 v hv2).2, fun y => funext fun j => ?_, fun y => funext fun j => ?_⟩
  · rcases e2 v j hv2 with q | q | ⟨⟨i, hi9, q⟩, _⟩
    · exact q
    · exact absurd (Or.inl q.1) y
    · exact absurd (Or.inr (by rw [q]; exact ht i hi9)) y
  · rcases e3 v j hv2 with q | q | ⟨⟨i, hi9, q⟩, _⟩
    · exact q
    · exact absurd (Or.inl q.1) y
    · exact absurd (Or.inr (by rw [q]; exact ht i hi9)) y
