/-! a new entry -- @IDX (printed by gen/mkadd.py) -/
set_option maxRecDepth 100000
/-- one new node; ties and colours of the tree, its size and its count of changes -/
def exJ (a n : Nat) (nd : Nat → Nat) (S S' : SmS) (I I' : SmI) : Prop := (sZ S' = sZ S + 1 ∧ ∀ v, v ≠ sZ S → sT S' v = sT S v ∧ sN S' v = sN S v) ∧ sT S' (sZ S) = 14 ∧ (∀ v j, v ≠ sZ S → sP S' v j = sP S v j ∨ (v = a ∧ j = 3) ∨ ((∃ i, i < n ∧ v = nd i) ∧ 2 ≤ j ∧ j ≤ 4)) ∧ ∀ v j, v ≠ sZ S → I' v j = I v j ∨ (v = a ∧ (j = 4 ∨ j = 5)) ∨ ((∃ i, i < n ∧ v = nd i) ∧ j = 5)
theorem TRb_sz {S : SmS} {I : SmI} {a n : Nat} {nd : Nat → Nat} (h : TRb S I a n nd) {x y : Int} : TRb S (iSet (iSet I a 4 x) a 5 y) a n nd := by
  obtain ⟨lf, rg, pr, lo, hi, rt, h1, h2, h3, h4, h5⟩ := h
  have e : ∀ i, i < n → nd i ≠ a := fun i hi9 z => by
    have := (h2.2 i hi9).1
    rw [z, h3.1] at this
    exact absurd this (by decide)
  refine ⟨lf, rg, pr, lo, hi, rt, h1, h2, h3, fun z => ?_, fun i hi9 => ?_⟩
  · rw [iSet_ne (e rt (h1.2.1 z).1), iSet_ne (e rt (h1.2.1 z).1)]; exact h4 z
  · rw [iSet_ne (e i hi9), iSet_ne (e i hi9)]; exact h5 i hi9
theorem ae_38R {d : Nat} {Rq : SmQ} {S' : SmS} {I I' : SmI} {a : Nat} (ta : sT S' a = 13) (a4 : I' a 4 = I a 4) (fin : Rq (.inl none) S' (iSet (iSet I' a 4 (w32 (I a 4 + 1))) a 5 (w32 (I' a 5 + 1)))) {e w x y : Option SmV} {z : Option SmV} : SW mi_J4_addEntry 38 d Rq [some (vR (some a)), e, w, x, y, z] [] S' I' := by
  refine rv_J4_addEntry_38 ?_
  simp +contextual (disch := omega) only [tr_J4_addEntry_38, im_ic, im_lc, im_nul, im_iload, im_lload, im_aload, im_istore, im_astore, im_lstore, im_iinc, im_iadd, im_isub, im_imul, im_iand, im_ior, im_ishl, im_ishr, im_iushr, im_idiv, im_irem, im_ineg, im_i2l, im_l2i, im_i2b, im_i2s, im_ladd, im_lcmp, im_dup, im_pop, im_dup_x1, im_dup2, im_ceq, im_cne, im_clt, im_cge, im_cgt, im_cle, im_zeq, im_zne, im_zlt, im_zge, im_zgt, im_zle, im_ifnull, im_ifnn, im_acmpeq, im_acmpne, im_getI, im_getR, im_putI, im_putZ, im_putR, im_ald, im_iast, im_bast, im_sast, im_zast, im_aald, im_alen, im_new, im_newa, im_newq, im_tsw, im_lsw, tswA, lswA, im_callS_eq, im_callV_eq, chk_i, chk_T, dOk_i, tf_0, tf_n0, tf_1, tf_01, tf_F, tf_T, tf_em, tf_me, im_min, im_max, im_abs, ↓reduceIte, Int.zero_add, Int.add_zero, Int.one_mul, Int.mul_one, Int.ediv_one, Int.sub_zero, im_ireturn, im_zreturn, im_areturn, im_return, im_objinit, popI_eq, popII_eq, popJ_eq, popJJ_eq, popR_eq, popRR_eq, popV_eq, popVV_eq, popA_eq, popIA_eq, popIIA_eq, popRA_eq, popRIA_eq, getI, getJ, getR, cat1, wsum, List.take_succ_cons, List.take_zero, List.drop_succ_cons, List.drop_zero, List.reverse_cons, List.reverse_nil, List.nil_append, List.cons_append, List.length_cons, List.length_nil, true_and, and_true, and_self, ne_eq, not_false_eq_true, not_true_eq_false, Classical.not_not, false_or, or_false, true_or, or_true, imp_self, forall_const, forall_eq, implies_true, true_implies, false_implies, Nat.reduceAdd, Nat.reduceLeDiff, Nat.reduceEqDiff, Nat.reduceSub, Int.reduceNeg, Int.reduceEq, Int.reduceLT, Int.reduceLE, Int.reduceNe, Int.reduceAdd, Int.reduceSub, Nat.le_refl, Nat.zero_le, reduceCtorEq, Option.some.injEq, lg0_, lg1_, lg2_, lg3_, lg4_, lg5_, lg6_, lg7_, lg8_, lg9_, lg10_, lg11_, lg12_, lg13_, lg14_, lg15_, ls0_, ls1_, ls2_, ls3_, ls4_, ls5_, ls6_, ls7_, ls8_, ls9_, ls10_, ls11_, ls12_, ls13_, ls14_, ls15_, nl0_, nl1_, nl2_, nl3_, nl4_, nl5_, nl6_, nl7_, nl8_, nl9_, nl10_, nl11_, nl12_, nl13_, nl14_, nl15_, nlO_n, nlO_I, nlO_R, w32_i, ta, a4, iSet_k]
  exact fin
/-- what the new node is, ahead of its tie to its parent -/
def nwnR (S S2 : SmS) (I I2 : SmI) (e q : Nat) : Prop := (∀ v, v ≠ sZ S → sT S2 v = sT S v ∧ sN S2 v = sN S v ∧ I2 v = I v ∧ ∀ j, sP S2 v j = sP S v j) ∧ (sT S2 (sZ S) = 14 ∧ I2 (sZ S) 5 = 1) ∧ (sP S2 (sZ S) 0 = some e ∧ sP S2 (sZ S) 2 = none ∧ sP S2 (sZ S) 3 = none ∧ sP S2 (sZ S) 4 = some q) ∧ (sZ S2 = sZ S + 1 ∧ sC S2 = sC S - 1 ∧ sB S2 = sB S - 6)
theorem ae_finR {S S2 S' : SmS} {I I2 I' : SmI} {a n k e : Nat} {nd : Nat → Nat} (kn' : k ≤ n) (ki : (k - 1) < n) (az : a ≠ sZ S) (nz : ∀ i, i < n → nd i ≠ sZ S) (h2 : nwnR S S2 I I2 e (nd (k - 1))) (f1 : frJ a (n + 1) (ndI k (sZ S) nd) (sPut S2 (nd (k - 1)) 3 (some (sZ S))) S') (f2 : frC (n + 1) (ndI k (sZ S) nd) I2 I') {x y : Int} : exJ a n nd S S' I (iSet (iSet I' a 4 x) a 5 y) ∧ sP S' (sZ S) 0 = some e ∧ sC S' = sC S - 1 ∧ sB S' = sB S - 6 ∧ I' a 4 = I a 4 := by
  obtain ⟨g1, ⟨g2, g3⟩, ⟨g4, g5, g6, g7⟩, g8, g9, g10⟩ := h2
  have kz : ∀ i, i < n + 1 → ndI k (sZ S) nd i = sZ S ∨ ∃ i', i' < n ∧ ndI k (sZ S) nd i = nd i' := fun i hi9 => by
    rcases sh_cases kn' hi9 with rfl | ⟨i', hi', rfl⟩
    · exact Or.inl ndI_k
    · exact Or.inr ⟨i', hi', ndI_s⟩
  refine ⟨⟨⟨by rw [f1.1.2.2.1]; exact g8, fun v hv => ⟨by rw [f1.1.1]; exact (g1 v hv).1, by rw [f1.1.2.1]; exact (g1 v hv).2.1⟩⟩, by rw [f1.1.1]; exact g2, fun v j hv => ?_, fun v j hv => ?_⟩, ?_, by rw [f1.1.2.2.2.1]; exact g9, by rw [f1.1.2.2.2.2]; exact g10, ?_⟩
  · rcases f1.2 v j with q | q | ⟨⟨i, hi9, q⟩, q2, q3⟩
    · by_cases z : v = nd (k - 1) ∧ j = 3
      · exact Or.inr (Or.inr ⟨⟨_, ki, z.1⟩, by omega, by omega⟩)
      · refine Or.inl ?_
        rw [q, sP_sPut, if_neg z]; exact (g1 v hv).2.2.2 j
    · exact Or.inr (Or.inl q)
    · rcases kz i hi9 with z | ⟨i', hi', z⟩
      · exact absurd (q.trans z) hv
      · exact Or.inr (Or.inr ⟨⟨i', hi', q.trans z⟩, q2, q3⟩)
  · by_cases z : v = a ∧ (j = 4 ∨ j = 5)
    · exact Or.inr (Or.inl z)
    · rw [iSet_ap, if_neg (fun y => z ⟨y.1, Or.inr y.2⟩), iSet_ap, if_neg (fun y => z ⟨y.1, Or.inl y.2⟩)]
      by_cases y : j = 5 ∧ ∃ i, i < n + 1 ∧ v = ndI k (sZ S) nd i
      · obtain ⟨y1, i, hi9, y2⟩ := y
        rcases kz i hi9 with x | ⟨i', hi', x⟩
        · exact absurd (y2.trans x) hv
        · exact Or.inr (Or.inr ⟨⟨i', hi', y2.trans x⟩, y1⟩)
      · refine Or.inl ?_
        rw [f2 v j (by
          by_cases x : j = 5
          · exact Or.inr (fun i hi9 u => y ⟨x, i, hi9, u⟩)
          · exact Or.inl x), (g1 v hv).2.2.1]
  · rcases f1.2 (sZ S) 0 with q | q | ⟨_, q, _⟩
    · rw [q, sPut_ne (fun z => nz _ ki z.symm)]; exact g4
    · exact absurd q.1.symm az
    · omega
  · rw [f2 a 4 (Or.inl (by omega)), (g1 a az).2.2.1]
theorem ae_TR {S S2 : SmS} {I I2 : SmI} {a n k e rt : Nat} {nd lf rg pr lo hi : Nat → Nat} (hp : TRp n lf rg pr lo hi rt) (hh : TRh S n nd lf rg pr) (ha : TRa S a n nd rt) (hb : I (nd rt) 5 = 1) (hc : cBn n nd I) (k0 : 0 < k) (kn : k ≤ n) (az : a ≠ sZ S) (nz : ∀ i, i < n → nd i ≠ sZ S) (h2 : nwnR S S2 I I2 e (nd (k - 1))) : TRh (sPut S2 (nd (k - 1)) 3 (some (sZ S))) (n + 1) (ndI k (sZ S) nd) (iR_lf n k lf) (iR_rg n k rg) (iR_pr k pr) ∧ TRa (sPut S2 (nd (k - 1)) 3 (some (sZ S))) a (n + 1) (ndI k (sZ S) nd) (sh1 k rt) ∧ cBn (n + 1) (ndI k (sZ S) nd) I2 ∧ I2 (ndI k (sZ S) nd (sh1 k rt)) 5 = 1 := by
  obtain ⟨g1, ⟨g2, g3⟩, ⟨g4, g5, g6, g7⟩, g8, g9, g10⟩ := h2
  obtain ⟨rt1, rt2, rt3, rt4⟩ := hp.2.1 (by omega)
  have ki : (k - 1) < n := by omega
  have kn' : k ≤ n := by omega
  have tn : ∀ i, i < n → sT S (nd i) = 14 := fun i hi9 => (hh.2 i hi9).1
  have an : ∀ i, i < n → nd i ≠ a := fun i hi9 z => by
    have := tn i hi9
    rw [z, ha.1] at this
    exact absurd this (by decide)
  refine ⟨?_, ?_, fun j hj => ?_, ?_⟩
  · refine TRh_iR hp hh k0 kn nz g2 ?_ ?_ ?_ (fun i hi9 => ⟨?_, ?_, ?_⟩) (fun i hi9 ik => ?_) sPut_eq
    · rw [sPut_ne (fun z => nz _ ki z.symm)]; exact g5
    · rw [sPut_ne (fun z => nz _ ki z.symm)]; exact g6
    · rw [sPut_ne (fun z => nz _ ki z.symm)]; exact g7
    · show sT S2 (nd i) = 14; rw [(g1 _ (nz _ hi9)).1]; exact tn _ hi9
    · rw [sPut_k (by omega)]; exact (g1 _ (nz _ hi9)).2.2.2 _
    · rw [sPut_k (by omega)]; exact (g1 _ (nz _ hi9)).2.2.2 _
    · rw [sPut_ne (fun z => ik (by have := hh.1 _ _ hi9 ki z; omega))]; exact (g1 _ (nz _ hi9)).2.2.2 _
  · refine ⟨by show sT S2 a = 13; rw [(g1 a az).1]; exact ha.1, ?_⟩
    rw [sPut_ne (fun z => an _ ki z.symm), (g1 a az).2.2.2 3, rfN_s kn' (by omega)]; exact ha.2
  · rcases sh_cases kn' hj with rfl | ⟨i, hi9, rfl⟩
    · rw [ndI_k]; exact Or.inr g3
    · rw [ndI_s, (g1 _ (nz i hi9)).2.2.1]; exact hc i hi9
  · rw [ndI_s, (g1 _ (nz rt rt1)).2.2.1]; exact hb
theorem ae_10R {d : Nat} {Rq : SmQ} {S S2 : SmS} {I I2 : SmI} {a n k e rt : Nat} {w : Option SmV} {nd lf rg pr lo hi : Nat → Nat} (hp : TRp n lf rg pr lo hi rt) (hh : TRh S n nd lf rg pr) (ha : TRa S a n nd rt) (hb : I (nd rt) 5 = 1) (hc : cBn n nd I) (k0 : 0 < k) (kn : k ≤ n) (hl : rg (k - 1) = n) (az : a ≠ sZ S) (nz : ∀ i, i < n → nd i ≠ sZ S) (h2 : nwnR S S2 I I2 e (nd (k - 1)))
    (hR : ∀ (S' : SmS) (I' : SmI), exJ a n nd S S' I I' → TRb S' I' a (n + 1) (ndI k (sZ S) nd) → I' a 4 = w32 (I a 4 + 1) → sP S' (sZ S) 0 = some e → sC S' = sC S - 1 → sB S' = sB S - 6 → Rq (.inl none) S' I') : SW mi_J4_addEntry 10 (d + 4) Rq [some (vR (some a)), some (vR (some e)), w, some (vR (some (nd (k - 1)))), some (vI 0), none] [vR (some (sZ S))] S2 I2 := by
  obtain ⟨T3, A3, c3, b3⟩ := ae_TR hp hh ha hb hc k0 kn az nz h2
  have ki : (k - 1) < n := by omega
  have kn' : k ≤ n := by omega
  have ti : sT S2 (nd (k - 1)) = 14 := by rw [(h2.1 _ (nz _ ki)).1]; exact (hh.2 _ ki).1
  have ta : sT S2 a = 13 := by rw [(h2.1 _ az).1]; exact ha.1
  have cf := c_J4_fixAfterInsertion (d := d + 1) (Rq := retK mi_J4_addEntry 35 38 (d + 4) Rq [some (vR (some a)), some (vR (some e)), w, some (vR (some (nd (k - 1)))), some (vI 0), some (vR (some (sZ S)))] []) (ins_R hp k0 kn hl) T3 A3 c3 (show k < n + 1 by omega) (fun z => sh_ne z.symm) b3 (fun S' I' f1 f2 t => by
    rw [retK_n]
    have ff := fun x y => ae_finR (x := x) (y := y) kn' ki az nz h2 f1 f2
    exact ae_38R (by rw [f1.1.1]; exact ta) (ff 0 0).2.2.2.2 (hR S' _ (ff _ _).1 (TRb_sz t) (by rw [iSet_k (by omega), iSet_eq]) (ff 0 0).2.1 (ff 0 0).2.2.1 (ff 0 0).2.2.2.1))
  rw [ndI_k] at cf
  refine rv_J4_addEntry_10 ?_
  simp +contextual (disch := omega) only [tr_J4_addEntry_10, im_ic, im_lc, im_nul, im_iload, im_lload, im_aload, im_istore, im_astore, im_lstore, im_iinc, im_iadd, im_isub, im_imul, im_iand, im_ior, im_ishl, im_ishr, im_iushr, im_idiv, im_irem, im_ineg, im_i2l, im_l2i, im_i2b, im_i2s, im_ladd, im_lcmp, im_dup, im_pop, im_dup_x1, im_dup2, im_ceq, im_cne, im_clt, im_cge, im_cgt, im_cle, im_zeq, im_zne, im_zlt, im_zge, im_zgt, im_zle, im_ifnull, im_ifnn, im_acmpeq, im_acmpne, im_getI, im_getR, im_putI, im_putZ, im_putR, im_ald, im_iast, im_bast, im_sast, im_zast, im_aald, im_alen, im_new, im_newa, im_newq, im_tsw, im_lsw, tswA, lswA, im_callS_eq, im_callV_eq, chk_i, chk_T, dOk_i, tf_0, tf_n0, tf_1, tf_01, tf_F, tf_T, tf_em, tf_me, im_min, im_max, im_abs, ↓reduceIte, Int.zero_add, Int.add_zero, Int.one_mul, Int.mul_one, Int.ediv_one, Int.sub_zero, im_ireturn, im_zreturn, im_areturn, im_return, im_objinit, popI_eq, popII_eq, popJ_eq, popJJ_eq, popR_eq, popRR_eq, popV_eq, popVV_eq, popA_eq, popIA_eq, popIIA_eq, popRA_eq, popRIA_eq, getI, getJ, getR, cat1, wsum, List.take_succ_cons, List.take_zero, List.drop_succ_cons, List.drop_zero, List.reverse_cons, List.reverse_nil, List.nil_append, List.cons_append, List.length_cons, List.length_nil, true_and, and_true, and_self, ne_eq, not_false_eq_true, not_true_eq_false, Classical.not_not, false_or, or_false, true_or, or_true, imp_self, forall_const, forall_eq, implies_true, true_implies, false_implies, Nat.reduceAdd, Nat.reduceLeDiff, Nat.reduceEqDiff, Nat.reduceSub, Int.reduceNeg, Int.reduceEq, Int.reduceLT, Int.reduceLE, Int.reduceNe, Int.reduceAdd, Int.reduceSub, Nat.le_refl, Nat.zero_le, reduceCtorEq, Option.some.injEq, lg0_, lg1_, lg2_, lg3_, lg4_, lg5_, lg6_, lg7_, lg8_, lg9_, lg10_, lg11_, lg12_, lg13_, lg14_, lg15_, ls0_, ls1_, ls2_, ls3_, ls4_, ls5_, ls6_, ls7_, ls8_, ls9_, ls10_, ls11_, ls12_, ls13_, ls14_, ls15_, nl0_, nl1_, nl2_, nl3_, nl4_, nl5_, nl6_, nl7_, nl8_, nl9_, nl10_, nl11_, nl12_, nl13_, nl14_, nl15_, nlO_n, nlO_I, nlO_R, w32_i, ti, ta, sT_sPut]
  exact cf
theorem nwn_mkR {S : SmS} {I : SmI} {e w q : Nat} : nwnR S (sPut (sPut (sPut (sNew S 14 0 6) (sZ S) 0 (some e)) (sZ S) 1 (some w)) (sZ S) 4 (some q)) I (iSet (iNew I (sZ S)) (sZ S) 5 1) e q := by
  refine ⟨fun v hv => ⟨if_neg hv, if_neg hv, ?_, fun j => ?_⟩, ⟨if_pos rfl, iSet_eq⟩, ⟨?_, ?_, ?_, sPut_eq⟩, rfl, rfl, rfl⟩
  · funext j; rw [iSet_ne hv]; exact if_neg hv
  · rw [sPut_ne hv, sPut_ne hv, sPut_ne hv]; exact if_neg hv
  · rw [sPut_k (by omega), sPut_k (by omega), sPut_eq]
  · rw [sPut_k (by omega), sPut_k (by omega), sPut_k (by omega)]; exact if_pos rfl
  · rw [sPut_k (by omega), sPut_k (by omega), sPut_k (by omega)]; exact if_pos rfl
theorem b_J4_addEntryR {d : Nat} {Rq : SmQ} {S : SmS} {I : SmI} {a n k e w rt : Nat} {nd lf rg pr lo hi : Nat → Nat} (hC : 1 ≤ sC S) (hB : 6 ≤ sB S) (hp : TRp n lf rg pr lo hi rt) (hh : TRh S n nd lf rg pr) (ha : TRa S a n nd rt) (hb : I (nd rt) 5 = 1) (hc : cBn n nd I) (k0 : 0 < k) (kn : k ≤ n) (hl : rg (k - 1) = n)
    (hR : ∀ (S' : SmS) (I' : SmI), exJ a n nd S S' I I' → TRb S' I' a (n + 1) (ndI k (sZ S) nd) → I' a 4 = w32 (I a 4 + 1) → sP S' (sZ S) 0 = some e → sC S' = sC S - 1 → sB S' = sB S - 6 → Rq (.inl none) S' I') : SW mi_J4_addEntry 0 (d + 4) Rq [some (vR (some a)), some (vR (some e)), some (vR (some w)), some (vR (some (nd (k - 1)))), some (vI 0), none] [] S I := by
  refine SW_lt fun lt => ?_
  have nz : ∀ i, i < n → nd i ≠ sZ S := fun i hi9 z => by
    have t := (hh.2 i hi9).1
    have := lt (nd i) (by rw [t]; decide) (by rw [t]; decide)
    omega
  have az : a ≠ sZ S := fun z => by
    have := lt a (by rw [ha.1]; decide) (by rw [ha.1]; decide)
    omega
  have h10 := ae_10R (d := d) (Rq := Rq) (w := some (vR (some w))) hp hh ha hb hc k0 kn hl az nz (nwn_mkR (w := w)) hR
  have call : SC mi_J21_init (d + 3) [vR (some (sZ S)), vR (some e), vR (some w), vR (some (nd (k - 1)))] (sNew S 14 0 6) (iNew I (sZ S)) (retK mi_J4_addEntry 7 10 (d + 4) Rq [some (vR (some a)), some (vR (some e)), some (vR (some w)), some (vR (some (nd (k - 1)))), some (vI 0), none] [vR (some (sZ S))]) := c_J21_init (show sT (sNew S 14 0 6) (sZ S) = 14 from if_pos rfl) h10
  refine rv_J4_addEntry_0 ?_
  simp +contextual (disch := omega) only [tr_J4_addEntry_0, im_ic, im_lc, im_nul, im_iload, im_lload, im_aload, im_istore, im_astore, im_lstore, im_iinc, im_iadd, im_isub, im_imul, im_iand, im_ior, im_ishl, im_ishr, im_iushr, im_idiv, im_irem, im_ineg, im_i2l, im_l2i, im_i2b, im_i2s, im_ladd, im_lcmp, im_dup, im_pop, im_dup_x1, im_dup2, im_ceq, im_cne, im_clt, im_cge, im_cgt, im_cle, im_zeq, im_zne, im_zlt, im_zge, im_zgt, im_zle, im_ifnull, im_ifnn, im_acmpeq, im_acmpne, im_getI, im_getR, im_putI, im_putZ, im_putR, im_ald, im_iast, im_bast, im_sast, im_zast, im_aald, im_alen, im_new, im_newa, im_newq, im_tsw, im_lsw, tswA, lswA, im_callS_eq, im_callV_eq, chk_i, chk_T, dOk_i, tf_0, tf_n0, tf_1, tf_01, tf_F, tf_T, tf_em, tf_me, im_min, im_max, im_abs, ↓reduceIte, Int.zero_add, Int.add_zero, Int.one_mul, Int.mul_one, Int.ediv_one, Int.sub_zero, im_ireturn, im_zreturn, im_areturn, im_return, im_objinit, popI_eq, popII_eq, popJ_eq, popJJ_eq, popR_eq, popRR_eq, popV_eq, popVV_eq, popA_eq, popIA_eq, popIIA_eq, popRA_eq, popRIA_eq, getI, getJ, getR, cat1, wsum, List.take_succ_cons, List.take_zero, List.drop_succ_cons, List.drop_zero, List.reverse_cons, List.reverse_nil, List.nil_append, List.cons_append, List.length_cons, List.length_nil, true_and, and_true, and_self, ne_eq, not_false_eq_true, not_true_eq_false, Classical.not_not, false_or, or_false, true_or, or_true, imp_self, forall_const, forall_eq, implies_true, true_implies, false_implies, Nat.reduceAdd, Nat.reduceLeDiff, Nat.reduceEqDiff, Nat.reduceSub, Int.reduceNeg, Int.reduceEq, Int.reduceLT, Int.reduceLE, Int.reduceNe, Int.reduceAdd, Int.reduceSub, Nat.le_refl, Nat.zero_le, reduceCtorEq, Option.some.injEq, lg0_, lg1_, lg2_, lg3_, lg4_, lg5_, lg6_, lg7_, lg8_, lg9_, lg10_, lg11_, lg12_, lg13_, lg14_, lg15_, ls0_, ls1_, ls2_, ls3_, ls4_, ls5_, ls6_, ls7_, ls8_, ls9_, ls10_, ls11_, ls12_, ls13_, ls14_, ls15_, nl0_, nl1_, nl2_, nl3_, nl4_, nl5_, nl6_, nl7_, nl8_, nl9_, nl10_, nl11_, nl12_, nl13_, nl14_, nl15_, nlO_n, nlO_I, nlO_R, w32_i, sT_sNew]
  exact call
theorem c_J4_addEntryR {d : Nat} {Rq : SmQ} {S : SmS} {I : SmI} {a n k e w rt : Nat} {nd lf rg pr lo hi : Nat → Nat} (hC : 1 ≤ sC S) (hB : 6 ≤ sB S) (hp : TRp n lf rg pr lo hi rt) (hh : TRh S n nd lf rg pr) (ha : TRa S a n nd rt) (hb : I (nd rt) 5 = 1) (hc : cBn n nd I) (k0 : 0 < k) (kn : k ≤ n) (hl : rg (k - 1) = n)
    (hR : ∀ (S' : SmS) (I' : SmI), exJ a n nd S S' I I' → TRb S' I' a (n + 1) (ndI k (sZ S) nd) → I' a 4 = w32 (I a 4 + 1) → sP S' (sZ S) 0 = some e → sC S' = sC S - 1 → sB S' = sB S - 6 → Rq (.inl none) S' I') : SC mi_J4_addEntry (d + 4) [vR (some a), vR (some e), vR (some w), vR (some (nd (k - 1))), vI 0] S I Rq :=
  SC_of (Nat.le_of_ble_eq_true rfl) 1 6 hC hB (b_J4_addEntryR (S := sBud S 1 6) (Nat.le_refl _) (Nat.le_refl _) hp hh ha hb hc k0 kn hl (fun S' I' f t x y _ _ => hR (sBud S' (sC S - 1) (sB S - 6)) I' f t x y rfl rfl))
theorem ae_38L {d : Nat} {Rq : SmQ} {S' : SmS} {I I' : SmI} {a : Nat} (ta : sT S' a = 13) (a4 : I' a 4 = I a 4) (fin : Rq (.inl none) S' (iSet (iSet I' a 4 (w32 (I a 4 + 1))) a 5 (w32 (I' a 5 + 1)))) {e w x y : Option SmV} {z : Option SmV} : SW mi_J4_addEntry 38 d Rq [some (vR (some a)), e, w, x, y, z] [] S' I' := by
  refine rv_J4_addEntry_38 ?_
  simp +contextual (disch := omega) only [tr_J4_addEntry_38, im_ic, im_lc, im_nul, im_iload, im_lload, im_aload, im_istore, im_astore, im_lstore, im_iinc, im_iadd, im_isub, im_imul, im_iand, im_ior, im_ishl, im_ishr, im_iushr, im_idiv, im_irem, im_ineg, im_i2l, im_l2i, im_i2b, im_i2s, im_ladd, im_lcmp, im_dup, im_pop, im_dup_x1, im_dup2, im_ceq, im_cne, im_clt, im_cge, im_cgt, im_cle, im_zeq, im_zne, im_zlt, im_zge, im_zgt, im_zle, im_ifnull, im_ifnn, im_acmpeq, im_acmpne, im_getI, im_getR, im_putI, im_putZ, im_putR, im_ald, im_iast, im_bast, im_sast, im_zast, im_aald, im_alen, im_new, im_newa, im_newq, im_tsw, im_lsw, tswA, lswA, im_callS_eq, im_callV_eq, chk_i, chk_T, dOk_i, tf_0, tf_n0, tf_1, tf_01, tf_F, tf_T, tf_em, tf_me, im_min, im_max, im_abs, ↓reduceIte, Int.zero_add, Int.add_zero, Int.one_mul, Int.mul_one, Int.ediv_one, Int.sub_zero, im_ireturn, im_zreturn, im_areturn, im_return, im_objinit, popI_eq, popII_eq, popJ_eq, popJJ_eq, popR_eq, popRR_eq, popV_eq, popVV_eq, popA_eq, popIA_eq, popIIA_eq, popRA_eq, popRIA_eq, getI, getJ, getR, cat1, wsum, List.take_succ_cons, List.take_zero, List.drop_succ_cons, List.drop_zero, List.reverse_cons, List.reverse_nil, List.nil_append, List.cons_append, List.length_cons, List.length_nil, true_and, and_true, and_self, ne_eq, not_false_eq_true, not_true_eq_false, Classical.not_not, false_or, or_false, true_or, or_true, imp_self, forall_const, forall_eq, implies_true, true_implies, false_implies, Nat.reduceAdd, Nat.reduceLeDiff, Nat.reduceEqDiff, Nat.reduceSub, Int.reduceNeg, Int.reduceEq, Int.reduceLT, Int.reduceLE, Int.reduceNe, Int.reduceAdd, Int.reduceSub, Nat.le_refl, Nat.zero_le, reduceCtorEq, Option.some.injEq, lg0_, lg1_, lg2_, lg3_, lg4_, lg5_, lg6_, lg7_, lg8_, lg9_, lg10_, lg11_, lg12_, lg13_, lg14_, lg15_, ls0_, ls1_, ls2_, ls3_, ls4_, ls5_, ls6_, ls7_, ls8_, ls9_, ls10_, ls11_, ls12_, ls13_, ls14_, ls15_, nl0_, nl1_, nl2_, nl3_, nl4_, nl5_, nl6_, nl7_, nl8_, nl9_, nl10_, nl11_, nl12_, nl13_, nl14_, nl15_, nlO_n, nlO_I, nlO_R, w32_i, ta, a4, iSet_k]
  exact fin
/-- what the new node is, ahead of its tie to its parent -/
def nwnL (S S2 : SmS) (I I2 : SmI) (e q : Nat) : Prop := (∀ v, v ≠ sZ S → sT S2 v = sT S v ∧ sN S2 v = sN S v ∧ I2 v = I v ∧ ∀ j, sP S2 v j = sP S v j) ∧ (sT S2 (sZ S) = 14 ∧ I2 (sZ S) 5 = 1) ∧ (sP S2 (sZ S) 0 = some e ∧ sP S2 (sZ S) 2 = none ∧ sP S2 (sZ S) 3 = none ∧ sP S2 (sZ S) 4 = some q) ∧ (sZ S2 = sZ S + 1 ∧ sC S2 = sC S - 1 ∧ sB S2 = sB S - 6)
theorem ae_finL {S S2 S' : SmS} {I I2 I' : SmI} {a n k e : Nat} {nd : Nat → Nat} (kn' : k ≤ n) (ki : k < n) (az : a ≠ sZ S) (nz : ∀ i, i < n → nd i ≠ sZ S) (h2 : nwnL S S2 I I2 e (nd k)) (f1 : frJ a (n + 1) (ndI k (sZ S) nd) (sPut S2 (nd k) 2 (some (sZ S))) S') (f2 : frC (n + 1) (ndI k (sZ S) nd) I2 I') {x y : Int} : exJ a n nd S S' I (iSet (iSet I' a 4 x) a 5 y) ∧ sP S' (sZ S) 0 = some e ∧ sC S' = sC S - 1 ∧ sB S' = sB S - 6 ∧ I' a 4 = I a 4 := by
  obtain ⟨g1, ⟨g2, g3⟩, ⟨g4, g5, g6, g7⟩, g8, g9, g10⟩ := h2
  have kz : ∀ i, i < n + 1 → ndI k (sZ S) nd i = sZ S ∨ ∃ i', i' < n ∧ ndI k (sZ S) nd i = nd i' := fun i hi9 => by
    rcases sh_cases kn' hi9 with rfl | ⟨i', hi', rfl⟩
    · exact Or.inl ndI_k
    · exact Or.inr ⟨i', hi', ndI_s⟩
  refine ⟨⟨⟨by rw [f1.1.2.2.1]; exact g8, fun v hv => ⟨by rw [f1.1.1]; exact (g1 v hv).1, by rw [f1.1.2.1]; exact (g1 v hv).2.1⟩⟩, by rw [f1.1.1]; exact g2, fun v j hv => ?_, fun v j hv => ?_⟩, ?_, by rw [f1.1.2.2.2.1]; exact g9, by rw [f1.1.2.2.2.2]; exact g10, ?_⟩
  · rcases f1.2 v j with q | q | ⟨⟨i, hi9, q⟩, q2, q3⟩
    · by_cases z : v = nd k ∧ j = 2
      · exact Or.inr (Or.inr ⟨⟨_, ki, z.1⟩, by omega, by omega⟩)
      · refine Or.inl ?_
        rw [q, sP_sPut, if_neg z]; exact (g1 v hv).2.2.2 j
    · exact Or.inr (Or.inl q)
    · rcases kz i hi9 with z | ⟨i', hi', z⟩
      · exact absurd (q.trans z) hv
      · exact Or.inr (Or.inr ⟨⟨i', hi', q.trans z⟩, q2, q3⟩)
  · by_cases z : v = a ∧ (j = 4 ∨ j = 5)
    · exact Or.inr (Or.inl z)
    · rw [iSet_ap, if_neg (fun y => z ⟨y.1, Or.inr y.2⟩), iSet_ap, if_neg (fun y => z ⟨y.1, Or.inl y.2⟩)]
      by_cases y : j = 5 ∧ ∃ i, i < n + 1 ∧ v = ndI k (sZ S) nd i
      · obtain ⟨y1, i, hi9, y2⟩ := y
        rcases kz i hi9 with x | ⟨i', hi', x⟩
        · exact absurd (y2.trans x) hv
        · exact Or.inr (Or.inr ⟨⟨i', hi', y2.trans x⟩, y1⟩)
      · refine Or.inl ?_
        rw [f2 v j (by
          by_cases x : j = 5
          · exact Or.inr (fun i hi9 u => y ⟨x, i, hi9, u⟩)
          · exact Or.inl x), (g1 v hv).2.2.1]
  · rcases f1.2 (sZ S) 0 with q | q | ⟨_, q, _⟩
    · rw [q, sPut_ne (fun z => nz _ ki z.symm)]; exact g4
    · exact absurd q.1.symm az
    · omega
  · rw [f2 a 4 (Or.inl (by omega)), (g1 a az).2.2.1]
theorem ae_TL {S S2 : SmS} {I I2 : SmI} {a n k e rt : Nat} {nd lf rg pr lo hi : Nat → Nat} (hp : TRp n lf rg pr lo hi rt) (hh : TRh S n nd lf rg pr) (ha : TRa S a n nd rt) (hb : I (nd rt) 5 = 1) (hc : cBn n nd I) (kn : k < n) (az : a ≠ sZ S) (nz : ∀ i, i < n → nd i ≠ sZ S) (h2 : nwnL S S2 I I2 e (nd k)) : TRh (sPut S2 (nd k) 2 (some (sZ S))) (n + 1) (ndI k (sZ S) nd) (iL_lf n k lf) (iL_rg n k rg) (iL_pr k pr) ∧ TRa (sPut S2 (nd k) 2 (some (sZ S))) a (n + 1) (ndI k (sZ S) nd) (sh1 k rt) ∧ cBn (n + 1) (ndI k (sZ S) nd) I2 ∧ I2 (ndI k (sZ S) nd (sh1 k rt)) 5 = 1 := by
  obtain ⟨g1, ⟨g2, g3⟩, ⟨g4, g5, g6, g7⟩, g8, g9, g10⟩ := h2
  obtain ⟨rt1, rt2, rt3, rt4⟩ := hp.2.1 (by omega)
  have ki : k < n := by omega
  have kn' : k ≤ n := by omega
  have tn : ∀ i, i < n → sT S (nd i) = 14 := fun i hi9 => (hh.2 i hi9).1
  have an : ∀ i, i < n → nd i ≠ a := fun i hi9 z => by
    have := tn i hi9
    rw [z, ha.1] at this
    exact absurd this (by decide)
  refine ⟨?_, ?_, fun j hj => ?_, ?_⟩
  · refine TRh_iL hp hh kn nz g2 ?_ ?_ ?_ (fun i hi9 => ⟨?_, ?_, ?_⟩) (fun i hi9 ik => ?_) sPut_eq
    · rw [sPut_ne (fun z => nz _ ki z.symm)]; exact g5
    · rw [sPut_ne (fun z => nz _ ki z.symm)]; exact g6
    · rw [sPut_ne (fun z => nz _ ki z.symm)]; exact g7
    · show sT S2 (nd i) = 14; rw [(g1 _ (nz _ hi9)).1]; exact tn _ hi9
    · rw [sPut_k (by omega)]; exact (g1 _ (nz _ hi9)).2.2.2 _
    · rw [sPut_k (by omega)]; exact (g1 _ (nz _ hi9)).2.2.2 _
    · rw [sPut_ne (fun z => ik (hh.1 _ _ hi9 ki z))]; exact (g1 _ (nz _ hi9)).2.2.2 _
  · refine ⟨by show sT S2 a = 13; rw [(g1 a az).1]; exact ha.1, ?_⟩
    rw [sPut_ne (fun z => an _ ki z.symm), (g1 a az).2.2.2 3, rfN_s kn' (by omega)]; exact ha.2
  · rcases sh_cases kn' hj with rfl | ⟨i, hi9, rfl⟩
    · rw [ndI_k]; exact Or.inr g3
    · rw [ndI_s, (g1 _ (nz i hi9)).2.2.1]; exact hc i hi9
  · rw [ndI_s, (g1 _ (nz rt rt1)).2.2.1]; exact hb
theorem ae_10L {d : Nat} {Rq : SmQ} {S S2 : SmS} {I I2 : SmI} {a n k e rt : Nat} {w : Option SmV} {nd lf rg pr lo hi : Nat → Nat} (hp : TRp n lf rg pr lo hi rt) (hh : TRh S n nd lf rg pr) (ha : TRa S a n nd rt) (hb : I (nd rt) 5 = 1) (hc : cBn n nd I) (kn : k < n) (hl : lf k = n) (az : a ≠ sZ S) (nz : ∀ i, i < n → nd i ≠ sZ S) (h2 : nwnL S S2 I I2 e (nd k))
    (hR : ∀ (S' : SmS) (I' : SmI), exJ a n nd S S' I I' → TRb S' I' a (n + 1) (ndI k (sZ S) nd) → I' a 4 = w32 (I a 4 + 1) → sP S' (sZ S) 0 = some e → sC S' = sC S - 1 → sB S' = sB S - 6 → Rq (.inl none) S' I') : SW mi_J4_addEntry 10 (d + 4) Rq [some (vR (some a)), some (vR (some e)), w, some (vR (some (nd k))), some (vI 1), none] [vR (some (sZ S))] S2 I2 := by
  obtain ⟨T3, A3, c3, b3⟩ := ae_TL hp hh ha hb hc kn az nz h2
  have ki : k < n := by omega
  have kn' : k ≤ n := by omega
  have ti : sT S2 (nd k) = 14 := by rw [(h2.1 _ (nz _ ki)).1]; exact (hh.2 _ ki).1
  have ta : sT S2 a = 13 := by rw [(h2.1 _ az).1]; exact ha.1
  have cf := c_J4_fixAfterInsertion (d := d + 1) (Rq := retK mi_J4_addEntry 35 38 (d + 4) Rq [some (vR (some a)), some (vR (some e)), w, some (vR (some (nd k))), some (vI 1), some (vR (some (sZ S)))] []) (ins_L hp kn hl) T3 A3 c3 (show k < n + 1 by omega) (fun z => sh_ne z.symm) b3 (fun S' I' f1 f2 t => by
    rw [retK_n]
    have ff := fun x y => ae_finL (x := x) (y := y) kn' ki az nz h2 f1 f2
    exact ae_38L (by rw [f1.1.1]; exact ta) (ff 0 0).2.2.2.2 (hR S' _ (ff _ _).1 (TRb_sz t) (by rw [iSet_k (by omega), iSet_eq]) (ff 0 0).2.1 (ff 0 0).2.2.1 (ff 0 0).2.2.2.1))
  rw [ndI_k] at cf
  refine rv_J4_addEntry_10 ?_
  simp +contextual (disch := omega) only [tr_J4_addEntry_10, im_ic, im_lc, im_nul, im_iload, im_lload, im_aload, im_istore, im_astore, im_lstore, im_iinc, im_iadd, im_isub, im_imul, im_iand, im_ior, im_ishl, im_ishr, im_iushr, im_idiv, im_irem, im_ineg, im_i2l, im_l2i, im_i2b, im_i2s, im_ladd, im_lcmp, im_dup, im_pop, im_dup_x1, im_dup2, im_ceq, im_cne, im_clt, im_cge, im_cgt, im_cle, im_zeq, im_zne, im_zlt, im_zge, im_zgt, im_zle, im_ifnull, im_ifnn, im_acmpeq, im_acmpne, im_getI, im_getR, im_putI, im_putZ, im_putR, im_ald, im_iast, im_bast, im_sast, im_zast, im_aald, im_alen, im_new, im_newa, im_newq, im_tsw, im_lsw, tswA, lswA, im_callS_eq, im_callV_eq, chk_i, chk_T, dOk_i, tf_0, tf_n0, tf_1, tf_01, tf_F, tf_T, tf_em, tf_me, im_min, im_max, im_abs, ↓reduceIte, Int.zero_add, Int.add_zero, Int.one_mul, Int.mul_one, Int.ediv_one, Int.sub_zero, im_ireturn, im_zreturn, im_areturn, im_return, im_objinit, popI_eq, popII_eq, popJ_eq, popJJ_eq, popR_eq, popRR_eq, popV_eq, popVV_eq, popA_eq, popIA_eq, popIIA_eq, popRA_eq, popRIA_eq, getI, getJ, getR, cat1, wsum, List.take_succ_cons, List.take_zero, List.drop_succ_cons, List.drop_zero, List.reverse_cons, List.reverse_nil, List.nil_append, List.cons_append, List.length_cons, List.length_nil, true_and, and_true, and_self, ne_eq, not_false_eq_true, not_true_eq_false, Classical.not_not, false_or, or_false, true_or, or_true, imp_self, forall_const, forall_eq, implies_true, true_implies, false_implies, Nat.reduceAdd, Nat.reduceLeDiff, Nat.reduceEqDiff, Nat.reduceSub, Int.reduceNeg, Int.reduceEq, Int.reduceLT, Int.reduceLE, Int.reduceNe, Int.reduceAdd, Int.reduceSub, Nat.le_refl, Nat.zero_le, reduceCtorEq, Option.some.injEq, lg0_, lg1_, lg2_, lg3_, lg4_, lg5_, lg6_, lg7_, lg8_, lg9_, lg10_, lg11_, lg12_, lg13_, lg14_, lg15_, ls0_, ls1_, ls2_, ls3_, ls4_, ls5_, ls6_, ls7_, ls8_, ls9_, ls10_, ls11_, ls12_, ls13_, ls14_, ls15_, nl0_, nl1_, nl2_, nl3_, nl4_, nl5_, nl6_, nl7_, nl8_, nl9_, nl10_, nl11_, nl12_, nl13_, nl14_, nl15_, nlO_n, nlO_I, nlO_R, w32_i, ti, ta, sT_sPut]
  exact cf
theorem nwn_mkL {S : SmS} {I : SmI} {e w q : Nat} : nwnL S (sPut (sPut (sPut (sNew S 14 0 6) (sZ S) 0 (some e)) (sZ S) 1 (some w)) (sZ S) 4 (some q)) I (iSet (iNew I (sZ S)) (sZ S) 5 1) e q := by
  refine ⟨fun v hv => ⟨if_neg hv, if_neg hv, ?_, fun j => ?_⟩, ⟨if_pos rfl, iSet_eq⟩, ⟨?_, ?_, ?_, sPut_eq⟩, rfl, rfl, rfl⟩
  · funext j; rw [iSet_ne hv]; exact if_neg hv
  · rw [sPut_ne hv, sPut_ne hv, sPut_ne hv]; exact if_neg hv
  · rw [sPut_k (by omega), sPut_k (by omega), sPut_eq]
  · rw [sPut_k (by omega), sPut_k (by omega), sPut_k (by omega)]; exact if_pos rfl
  · rw [sPut_k (by omega), sPut_k (by omega), sPut_k (by omega)]; exact if_pos rfl
theorem b_J4_addEntryL {d : Nat} {Rq : SmQ} {S : SmS} {I : SmI} {a n k e w rt : Nat} {nd lf rg pr lo hi : Nat → Nat} (hC : 1 ≤ sC S) (hB : 6 ≤ sB S) (hp : TRp n lf rg pr lo hi rt) (hh : TRh S n nd lf rg pr) (ha : TRa S a n nd rt) (hb : I (nd rt) 5 = 1) (hc : cBn n nd I) (kn : k < n) (hl : lf k = n)
    (hR : ∀ (S' : SmS) (I' : SmI), exJ a n nd S S' I I' → TRb S' I' a (n + 1) (ndI k (sZ S) nd) → I' a 4 = w32 (I a 4 + 1) → sP S' (sZ S) 0 = some e → sC S' = sC S - 1 → sB S' = sB S - 6 → Rq (.inl none) S' I') : SW mi_J4_addEntry 0 (d + 4) Rq [some (vR (some a)), some (vR (some e)), some (vR (some w)), some (vR (some (nd k))), some (vI 1), none] [] S I := by
  refine SW_lt fun lt => ?_
  have nz : ∀ i, i < n → nd i ≠ sZ S := fun i hi9 z => by
    have t := (hh.2 i hi9).1
    have := lt (nd i) (by rw [t]; decide) (by rw [t]; decide)
    omega
  have az : a ≠ sZ S := fun z => by
    have := lt a (by rw [ha.1]; decide) (by rw [ha.1]; decide)
    omega
  have h10 := ae_10L (d := d) (Rq := Rq) (w := some (vR (some w))) hp hh ha hb hc kn hl az nz (nwn_mkL (w := w)) hR
  have call : SC mi_J21_init (d + 3) [vR (some (sZ S)), vR (some e), vR (some w), vR (some (nd k))] (sNew S 14 0 6) (iNew I (sZ S)) (retK mi_J4_addEntry 7 10 (d + 4) Rq [some (vR (some a)), some (vR (some e)), some (vR (some w)), some (vR (some (nd k))), some (vI 1), none] [vR (some (sZ S))]) := c_J21_init (show sT (sNew S 14 0 6) (sZ S) = 14 from if_pos rfl) h10
  refine rv_J4_addEntry_0 ?_
  simp +contextual (disch := omega) only [tr_J4_addEntry_0, im_ic, im_lc, im_nul, im_iload, im_lload, im_aload, im_istore, im_astore, im_lstore, im_iinc, im_iadd, im_isub, im_imul, im_iand, im_ior, im_ishl, im_ishr, im_iushr, im_idiv, im_irem, im_ineg, im_i2l, im_l2i, im_i2b, im_i2s, im_ladd, im_lcmp, im_dup, im_pop, im_dup_x1, im_dup2, im_ceq, im_cne, im_clt, im_cge, im_cgt, im_cle, im_zeq, im_zne, im_zlt, im_zge, im_zgt, im_zle, im_ifnull, im_ifnn, im_acmpeq, im_acmpne, im_getI, im_getR, im_putI, im_putZ, im_putR, im_ald, im_iast, im_bast, im_sast, im_zast, im_aald, im_alen, im_new, im_newa, im_newq, im_tsw, im_lsw, tswA, lswA, im_callS_eq, im_callV_eq, chk_i, chk_T, dOk_i, tf_0, tf_n0, tf_1, tf_01, tf_F, tf_T, tf_em, tf_me, im_min, im_max, im_abs, ↓reduceIte, Int.zero_add, Int.add_zero, Int.one_mul, Int.mul_one, Int.ediv_one, Int.sub_zero, im_ireturn, im_zreturn, im_areturn, im_return, im_objinit, popI_eq, popII_eq, popJ_eq, popJJ_eq, popR_eq, popRR_eq, popV_eq, popVV_eq, popA_eq, popIA_eq, popIIA_eq, popRA_eq, popRIA_eq, getI, getJ, getR, cat1, wsum, List.take_succ_cons, List.take_zero, List.drop_succ_cons, List.drop_zero, List.reverse_cons, List.reverse_nil, List.nil_append, List.cons_append, List.length_cons, List.length_nil, true_and, and_true, and_self, ne_eq, not_false_eq_true, not_true_eq_false, Classical.not_not, false_or, or_false, true_or, or_true, imp_self, forall_const, forall_eq, implies_true, true_implies, false_implies, Nat.reduceAdd, Nat.reduceLeDiff, Nat.reduceEqDiff, Nat.reduceSub, Int.reduceNeg, Int.reduceEq, Int.reduceLT, Int.reduceLE, Int.reduceNe, Int.reduceAdd, Int.reduceSub, Nat.le_refl, Nat.zero_le, reduceCtorEq, Option.some.injEq, lg0_, lg1_, lg2_, lg3_, lg4_, lg5_, lg6_, lg7_, lg8_, lg9_, lg10_, lg11_, lg12_, lg13_, lg14_, lg15_, ls0_, ls1_, ls2_, ls3_, ls4_, ls5_, ls6_, ls7_, ls8_, ls9_, ls10_, ls11_, ls12_, ls13_, ls14_, ls15_, nl0_, nl1_, nl2_, nl3_, nl4_, nl5_, nl6_, nl7_, nl8_, nl9_, nl10_, nl11_, nl12_, nl13_, nl14_, nl15_, nlO_n, nlO_I, nlO_R, w32_i, sT_sNew]
  exact call
theorem c_J4_addEntryL {d : Nat} {Rq : SmQ} {S : SmS} {I : SmI} {a n k e w rt : Nat} {nd lf rg pr lo hi : Nat → Nat} (hC : 1 ≤ sC S) (hB : 6 ≤ sB S) (hp : TRp n lf rg pr lo hi rt) (hh : TRh S n nd lf rg pr) (ha : TRa S a n nd rt) (hb : I (nd rt) 5 = 1) (hc : cBn n nd I) (kn : k < n) (hl : lf k = n)
    (hR : ∀ (S' : SmS) (I' : SmI), exJ a n nd S S' I I' → TRb S' I' a (n + 1) (ndI k (sZ S) nd) → I' a 4 = w32 (I a 4 + 1) → sP S' (sZ S) 0 = some e → sC S' = sC S - 1 → sB S' = sB S - 6 → Rq (.inl none) S' I') : SC mi_J4_addEntry (d + 4) [vR (some a), vR (some e), vR (some w), vR (some (nd k)), vI 1] S I Rq :=
  SC_of (Nat.le_of_ble_eq_true rfl) 1 6 hC hB (b_J4_addEntryL (S := sBud S 1 6) (Nat.le_refl _) (Nat.le_refl _) hp hh ha hb hc kn hl (fun S' I' f t x y _ _ => hR (sBud S' (sC S - 1) (sB S - 6)) I' f t x y rfl rfl))
