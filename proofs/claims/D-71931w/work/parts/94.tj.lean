/-! trees in the heap; the two turns (printed by gen/mkrot.py) -/
set_option maxRecDepth 100000
def rfN (n : Nat) (nd : Nat → Nat) (j : Nat) : Option Nat := if j < n then some (nd j) else none
def upN (f : Nat → Nat) (p j : Nat) : Nat → Nat := fun i => if i = p then j else f i
theorem rfN_lt {n : Nat} {nd : Nat → Nat} {j : Nat} (h : j < n) : rfN n nd j = some (nd j) := if_pos h
theorem rfN_ge {n : Nat} {nd : Nat → Nat} {j : Nat} (h : ¬ j < n) : rfN n nd j = none := if_neg h
def TRh (S : SmS) (n : Nat) (nd lf rg pr : Nat → Nat) : Prop := (∀ i j, i < n → j < n → nd i = nd j → i = j) ∧ ∀ i, i < n → sT S (nd i) = 14 ∧ sP S (nd i) 2 = rfN n nd (lf i) ∧ sP S (nd i) 3 = rfN n nd (rg i) ∧ sP S (nd i) 4 = rfN n nd (pr i)
def TRa (S : SmS) (a n : Nat) (nd : Nat → Nat) (rt : Nat) : Prop := sT S a = 13 ∧ sP S a 3 = rfN n nd rt
theorem sPut_eq {S : SmS} {a : Nat} {k : Int} {x : Option Nat} : sP (sPut S a k x) a k = x := if_pos ⟨rfl, rfl⟩
theorem sPut_k {S : SmS} {a b : Nat} {k j : Int} {x : Option Nat} (h : j ≠ k) : sP (sPut S a k x) b j = sP S b j := if_neg (fun z => h z.2)
/-- only the ties of a tree have changed -/
def frJ (a n : Nat) (nd : Nat → Nat) (S S' : SmS) : Prop := (sT S' = sT S ∧ sN S' = sN S ∧ sZ S' = sZ S ∧ sC S' = sC S ∧ sB S' = sB S) ∧ ∀ v j, sP S' v j = sP S v j ∨ (v = a ∧ j = 3) ∨ ((∃ i, i < n ∧ v = nd i) ∧ 2 ≤ j ∧ j ≤ 4)
theorem frJ_refl {a n : Nat} {nd : Nat → Nat} {S : SmS} : frJ a n nd S S := ⟨⟨rfl, rfl, rfl, rfl, rfl⟩, fun _ _ => Or.inl rfl⟩
theorem frJ_trans {a n : Nat} {nd : Nat → Nat} {S S1 S2 : SmS} (h : frJ a n nd S S1) (h2 : frJ a n nd S1 S2) : frJ a n nd S S2 := by
  obtain ⟨⟨a1, a2, a3, a4, a5⟩, a6⟩ := h
  obtain ⟨⟨b1, b2, b3, b4, b5⟩, b6⟩ := h2
  refine ⟨⟨b1.trans a1, b2.trans a2, b3.trans a3, b4.trans a4, b5.trans a5⟩, fun v j => ?_⟩
  rcases b6 v j with q | q
  · rw [q]; exact a6 v j
  · exact Or.inr q
theorem frJ_bud {a n : Nat} {nd : Nat → Nat} {S S' : SmS} (h : frJ a n nd (sBud S 0 0) S') : frJ a n nd S (sBud S' (sC S) (sB S)) := ⟨⟨h.1.1, h.1.2.1, h.1.2.2.1, rfl, rfl⟩, h.2⟩
theorem frJ_n {a n : Nat} {nd : Nat → Nat} {S0 S : SmS} {p : Nat} {k : Int} {x : Option Nat} (h : frJ a n nd S0 S) (hp : p < n) (k0 : 2 ≤ k) (k1 : k ≤ 4) : frJ a n nd S0 (sPut S (nd p) k x) := frJ_trans h ⟨⟨rfl, rfl, rfl, rfl, rfl⟩, fun v j => by
  by_cases e : v = nd p ∧ j = k
  · exact Or.inr (Or.inr ⟨⟨p, hp, e.1⟩, by omega, by omega⟩)
  · exact Or.inl (if_neg e)⟩
theorem frJ_a {a n : Nat} {nd : Nat → Nat} {S0 S : SmS} {x : Option Nat} (h : frJ a n nd S0 S) : frJ a n nd S0 (sPut S a 3 x) := frJ_trans h ⟨⟨rfl, rfl, rfl, rfl, rfl⟩, fun v j => by
  by_cases e : v = a ∧ j = 3
  · exact Or.inr (Or.inl e)
  · exact Or.inl (if_neg e)⟩
theorem TRh_cg {S : SmS} {n : Nat} {nd lf rg pr lf' rg' pr' : Nat → Nat} (h : TRh S n nd lf rg pr) (e : ∀ i, i < n → lf' i = lf i ∧ rg' i = rg i ∧ pr' i = pr i) : TRh S n nd lf' rg' pr' := ⟨h.1, fun i hi => by
  obtain ⟨e1, e2, e3⟩ := e i hi
  rw [e1, e2, e3]; exact h.2 i hi⟩
theorem TRh_2 {S : SmS} {n : Nat} {nd lf rg pr : Nat → Nat} (h : TRh S n nd lf rg pr) {p j : Nat} (hp : p < n) {x : Option Nat} (hx : x = rfN n nd j) : TRh (sPut S (nd p) 2 x) n nd (upN lf p j) rg pr := ⟨h.1, fun i hi => by
  obtain ⟨a, b, c, d⟩ := h.2 i hi
  refine ⟨a, ?_, by rw [sPut_k (by omega)]; exact c, by rw [sPut_k (by omega)]; exact d⟩
  by_cases e : i = p
  · rw [e, sPut_eq, hx]; unfold upN; rw [if_pos rfl]
  · rw [sPut_ne (fun z => e (h.1 i p hi hp z)), b]; unfold upN; rw [if_neg e]⟩
theorem TRh_3 {S : SmS} {n : Nat} {nd lf rg pr : Nat → Nat} (h : TRh S n nd lf rg pr) {p j : Nat} (hp : p < n) {x : Option Nat} (hx : x = rfN n nd j) : TRh (sPut S (nd p) 3 x) n nd lf (upN rg p j) pr := ⟨h.1, fun i hi => by
  obtain ⟨a, b, c, d⟩ := h.2 i hi
  refine ⟨a, by rw [sPut_k (by omega)]; exact b, ?_, by rw [sPut_k (by omega)]; exact d⟩
  by_cases e : i = p
  · rw [e, sPut_eq, hx]; unfold upN; rw [if_pos rfl]
  · rw [sPut_ne (fun z => e (h.1 i p hi hp z)), c]; unfold upN; rw [if_neg e]⟩
theorem TRh_4 {S : SmS} {n : Nat} {nd lf rg pr : Nat → Nat} (h : TRh S n nd lf rg pr) {p j : Nat} (hp : p < n) {x : Option Nat} (hx : x = rfN n nd j) : TRh (sPut S (nd p) 4 x) n nd lf rg (upN pr p j) := ⟨h.1, fun i hi => by
  obtain ⟨a, b, c, d⟩ := h.2 i hi
  refine ⟨a, by rw [sPut_k (by omega)]; exact b, by rw [sPut_k (by omega)]; exact c, ?_⟩
  by_cases e : i = p
  · rw [e, sPut_eq, hx]; unfold upN; rw [if_pos rfl]
  · rw [sPut_ne (fun z => e (h.1 i p hi hp z)), d]; unfold upN; rw [if_neg e]⟩
theorem TRh_a {S : SmS} {a n : Nat} {nd lf rg pr : Nat → Nat} (h : TRh S n nd lf rg pr) (ha : sT S a = 13) {x : Option Nat} : TRh (sPut S a 3 x) n nd lf rg pr := ⟨h.1, fun i hi => by
  obtain ⟨b, c⟩ := h.2 i hi
  have e : nd i ≠ a := fun z => by rw [z, ha] at b; exact absurd b (by decide)
  refine ⟨b, ?_⟩
  rw [sPut_ne e]; exact c⟩
theorem TRa_n {S : SmS} {a n : Nat} {nd : Nat → Nat} {rt p : Nat} {k : Int} {x : Option Nat} (h : TRa S a n nd rt) (hp : sT S (nd p) = 14) : TRa (sPut S (nd p) k x) a n nd rt := ⟨h.1, by
  have e : a ≠ nd p := fun z => by have := h.1; rw [z, hp] at this; exact absurd this (by decide)
  rw [sPut_ne e]; exact h.2⟩
theorem rfN_our {S : SmS} {n : Nat} {nd lf rg pr : Nat → Nat} (h : TRh S n nd lf rg pr) (j : Nat) : ourR S (rfN n nd j) := by
  unfold rfN
  by_cases z : j < n
  · rw [if_pos z]
    have := (h.2 j z).1
    show sT S (nd j) ≠ 0 ∧ sT S (nd j) < 200
    omega
  · rw [if_neg z]; trivial
theorem up_if {f : Nat → Nat} {c : Prop} [Decidable c] {g r i : Nat} : (if c then upN f g r else f) i = if c ∧ i = g then r else f i := by
  by_cases h : c
  · rw [if_pos h]
    unfold upN
    by_cases e : i = g
    · rw [if_pos e, if_pos ⟨h, e⟩]
    · rw [if_neg e, if_neg (fun z => e z.2)]
  · rw [if_neg h, if_neg (fun z => h z.1)]

theorem rl_32 {d : Nat} {Rq : SmQ} {S0 S : SmS} {I : SmI} {a n p r rt : Nat} {nd lf rg pr : Nat → Nat} (hh : TRh S n nd lf rg pr) (ha : TRa S a n nd rt) (hf : frJ a n nd S0 S) (hp : p < n) (hr : r < n) (hpr : p ≠ r) (hg : p ≠ rt → pr p < n ∧ pr p ≠ p ∧ pr p ≠ r) (hg2 : p = rt → pr p = n)
    (hR : ∀ S' : SmS, frJ a n nd S0 S' → TRh S' n nd (upN (if p ≠ rt ∧ lf (pr p) = p then upN lf (pr p) r else lf) r p) (if p ≠ rt ∧ lf (pr p) ≠ p then upN rg (pr p) r else rg) (upN (upN pr r (pr p)) p r) → TRa S' a n nd (if p = rt then r else rt) → Rq (.inl none) S' I) : SW mi_J4_rotateLeft 32 d Rq [some (vR (some a)), some (vR (some (nd p))), some (vR (some (nd r)))] [] S I := by
  obtain ⟨p1, p2, p3, p4⟩ := hh.2 p hp
  obtain ⟨r1, r2, r3, r4⟩ := hh.2 r hr
  have nPR : nd p ≠ nd r := fun z => hpr (hh.1 p r hp hr z)
  have nRP : nd r ≠ nd p := fun z => nPR z.symm
  have aP : a ≠ nd p := fun z => by have := ha.1; rw [z, p1] at this; exact absurd this (by decide)
  have aR : a ≠ nd r := fun z => by have := ha.1; rw [z, r1] at this; exact absurd this (by decide)
  have h1 := TRh_4 hh hr (j := pr p) rfl
  have f1 := frJ_n (x := rfN n nd (pr p)) (k := 4) hf hr (by omega) (by omega)
  have a1 : TRa (sPut S (nd r) 4 (rfN n nd (pr p))) a n nd rt := TRa_n ha r1
  by_cases hrt : p = rt
  · simp only [if_neg (show ¬ (p ≠ rt ∧ lf (pr p) = p) from fun z => z.1 hrt), if_neg (show ¬ (p ≠ rt ∧ lf (pr p) ≠ p) from fun z => z.1 hrt), if_pos hrt] at hR
    have e := hg2 hrt
    have en : rfN n nd (pr p) = none := rfN_ge (by omega)
    rw [en] at h1 f1 a1 p4
    have h9 := hR (sPut (sPut (sPut (sPut S (nd r) 4 none) a 3 (some (nd r))) (nd r) 2 (some (nd p))) (nd p) 4 (some (nd r))) (frJ_n (frJ_n (frJ_a f1) hr (by omega) (by omega)) hp (by omega) (by omega)) (TRh_4 (TRh_2 (TRh_a h1 ha.1) hr (j := p) (rfN_lt hp).symm) hp (j := r) (rfN_lt hr).symm) (by
      refine TRa_n (TRa_n ⟨ha.1, ?_⟩ r1) p1
      rw [sPut_eq, rfN_lt hr])
    refine rv_J4_rotateLeft_32 ?_
    simp +contextual (disch := omega) only [tr_J4_rotateLeft_32, im_ic, im_lc, im_nul, im_iload, im_lload, im_aload, im_istore, im_astore, im_lstore, im_iinc, im_iadd, im_isub, im_imul, im_iand, im_ior, im_ishl, im_ishr, im_iushr, im_idiv, im_irem, im_ineg, im_i2l, im_l2i, im_i2b, im_i2s, im_ladd, im_lcmp, im_dup, im_pop, im_dup_x1, im_dup2, im_ceq, im_cne, im_clt, im_cge, im_cgt, im_cle, im_zeq, im_zne, im_zlt, im_zge, im_zgt, im_zle, im_ifnull, im_ifnn, im_acmpeq, im_acmpne, im_getI, im_getR, im_putI, im_putZ, im_putR, im_ald, im_iast, im_bast, im_sast, im_zast, im_aald, im_alen, im_new, im_newa, im_newq, im_tsw, im_lsw, tswA, lswA, im_callS_eq, im_callV_eq, chk_i, chk_T, dOk_i, tf_0, tf_n0, tf_1, tf_01, tf_F, tf_T, tf_em, tf_me, im_min, im_max, im_abs, ↓reduceIte, Int.zero_add, Int.add_zero, Int.one_mul, Int.mul_one, Int.ediv_one, Int.sub_zero, im_ireturn, im_zreturn, im_areturn, im_return, im_objinit, popI_eq, popII_eq, popJ_eq, popJJ_eq, popR_eq, popRR_eq, popV_eq, popVV_eq, popA_eq, popIA_eq, popIIA_eq, popRA_eq, popRIA_eq, getI, getJ, getR, lget_0, lget_s, nlAt, cat1, wsum, List.set_cons_zero, List.set_cons_succ, List.take_succ_cons, List.take_zero, List.drop_succ_cons, List.drop_zero, List.reverse_cons, List.reverse_nil, List.nil_append, List.cons_append, List.length_cons, List.length_nil, true_and, and_true, and_self, ne_eq, not_false_eq_true, not_true_eq_false, Classical.not_not, false_or, or_false, true_or, or_true, imp_self, forall_const, forall_eq, implies_true, true_implies, false_implies, Nat.reduceAdd, Nat.reduceLeDiff, Nat.reduceEqDiff, Nat.reduceSub, Int.reduceNeg, Int.reduceEq, Int.reduceLT, Int.reduceLE, Int.reduceNe, Int.reduceAdd, Int.reduceSub, Nat.le_refl, Nat.zero_le, reduceCtorEq, Option.some.injEq, w32_i, p1, r1, ha.1, p4, sT_sPut, sPut_eq, sPut_k, sPut_ne]
    exact h9
  · obtain ⟨g0, g1, g2⟩ := hg hrt
    obtain ⟨w1, w2, w3, w4⟩ := hh.2 (pr p) g0
    have nGP : nd (pr p) ≠ nd p := fun z => g1 (hh.1 _ _ g0 hp z)
    have nGR : nd (pr p) ≠ nd r := fun z => g2 (hh.1 _ _ g0 hr z)
    have en : rfN n nd (pr p) = some (nd (pr p)) := rfN_lt g0
    rw [en] at h1 f1 a1 p4
    have ow := rfN_our h1 (lf (pr p))
    have owp : ourR (sPut S (nd r) 4 (some (nd (pr p)))) (some (nd p)) := by
      show sT S (nd p) ≠ 0 ∧ sT S (nd p) < 200
      omega
    have ee : (some (nd p) = rfN n nd (lf (pr p))) ↔ lf (pr p) = p := by
      unfold rfN
      constructor
      · intro z
        by_cases q : lf (pr p) < n
        · rw [if_pos q] at z
          exact (hh.1 _ _ hp q (Option.some.inj z)).symm
        · rw [if_neg q] at z; cases z
      · intro z
        rw [z, if_pos hp]
    have ee2 : (rfN n nd (lf (pr p)) = some (nd p)) ↔ lf (pr p) = p := by rw [eq_comm]; exact ee
    by_cases hc : lf (pr p) = p
    · simp only [if_pos (show p ≠ rt ∧ lf (pr p) = p from ⟨hrt, hc⟩), if_neg (show ¬ (p ≠ rt ∧ lf (pr p) ≠ p) from fun z => z.2 hc), if_neg hrt] at hR
      have wl : sP S (nd (pr p)) 2 = some (nd p) := by rw [w2, hc, rfN_lt hp]
      have h9 := hR (sPut (sPut (sPut (sPut S (nd r) 4 (some (nd (pr p)))) (nd (pr p)) 2 (some (nd r))) (nd r) 2 (some (nd p))) (nd p) 4 (some (nd r))) (frJ_n (frJ_n (frJ_n f1 g0 (by omega) (by omega)) hr (by omega) (by omega)) hp (by omega) (by omega)) (TRh_4 (TRh_2 (TRh_2 h1 g0 (j := r) (rfN_lt hr).symm) hr (j := p) (rfN_lt hp).symm) hp (j := r) (rfN_lt hr).symm) (by
        exact TRa_n (TRa_n (TRa_n a1 w1) r1) p1)
      refine rv_J4_rotateLeft_32 ?_
      simp +contextual (disch := omega) only [tr_J4_rotateLeft_32, im_ic, im_lc, im_nul, im_iload, im_lload, im_aload, im_istore, im_astore, im_lstore, im_iinc, im_iadd, im_isub, im_imul, im_iand, im_ior, im_ishl, im_ishr, im_iushr, im_idiv, im_irem, im_ineg, im_i2l, im_l2i, im_i2b, im_i2s, im_ladd, im_lcmp, im_dup, im_pop, im_dup_x1, im_dup2, im_ceq, im_cne, im_clt, im_cge, im_cgt, im_cle, im_zeq, im_zne, im_zlt, im_zge, im_zgt, im_zle, im_ifnull, im_ifnn, im_acmpeq, im_acmpne, im_getI, im_getR, im_putI, im_putZ, im_putR, im_ald, im_iast, im_bast, im_sast, im_zast, im_aald, im_alen, im_new, im_newa, im_newq, im_tsw, im_lsw, tswA, lswA, im_callS_eq, im_callV_eq, chk_i, chk_T, dOk_i, tf_0, tf_n0, tf_1, tf_01, tf_F, tf_T, tf_em, tf_me, im_min, im_max, im_abs, ↓reduceIte, Int.zero_add, Int.add_zero, Int.one_mul, Int.mul_one, Int.ediv_one, Int.sub_zero, im_ireturn, im_zreturn, im_areturn, im_return, im_objinit, popI_eq, popII_eq, popJ_eq, popJJ_eq, popR_eq, popRR_eq, popV_eq, popVV_eq, popA_eq, popIA_eq, popIIA_eq, popRA_eq, popRIA_eq, getI, getJ, getR, lget_0, lget_s, nlAt, cat1, wsum, List.set_cons_zero, List.set_cons_succ, List.take_succ_cons, List.take_zero, List.drop_succ_cons, List.drop_zero, List.reverse_cons, List.reverse_nil, List.nil_append, List.cons_append, List.length_cons, List.length_nil, true_and, and_true, and_self, ne_eq, not_false_eq_true, not_true_eq_false, Classical.not_not, false_or, or_false, true_or, or_true, imp_self, forall_const, forall_eq, implies_true, true_implies, false_implies, Nat.reduceAdd, Nat.reduceLeDiff, Nat.reduceEqDiff, Nat.reduceSub, Int.reduceNeg, Int.reduceEq, Int.reduceLT, Int.reduceLE, Int.reduceNe, Int.reduceAdd, Int.reduceSub, Nat.le_refl, Nat.zero_le, reduceCtorEq, Option.some.injEq, w32_i, p1, r1, ha.1, p4, w1, wl, sT_sPut, sPut_eq, sPut_k, sPut_ne, owp]
      exact h9
    · simp only [if_neg (show ¬ (p ≠ rt ∧ lf (pr p) = p) from fun z => hc z.2), if_pos (show p ≠ rt ∧ lf (pr p) ≠ p from ⟨hrt, hc⟩), if_neg hrt] at hR
      have h9 := hR (sPut (sPut (sPut (sPut S (nd r) 4 (some (nd (pr p)))) (nd (pr p)) 3 (some (nd r))) (nd r) 2 (some (nd p))) (nd p) 4 (some (nd r))) (frJ_n (frJ_n (frJ_n f1 g0 (by omega) (by omega)) hr (by omega) (by omega)) hp (by omega) (by omega)) (TRh_4 (TRh_2 (TRh_3 h1 g0 (j := r) (rfN_lt hr).symm) hr (j := p) (rfN_lt hp).symm) hp (j := r) (rfN_lt hr).symm) (by
        exact TRa_n (TRa_n (TRa_n a1 w1) r1) p1)
      refine rv_J4_rotateLeft_32 ?_
      simp +contextual (disch := omega) only [tr_J4_rotateLeft_32, im_ic, im_lc, im_nul, im_iload, im_lload, im_aload, im_istore, im_astore, im_lstore, im_iinc, im_iadd, im_isub, im_imul, im_iand, im_ior, im_ishl, im_ishr, im_iushr, im_idiv, im_irem, im_ineg, im_i2l, im_l2i, im_i2b, im_i2s, im_ladd, im_lcmp, im_dup, im_pop, im_dup_x1, im_dup2, im_ceq, im_cne, im_clt, im_cge, im_cgt, im_cle, im_zeq, im_zne, im_zlt, im_zge, im_zgt, im_zle, im_ifnull, im_ifnn, im_acmpeq, im_acmpne, im_getI, im_getR, im_putI, im_putZ, im_putR, im_ald, im_iast, im_bast, im_sast, im_zast, im_aald, im_alen, im_new, im_newa, im_newq, im_tsw, im_lsw, tswA, lswA, im_callS_eq, im_callV_eq, chk_i, chk_T, dOk_i, tf_0, tf_n0, tf_1, tf_01, tf_F, tf_T, tf_em, tf_me, im_min, im_max, im_abs, ↓reduceIte, Int.zero_add, Int.add_zero, Int.one_mul, Int.mul_one, Int.ediv_one, Int.sub_zero, im_ireturn, im_zreturn, im_areturn, im_return, im_objinit, popI_eq, popII_eq, popJ_eq, popJJ_eq, popR_eq, popRR_eq, popV_eq, popVV_eq, popA_eq, popIA_eq, popIIA_eq, popRA_eq, popRIA_eq, getI, getJ, getR, lget_0, lget_s, nlAt, cat1, wsum, List.set_cons_zero, List.set_cons_succ, List.take_succ_cons, List.take_zero, List.drop_succ_cons, List.drop_zero, List.reverse_cons, List.reverse_nil, List.nil_append, List.cons_append, List.length_cons, List.length_nil, true_and, and_true, and_self, ne_eq, not_false_eq_true, not_true_eq_false, Classical.not_not, false_or, or_false, true_or, or_true, imp_self, forall_const, forall_eq, implies_true, true_implies, false_implies, Nat.reduceAdd, Nat.reduceLeDiff, Nat.reduceEqDiff, Nat.reduceSub, Int.reduceNeg, Int.reduceEq, Int.reduceLT, Int.reduceLE, Int.reduceNe, Int.reduceAdd, Int.reduceSub, Nat.le_refl, Nat.zero_le, reduceCtorEq, Option.some.injEq, w32_i, p1, r1, ha.1, p4, w1, w2, sT_sPut, sPut_eq, sPut_k, sPut_ne, ow, owp, ee, ee2, hc]
      exact h9
theorem rlE {n rt p i : Nat} {lf rg pr : Nat → Nat} (hpr : p ≠ rg p) (hg : p ≠ rt → pr p ≠ p ∧ pr p ≠ rg p) : upN (if p ≠ rt ∧ lf (pr p) = p then upN lf (pr p) (rg p) else lf) (rg p) p i = rlL lf rg pr rt p i ∧ (if p ≠ rt ∧ lf (pr p) ≠ p then upN (upN rg p (lf (rg p))) (pr p) (rg p) else upN rg p (lf (rg p))) i = rlR lf rg pr rt p i := by
  constructor
  · unfold rlL
    show (if i = rg p then p else (if p ≠ rt ∧ lf (pr p) = p then upN lf (pr p) (rg p) else lf) i) = _
    rw [up_if]
    by_cases a : i = rg p
    · rw [if_pos a, if_pos a]
    · rw [if_neg a, if_neg a]
      by_cases c : p ≠ rt ∧ i = pr p ∧ lf (pr p) = p
      · rw [if_pos c, if_pos ⟨⟨c.1, c.2.2⟩, c.2.1⟩]
      · rw [if_neg c, if_neg (fun z => c ⟨z.1.1, z.2, z.1.2⟩)]
  · unfold rlR
    rw [up_if]
    by_cases a : i = p
    · rw [if_pos a, if_neg (fun z => (hg z.1.1).1 (by rw [← z.2]; exact a))]
      unfold upN
      rw [if_pos a]
    · rw [if_neg a]
      by_cases c : p ≠ rt ∧ i = pr p ∧ lf (pr p) ≠ p
      · rw [if_pos c, if_pos ⟨⟨c.1, c.2.2⟩, c.2.1⟩]
      · rw [if_neg c, if_neg (fun z => c ⟨z.1.1, z.2, z.1.2⟩)]
        unfold upN
        rw [if_neg a]
theorem b_J4_rotateLeft {d : Nat} {Rq : SmQ} {S : SmS} {I : SmI} {a n p rt : Nat} {nd lf rg pr lo hi : Nat → Nat} (hp9 : TRp n lf rg pr lo hi rt) (hh : TRh S n nd lf rg pr) (ha : TRa S a n nd rt) (hp : p < n) (hr : rg p < n) (hR : ∀ S' : SmS, frJ a n nd S S' → TRh S' n nd (rlL lf rg pr rt p) (rlR lf rg pr rt p) (rlP lf rg pr p) → TRa S' a n nd (if p = rt then rg p else rt) → Rq (.inl none) S' I) : SW mi_J4_rotateLeft 0 d Rq [some (vR (some a)), some (vR (some (nd p))), none] [] S I := by
  obtain ⟨rt1, rt2, rt3, rt4⟩ := hp9.2.1 (by omega)
  have cr := TRp_r hp9 hp hr
  have br := TRp_b hp9 hr
  have hpr : p ≠ rg p := by omega
  have hg : Hid (p ≠ rt → pr p < n ∧ pr p ≠ p ∧ pr p ≠ rg p) := fun z => by
    obtain ⟨y0, y | y⟩ := TRp_p hp9 hp z
    · have := TRp_l hp9 y0 (by rw [y]; exact hp); rw [y] at this; refine ⟨y0, ?_, ?_⟩ <;> omega
    · have := TRp_r hp9 y0 (by rw [y]; exact hp); rw [y] at this; refine ⟨y0, ?_, ?_⟩ <;> omega
  obtain ⟨p1, p2, p3, p4⟩ := hh.2 p hp
  obtain ⟨r1, r2, r3, r4⟩ := hh.2 (rg p) hr
  have nPR : nd p ≠ nd (rg p) := fun z => hpr (hh.1 _ _ hp hr z)
  have nRP : nd (rg p) ≠ nd p := fun z => nPR z.symm
  have e3 : sP S (nd p) 3 = some (nd (rg p)) := by rw [p3, rfN_lt hr]
  by_cases hq : lf (rg p) < n
  · have eq : sP S (nd (rg p)) 2 = some (nd (lf (rg p))) := by rw [r2, rfN_lt hq]
    have hb8 := TRp_l hp9 hr hq
    have hb9 := TRp_b hp9 hq
    have nq1 : lf (rg p) ≠ p := by omega
    have nq2 : lf (rg p) ≠ rg p := by omega
    have nQP : nd (lf (rg p)) ≠ nd p := fun z => nq1 (hh.1 _ _ hq hp z)
    have nQR : nd (lf (rg p)) ≠ nd (rg p) := fun z => nq2 (hh.1 _ _ hq hr z)
    have hQ1 := (hh.2 _ hq).1
    have x1 := TRh_3 hh hp (j := lf (rg p)) (x := some (nd (lf (rg p)))) (rfN_lt hq).symm
    have x2 := TRh_4 x1 hq (j := p) (x := some (nd p)) (rfN_lt hp).symm
    have y2 : TRa (sPut (sPut S (nd p) 3 (some (nd (lf (rg p))))) (nd (lf (rg p))) 4 (some (nd p))) a n nd rt := TRa_n (TRa_n ha p1) hQ1
    have eP : upN pr (lf (rg p)) p p = pr p := by unfold upN; rw [if_neg (fun z => nq1 z.symm)]
    have h9 := rl_32 (d := d) (Rq := Rq) (S0 := S) (I := I) x2 y2 (frJ_n (frJ_n frJ_refl hp (by omega) (by omega)) hq (by omega) (by omega)) hp hr hpr (fun z => by rw [eP]; exact hg z) (fun z => by rw [eP, z]; exact rt4) (fun S' f hT hA => hR S' f (TRh_cg hT (fun i hi => by
      rw [eP]
      have ee := rlE (n := n) (rt := rt) (i := i) (lf := lf) (rg := rg) (pr := pr) hpr (fun z => (hg z).2)
      exact ⟨ee.1.symm, ee.2.symm, rfl⟩)) hA)
    refine rv_J4_rotateLeft_0 ?_
    simp +contextual (disch := omega) only [tr_J4_rotateLeft_0, im_ic, im_lc, im_nul, im_iload, im_lload, im_aload, im_istore, im_astore, im_lstore, im_iinc, im_iadd, im_isub, im_imul, im_iand, im_ior, im_ishl, im_ishr, im_iushr, im_idiv, im_irem, im_ineg, im_i2l, im_l2i, im_i2b, im_i2s, im_ladd, im_lcmp, im_dup, im_pop, im_dup_x1, im_dup2, im_ceq, im_cne, im_clt, im_cge, im_cgt, im_cle, im_zeq, im_zne, im_zlt, im_zge, im_zgt, im_zle, im_ifnull, im_ifnn, im_acmpeq, im_acmpne, im_getI, im_getR, im_putI, im_putZ, im_putR, im_ald, im_iast, im_bast, im_sast, im_zast, im_aald, im_alen, im_new, im_newa, im_newq, im_tsw, im_lsw, tswA, lswA, im_callS_eq, im_callV_eq, chk_i, chk_T, dOk_i, tf_0, tf_n0, tf_1, tf_01, tf_F, tf_T, tf_em, tf_me, im_min, im_max, im_abs, ↓reduceIte, Int.zero_add, Int.add_zero, Int.one_mul, Int.mul_one, Int.ediv_one, Int.sub_zero, im_ireturn, im_zreturn, im_areturn, im_return, im_objinit, popI_eq, popII_eq, popJ_eq, popJJ_eq, popR_eq, popRR_eq, popV_eq, popVV_eq, popA_eq, popIA_eq, popIIA_eq, popRA_eq, popRIA_eq, getI, getJ, getR, lget_0, lget_s, nlAt, cat1, wsum, List.set_cons_zero, List.set_cons_succ, List.take_succ_cons, List.take_zero, List.drop_succ_cons, List.drop_zero, List.reverse_cons, List.reverse_nil, List.nil_append, List.cons_append, List.length_cons, List.length_nil, true_and, and_true, and_self, ne_eq, not_false_eq_true, not_true_eq_false, Classical.not_not, false_or, or_false, true_or, or_true, imp_self, forall_const, forall_eq, implies_true, true_implies, false_implies, Nat.reduceAdd, Nat.reduceLeDiff, Nat.reduceEqDiff, Nat.reduceSub, Int.reduceNeg, Int.reduceEq, Int.reduceLT, Int.reduceLE, Int.reduceNe, Int.reduceAdd, Int.reduceSub, Nat.le_refl, Nat.zero_le, reduceCtorEq, Option.some.injEq, w32_i, p1, r1, e3, eq, hQ1, sT_sPut, sPut_eq, sPut_k, sPut_ne]
    exact h9
  · have eq : sP S (nd (rg p)) 2 = none := by rw [r2, rfN_ge hq]
    have x1 := TRh_3 hh hp (j := lf (rg p)) (x := none) (rfN_ge hq).symm
    have y1 : TRa (sPut S (nd p) 3 none) a n nd rt := TRa_n ha p1
    have h9 := rl_32 (d := d) (Rq := Rq) (S0 := S) (I := I) x1 y1 (frJ_n frJ_refl hp (by omega) (by omega)) hp hr hpr hg (fun z => by rw [z]; exact rt4) (fun S' f hT hA => hR S' f (TRh_cg hT (fun i hi => by
      have ee := rlE (n := n) (rt := rt) (i := i) (lf := lf) (rg := rg) (pr := pr) hpr (fun z => (hg z).2)
      have e4 : rlP lf rg pr p i = upN (upN pr (rg p) (pr p)) p (rg p) i := by
        unfold rlP upN
        rw [if_neg (show ¬ i = lf (rg p) from fun z => hq (by rw [← z]; exact hi))]
      exact ⟨ee.1.symm, ee.2.symm, e4⟩)) hA)
    refine rv_J4_rotateLeft_0 ?_
    simp +contextual (disch := omega) only [tr_J4_rotateLeft_0, im_ic, im_lc, im_nul, im_iload, im_lload, im_aload, im_istore, im_astore, im_lstore, im_iinc, im_iadd, im_isub, im_imul, im_iand, im_ior, im_ishl, im_ishr, im_iushr, im_idiv, im_irem, im_ineg, im_i2l, im_l2i, im_i2b, im_i2s, im_ladd, im_lcmp, im_dup, im_pop, im_dup_x1, im_dup2, im_ceq, im_cne, im_clt, im_cge, im_cgt, im_cle, im_zeq, im_zne, im_zlt, im_zge, im_zgt, im_zle, im_ifnull, im_ifnn, im_acmpeq, im_acmpne, im_getI, im_getR, im_putI, im_putZ, im_putR, im_ald, im_iast, im_bast, im_sast, im_zast, im_aald, im_alen, im_new, im_newa, im_newq, im_tsw, im_lsw, tswA, lswA, im_callS_eq, im_callV_eq, chk_i, chk_T, dOk_i, tf_0, tf_n0, tf_1, tf_01, tf_F, tf_T, tf_em, tf_me, im_min, im_max, im_abs, ↓reduceIte, Int.zero_add, Int.add_zero, Int.one_mul, Int.mul_one, Int.ediv_one, Int.sub_zero, im_ireturn, im_zreturn, im_areturn, im_return, im_objinit, popI_eq, popII_eq, popJ_eq, popJJ_eq, popR_eq, popRR_eq, popV_eq, popVV_eq, popA_eq, popIA_eq, popIIA_eq, popRA_eq, popRIA_eq, getI, getJ, getR, lget_0, lget_s, nlAt, cat1, wsum, List.set_cons_zero, List.set_cons_succ, List.take_succ_cons, List.take_zero, List.drop_succ_cons, List.drop_zero, List.reverse_cons, List.reverse_nil, List.nil_append, List.cons_append, List.length_cons, List.length_nil, true_and, and_true, and_self, ne_eq, not_false_eq_true, not_true_eq_false, Classical.not_not, false_or, or_false, true_or, or_true, imp_self, forall_const, forall_eq, implies_true, true_implies, false_implies, Nat.reduceAdd, Nat.reduceLeDiff, Nat.reduceEqDiff, Nat.reduceSub, Int.reduceNeg, Int.reduceEq, Int.reduceLT, Int.reduceLE, Int.reduceNe, Int.reduceAdd, Int.reduceSub, Nat.le_refl, Nat.zero_le, reduceCtorEq, Option.some.injEq, w32_i, p1, r1, e3, eq, sT_sPut, sPut_eq, sPut_k, sPut_ne]
    exact h9
theorem c_J4_rotateLeft {d : Nat} {Rq : SmQ} {S : SmS} {I : SmI} {a n p rt : Nat} {nd lf rg pr lo hi : Nat → Nat} (hp9 : TRp n lf rg pr lo hi rt) (hh : TRh S n nd lf rg pr) (ha : TRa S a n nd rt) (hp : p < n) (hr : rg p < n) (hR : ∀ S' : SmS, frJ a n nd S S' → TRh S' n nd (rlL lf rg pr rt p) (rlR lf rg pr rt p) (rlP lf rg pr p) → TRa S' a n nd (if p = rt then rg p else rt) → Rq (.inl none) S' I) : SC mi_J4_rotateLeft d [vR (some a), vR (some (nd p))] S I Rq := SC_of0 (Nat.le_of_ble_eq_true rfl) (b_J4_rotateLeft (S := sBud S 0 0) hp9 hh ha hp hr (fun S' f9 => hR (sBud S' (sC S) (sB S))  (frJ_bud f9)))
theorem rr_32 {d : Nat} {Rq : SmQ} {S0 S : SmS} {I : SmI} {a n p r rt : Nat} {nd lf rg pr : Nat → Nat} (hh : TRh S n nd lf rg pr) (ha : TRa S a n nd rt) (hf : frJ a n nd S0 S) (hp : p < n) (hr : r < n) (hpr : p ≠ r) (hg : p ≠ rt → pr p < n ∧ pr p ≠ p ∧ pr p ≠ r) (hg2 : p = rt → pr p = n)
    (hR : ∀ S' : SmS, frJ a n nd S0 S' → TRh S' n nd (if p ≠ rt ∧ rg (pr p) ≠ p then upN lf (pr p) r else lf) (upN (if p ≠ rt ∧ rg (pr p) = p then upN rg (pr p) r else rg) r p) (upN (upN pr r (pr p)) p r) → TRa S' a n nd (if p = rt then r else rt) → Rq (.inl none) S' I) : SW mi_J4_rotateRight 32 d Rq [some (vR (some a)), some (vR (some (nd p))), some (vR (some (nd r)))] [] S I := by
  obtain ⟨p1, p2, p3, p4⟩ := hh.2 p hp
  obtain ⟨r1, r2, r3, r4⟩ := hh.2 r hr
  have nPR : nd p ≠ nd r := fun z => hpr (hh.1 p r hp hr z)
  have nRP : nd r ≠ nd p := fun z => nPR z.symm
  have aP : a ≠ nd p := fun z => by have := ha.1; rw [z, p1] at this; exact absurd this (by decide)
  have aR : a ≠ nd r := fun z => by have := ha.1; rw [z, r1] at this; exact absurd this (by decide)
  have h1 := TRh_4 hh hr (j := pr p) rfl
  have f1 := frJ_n (x := rfN n nd (pr p)) (k := 4) hf hr (by omega) (by omega)
  have a1 : TRa (sPut S (nd r) 4 (rfN n nd (pr p))) a n nd rt := TRa_n ha r1
  by_cases hrt : p = rt
  · simp only [if_neg (show ¬ (p ≠ rt ∧ rg (pr p) = p) from fun z => z.1 hrt), if_neg (show ¬ (p ≠ rt ∧ rg (pr p) ≠ p) from fun z => z.1 hrt), if_pos hrt] at hR
    have e := hg2 hrt
    have en : rfN n nd (pr p) = none := rfN_ge (by omega)
    rw [en] at h1 f1 a1 p4
    have h9 := hR (sPut (sPut (sPut (sPut S (nd r) 4 none) a 3 (some (nd r))) (nd r) 3 (some (nd p))) (nd p) 4 (some (nd r))) (frJ_n (frJ_n (frJ_a f1) hr (by omega) (by omega)) hp (by omega) (by omega)) (TRh_4 (TRh_3 (TRh_a h1 ha.1) hr (j := p) (rfN_lt hp).symm) hp (j := r) (rfN_lt hr).symm) (by
      refine TRa_n (TRa_n ⟨ha.1, ?_⟩ r1) p1
      rw [sPut_eq, rfN_lt hr])
    refine rv_J4_rotateRight_32 ?_
    simp +contextual (disch := omega) only [tr_J4_rotateRight_32, im_ic, im_lc, im_nul, im_iload, im_lload, im_aload, im_istore, im_astore, im_lstore, im_iinc, im_iadd, im_isub, im_imul, im_iand, im_ior, im_ishl, im_ishr, im_iushr, im_idiv, im_irem, im_ineg, im_i2l, im_l2i, im_i2b, im_i2s, im_ladd, im_lcmp, im_dup, im_pop, im_dup_x1, im_dup2, im_ceq, im_cne, im_clt, im_cge, im_cgt, im_cle, im_zeq, im_zne, im_zlt, im_zge, im_zgt, im_zle, im_ifnull, im_ifnn, im_acmpeq, im_acmpne, im_getI, im_getR, im_putI, im_putZ, im_putR, im_ald, im_iast, im_bast, im_sast, im_zast, im_aald, im_alen, im_new, im_newa, im_newq, im_tsw, im_lsw, tswA, lswA, im_callS_eq, im_callV_eq, chk_i, chk_T, dOk_i, tf_0, tf_n0, tf_1, tf_01, tf_F, tf_T, tf_em, tf_me, im_min, im_max, im_abs, ↓reduceIte, Int.zero_add, Int.add_zero, Int.one_mul, Int.mul_one, Int.ediv_one, Int.sub_zero, im_ireturn, im_zreturn, im_areturn, im_return, im_objinit, popI_eq, popII_eq, popJ_eq, popJJ_eq, popR_eq, popRR_eq, popV_eq, popVV_eq, popA_eq, popIA_eq, popIIA_eq, popRA_eq, popRIA_eq, getI, getJ, getR, lget_0, lget_s, nlAt, cat1, wsum, List.set_cons_zero, List.set_cons_succ, List.take_succ_cons, List.take_zero, List.drop_succ_cons, List.drop_zero, List.reverse_cons, List.reverse_nil, List.nil_append, List.cons_append, List.length_cons, List.length_nil, true_and, and_true, and_self, ne_eq, not_false_eq_true, not_true_eq_false, Classical.not_not, false_or, or_false, true_or, or_true, imp_self, forall_const, forall_eq, implies_true, true_implies, false_implies, Nat.reduceAdd, Nat.reduceLeDiff, Nat.reduceEqDiff, Nat.reduceSub, Int.reduceNeg, Int.reduceEq, Int.reduceLT, Int.reduceLE, Int.reduceNe, Int.reduceAdd, Int.reduceSub, Nat.le_refl, Nat.zero_le, reduceCtorEq, Option.some.injEq, w32_i, p1, r1, ha.1, p4, sT_sPut, sPut_eq, sPut_k, sPut_ne]
    exact h9
  · obtain ⟨g0, g1, g2⟩ := hg hrt
    obtain ⟨w1, w2, w3, w4⟩ := hh.2 (pr p) g0
    have nGP : nd (pr p) ≠ nd p := fun z => g1 (hh.1 _ _ g0 hp z)
    have nGR : nd (pr p) ≠ nd r := fun z => g2 (hh.1 _ _ g0 hr z)
    have en : rfN n nd (pr p) = some (nd (pr p)) := rfN_lt g0
    rw [en] at h1 f1 a1 p4
    have ow := rfN_our h1 (rg (pr p))
    have owp : ourR (sPut S (nd r) 4 (some (nd (pr p)))) (some (nd p)) := by
      show sT S (nd p) ≠ 0 ∧ sT S (nd p) < 200
      omega
    have ee : (some (nd p) = rfN n nd (rg (pr p))) ↔ rg (pr p) = p := by
      unfold rfN
      constructor
      · intro z
        by_cases q : rg (pr p) < n
        · rw [if_pos q] at z
          exact (hh.1 _ _ hp q (Option.some.inj z)).symm
        · rw [if_neg q] at z; cases z
      · intro z
        rw [z, if_pos hp]
    have ee2 : (rfN n nd (rg (pr p)) = some (nd p)) ↔ rg (pr p) = p := by rw [eq_comm]; exact ee
    by_cases hc : rg (pr p) = p
    · simp only [if_pos (show p ≠ rt ∧ rg (pr p) = p from ⟨hrt, hc⟩), if_neg (show ¬ (p ≠ rt ∧ rg (pr p) ≠ p) from fun z => z.2 hc), if_neg hrt] at hR
      have wl : sP S (nd (pr p)) 3 = some (nd p) := by rw [w3, hc, rfN_lt hp]
      have h9 := hR (sPut (sPut (sPut (sPut S (nd r) 4 (some (nd (pr p)))) (nd (pr p)) 3 (some (nd r))) (nd r) 3 (some (nd p))) (nd p) 4 (some (nd r))) (frJ_n (frJ_n (frJ_n f1 g0 (by omega) (by omega)) hr (by omega) (by omega)) hp (by omega) (by omega)) (TRh_4 (TRh_3 (TRh_3 h1 g0 (j := r) (rfN_lt hr).symm) hr (j := p) (rfN_lt hp).symm) hp (j := r) (rfN_lt hr).symm) (by
        exact TRa_n (TRa_n (TRa_n a1 w1) r1) p1)
      refine rv_J4_rotateRight_32 ?_
      simp +contextual (disch := omega) only [tr_J4_rotateRight_32, im_ic, im_lc, im_nul, im_iload, im_lload, im_aload, im_istore, im_astore, im_lstore, im_iinc, im_iadd, im_isub, im_imul, im_iand, im_ior, im_ishl, im_ishr, im_iushr, im_idiv, im_irem, im_ineg, im_i2l, im_l2i, im_i2b, im_i2s, im_ladd, im_lcmp, im_dup, im_pop, im_dup_x1, im_dup2, im_ceq, im_cne, im_clt, im_cge, im_cgt, im_cle, im_zeq, im_zne, im_zlt, im_zge, im_zgt, im_zle, im_ifnull, im_ifnn, im_acmpeq, im_acmpne, im_getI, im_getR, im_putI, im_putZ, im_putR, im_ald, im_iast, im_bast, im_sast, im_zast, im_aald, im_alen, im_new, im_newa, im_newq, im_tsw, im_lsw, tswA, lswA, im_callS_eq, im_callV_eq, chk_i, chk_T, dOk_i, tf_0, tf_n0, tf_1, tf_01, tf_F, tf_T, tf_em, tf_me, im_min, im_max, im_abs, ↓reduceIte, Int.zero_add, Int.add_zero, Int.one_mul, Int.mul_one, Int.ediv_one, Int.sub_zero, im_ireturn, im_zreturn, im_areturn, im_return, im_objinit, popI_eq, popII_eq, popJ_eq, popJJ_eq, popR_eq, popRR_eq, popV_eq, popVV_eq, popA_eq, popIA_eq, popIIA_eq, popRA_eq, popRIA_eq, getI, getJ, getR, lget_0, lget_s, nlAt, cat1, wsum, List.set_cons_zero, List.set_cons_succ, List.take_succ_cons, List.take_zero, List.drop_succ_cons, List.drop_zero, List.reverse_cons, List.reverse_nil, List.nil_append, List.cons_append, List.length_cons, List.length_nil, true_and, and_true, and_self, ne_eq, not_false_eq_true, not_true_eq_false, Classical.not_not, false_or, or_false, true_or, or_true, imp_self, forall_const, forall_eq, implies_true, true_implies, false_implies, Nat.reduceAdd, Nat.reduceLeDiff, Nat.reduceEqDiff, Nat.reduceSub, Int.reduceNeg, Int.reduceEq, Int.reduceLT, Int.reduceLE, Int.reduceNe, Int.reduceAdd, Int.reduceSub, Nat.le_refl, Nat.zero_le, reduceCtorEq, Option.some.injEq, w32_i, p1, r1, ha.1, p4, w1, wl, sT_sPut, sPut_eq, sPut_k, sPut_ne, owp]
      exact h9
    · simp only [if_neg (show ¬ (p ≠ rt ∧ rg (pr p) = p) from fun z => hc z.2), if_pos (show p ≠ rt ∧ rg (pr p) ≠ p from ⟨hrt, hc⟩), if_neg hrt] at hR
      have h9 := hR (sPut (sPut (sPut (sPut S (nd r) 4 (some (nd (pr p)))) (nd (pr p)) 2 (some (nd r))) (nd r) 3 (some (nd p))) (nd p) 4 (some (nd r))) (frJ_n (frJ_n (frJ_n f1 g0 (by omega) (by omega)) hr (by omega) (by omega)) hp (by omega) (by omega)) (TRh_4 (TRh_3 (TRh_2 h1 g0 (j := r) (rfN_lt hr).symm) hr (j := p) (rfN_lt hp).symm) hp (j := r) (rfN_lt hr).symm) (by
        exact TRa_n (TRa_n (TRa_n a1 w1) r1) p1)
      refine rv_J4_rotateRight_32 ?_
      simp +contextual (disch := omega) only [tr_J4_rotateRight_32, im_ic, im_lc, im_nul, im_iload, im_lload, im_aload, im_istore, im_astore, im_lstore, im_iinc, im_iadd, im_isub, im_imul, im_iand, im_ior, im_ishl, im_ishr, im_iushr, im_idiv, im_irem, im_ineg, im_i2l, im_l2i, im_i2b, im_i2s, im_ladd, im_lcmp, im_dup, im_pop, im_dup_x1, im_dup2, im_ceq, im_cne, im_clt, im_cge, im_cgt, im_cle, im_zeq, im_zne, im_zlt, im_zge, im_zgt, im_zle, im_ifnull, im_ifnn, im_acmpeq, im_acmpne, im_getI, im_getR, im_putI, im_putZ, im_putR, im_ald, im_iast, im_bast, im_sast, im_zast, im_aald, im_alen, im_new, im_newa, im_newq, im_tsw, im_lsw, tswA, lswA, im_callS_eq, im_callV_eq, chk_i, chk_T, dOk_i, tf_0, tf_n0, tf_1, tf_01, tf_F, tf_T, tf_em, tf_me, im_min, im_max, im_abs, ↓reduceIte, Int.zero_add, Int.add_zero, Int.one_mul, Int.mul_one, Int.ediv_one, Int.sub_zero, im_ireturn, im_zreturn, im_areturn, im_return, im_objinit, popI_eq, popII_eq, popJ_eq, popJJ_eq, popR_eq, popRR_eq, popV_eq, popVV_eq, popA_eq, popIA_eq, popIIA_eq, popRA_eq, popRIA_eq, getI, getJ, getR, lget_0, lget_s, nlAt, cat1, wsum, List.set_cons_zero, List.set_cons_succ, List.take_succ_cons, List.take_zero, List.drop_succ_cons, List.drop_zero, List.reverse_cons, List.reverse_nil, List.nil_append, List.cons_append, List.length_cons, List.length_nil, true_and, and_true, and_self, ne_eq, not_false_eq_true, not_true_eq_false, Classical.not_not, false_or, or_false, true_or, or_true, imp_self, forall_const, forall_eq, implies_true, true_implies, false_implies, Nat.reduceAdd, Nat.reduceLeDiff, Nat.reduceEqDiff, Nat.reduceSub, Int.reduceNeg, Int.reduceEq, Int.reduceLT, Int.reduceLE, Int.reduceNe, Int.reduceAdd, Int.reduceSub, Nat.le_refl, Nat.zero_le, reduceCtorEq, Option.some.injEq, w32_i, p1, r1, ha.1, p4, w1, w3, sT_sPut, sPut_eq, sPut_k, sPut_ne, ow, owp, ee, ee2, hc]
      exact h9
theorem rrE {n rt p i : Nat} {lf rg pr : Nat → Nat} (hpr : p ≠ lf p) (hg : p ≠ rt → pr p ≠ p ∧ pr p ≠ lf p) : upN (if p ≠ rt ∧ rg (pr p) = p then upN rg (pr p) (lf p) else rg) (lf p) p i = rrR lf rg pr rt p i ∧ (if p ≠ rt ∧ rg (pr p) ≠ p then upN (upN lf p (rg (lf p))) (pr p) (lf p) else upN lf p (rg (lf p))) i = rrL lf rg pr rt p i := by
  constructor
  · unfold rrR
    show (if i = lf p then p else (if p ≠ rt ∧ rg (pr p) = p then upN rg (pr p) (lf p) else rg) i) = _
    rw [up_if]
    by_cases a : i = lf p
    · rw [if_pos a, if_pos a]
    · rw [if_neg a, if_neg a]
      by_cases c : p ≠ rt ∧ i = pr p ∧ rg (pr p) = p
      · rw [if_pos c, if_pos ⟨⟨c.1, c.2.2⟩, c.2.1⟩]
      · rw [if_neg c, if_neg (fun z => c ⟨z.1.1, z.2, z.1.2⟩)]
  · unfold rrL
    rw [up_if]
    by_cases a : i = p
    · rw [if_pos a, if_neg (fun z => (hg z.1.1).1 (by rw [← z.2]; exact a))]
      unfold upN
      rw [if_pos a]
    · rw [if_neg a]
      by_cases c : p ≠ rt ∧ i = pr p ∧ rg (pr p) ≠ p
      · rw [if_pos c, if_pos ⟨⟨c.1, c.2.2⟩, c.2.1⟩]
      · rw [if_neg c, if_neg (fun z => c ⟨z.1.1, z.2, z.1.2⟩)]
        unfold upN
        rw [if_neg a]
theorem b_J4_rotateRight {d : Nat} {Rq : SmQ} {S : SmS} {I : SmI} {a n p rt : Nat} {nd lf rg pr lo hi : Nat → Nat} (hp9 : TRp n lf rg pr lo hi rt) (hh : TRh S n nd lf rg pr) (ha : TRa S a n nd rt) (hp : p < n) (hr : lf p < n) (hR : ∀ S' : SmS, frJ a n nd S S' → TRh S' n nd (rrL lf rg pr rt p) (rrR lf rg pr rt p) (rrP lf rg pr p) → TRa S' a n nd (if p = rt then lf p else rt) → Rq (.inl none) S' I) : SW mi_J4_rotateRight 0 d Rq [some (vR (some a)), some (vR (some (nd p))), none] [] S I := by
  obtain ⟨rt1, rt2, rt3, rt4⟩ := hp9.2.1 (by omega)
  have cr := TRp_l hp9 hp hr
  have br := TRp_b hp9 hr
  have hpr : p ≠ lf p := by omega
  have hg : Hid (p ≠ rt → pr p < n ∧ pr p ≠ p ∧ pr p ≠ lf p) := fun z => by
    obtain ⟨y0, y | y⟩ := TRp_p hp9 hp z
    · have := TRp_l hp9 y0 (by rw [y]; exact hp); rw [y] at this; refine ⟨y0, ?_, ?_⟩ <;> omega
    · have := TRp_r hp9 y0 (by rw [y]; exact hp); rw [y] at this; refine ⟨y0, ?_, ?_⟩ <;> omega
  obtain ⟨p1, p2, p3, p4⟩ := hh.2 p hp
  obtain ⟨r1, r2, r3, r4⟩ := hh.2 (lf p) hr
  have nPR : nd p ≠ nd (lf p) := fun z => hpr (hh.1 _ _ hp hr z)
  have nRP : nd (lf p) ≠ nd p := fun z => nPR z.symm
  have e3 : sP S (nd p) 2 = some (nd (lf p)) := by rw [p2, rfN_lt hr]
  by_cases hq : rg (lf p) < n
  · have eq : sP S (nd (lf p)) 3 = some (nd (rg (lf p))) := by rw [r3, rfN_lt hq]
    have hb8 := TRp_r hp9 hr hq
    have hb9 := TRp_b hp9 hq
    have nq1 : rg (lf p) ≠ p := by omega
    have nq2 : rg (lf p) ≠ lf p := by omega
    have nQP : nd (rg (lf p)) ≠ nd p := fun z => nq1 (hh.1 _ _ hq hp z)
    have nQR : nd (rg (lf p)) ≠ nd (lf p) := fun z => nq2 (hh.1 _ _ hq hr z)
    have hQ1 := (hh.2 _ hq).1
    have x1 := TRh_2 hh hp (j := rg (lf p)) (x := some (nd (rg (lf p)))) (rfN_lt hq).symm
    have x2 := TRh_4 x1 hq (j := p) (x := some (nd p)) (rfN_lt hp).symm
    have y2 : TRa (sPut (sPut S (nd p) 2 (some (nd (rg (lf p))))) (nd (rg (lf p))) 4 (some (nd p))) a n nd rt := TRa_n (TRa_n ha p1) hQ1
    have eP : upN pr (rg (lf p)) p p = pr p := by unfold upN; rw [if_neg (fun z => nq1 z.symm)]
    have h9 := rr_32 (d := d) (Rq := Rq) (S0 := S) (I := I) x2 y2 (frJ_n (frJ_n frJ_refl hp (by omega) (by omega)) hq (by omega) (by omega)) hp hr hpr (fun z => by rw [eP]; exact hg z) (fun z => by rw [eP, z]; exact rt4) (fun S' f hT hA => hR S' f (TRh_cg hT (fun i hi => by
      rw [eP]
      have ee := rrE (n := n) (rt := rt) (i := i) (lf := lf) (rg := rg) (pr := pr) hpr (fun z => (hg z).2)
      exact ⟨ee.2.symm, ee.1.symm, rfl⟩)) hA)
    refine rv_J4_rotateRight_0 ?_
    simp +contextual (disch := omega) only [tr_J4_rotateRight_0, im_ic, im_lc, im_nul, im_iload, im_lload, im_aload, im_istore, im_astore, im_lstore, im_iinc, im_iadd, im_isub, im_imul, im_iand, im_ior, im_ishl, im_ishr, im_iushr, im_idiv, im_irem, im_ineg, im_i2l, im_l2i, im_i2b, im_i2s, im_ladd, im_lcmp, im_dup, im_pop, im_dup_x1, im_dup2, im_ceq, im_cne, im_clt, im_cge, im_cgt, im_cle, im_zeq, im_zne, im_zlt, im_zge, im_zgt, im_zle, im_ifnull, im_ifnn, im_acmpeq, im_acmpne, im_getI, im_getR, im_putI, im_putZ, im_putR, im_ald, im_iast, im_bast, im_sast, im_zast, im_aald, im_alen, im_new, im_newa, im_newq, im_tsw, im_lsw, tswA, lswA, im_callS_eq, im_callV_eq, chk_i, chk_T, dOk_i, tf_0, tf_n0, tf_1, tf_01, tf_F, tf_T, tf_em, tf_me, im_min, im_max, im_abs, ↓reduceIte, Int.zero_add, Int.add_zero, Int.one_mul, Int.mul_one, Int.ediv_one, Int.sub_zero, im_ireturn, im_zreturn, im_areturn, im_return, im_objinit, popI_eq, popII_eq, popJ_eq, popJJ_eq, popR_eq, popRR_eq, popV_eq, popVV_eq, popA_eq, popIA_eq, popIIA_eq, popRA_eq, popRIA_eq, getI, getJ, getR, lget_0, lget_s, nlAt, cat1, wsum, List.set_cons_zero, List.set_cons_succ, List.take_succ_cons, List.take_zero, List.drop_succ_cons, List.drop_zero, List.reverse_cons, List.reverse_nil, List.nil_append, List.cons_append, List.length_cons, List.length_nil, true_and, and_true, and_self, ne_eq, not_false_eq_true, not_true_eq_false, Classical.not_not, false_or, or_false, true_or, or_true, imp_self, forall_const, forall_eq, implies_true, true_implies, false_implies, Nat.reduceAdd, Nat.reduceLeDiff, Nat.reduceEqDiff, Nat.reduceSub, Int.reduceNeg, Int.reduceEq, Int.reduceLT, Int.reduceLE, Int.reduceNe, Int.reduceAdd, Int.reduceSub, Nat.le_refl, Nat.zero_le, reduceCtorEq, Option.some.injEq, w32_i, p1, r1, e3, eq, hQ1, sT_sPut, sPut_eq, sPut_k, sPut_ne]
    exact h9
  · have eq : sP S (nd (lf p)) 3 = none := by rw [r3, rfN_ge hq]
    have x1 := TRh_2 hh hp (j := rg (lf p)) (x := none) (rfN_ge hq).symm
    have y1 : TRa (sPut S (nd p) 2 none) a n nd rt := TRa_n ha p1
    have h9 := rr_32 (d := d) (Rq := Rq) (S0 := S) (I := I) x1 y1 (frJ_n frJ_refl hp (by omega) (by omega)) hp hr hpr hg (fun z => by rw [z]; exact rt4) (fun S' f hT hA => hR S' f (TRh_cg hT (fun i hi => by
      have ee := rrE (n := n) (rt := rt) (i := i) (lf := lf) (rg := rg) (pr := pr) hpr (fun z => (hg z).2)
      have e4 : rrP lf rg pr p i = upN (upN pr (lf p) (pr p)) p (lf p) i := by
        unfold rrP upN
        rw [if_neg (show ¬ i = rg (lf p) from fun z => hq (by rw [← z]; exact hi))]
      exact ⟨ee.2.symm, ee.1.symm, e4⟩)) hA)
    refine rv_J4_rotateRight_0 ?_
    simp +contextual (disch := omega) only [tr_J4_rotateRight_0, im_ic, im_lc, im_nul, im_iload, im_lload, im_aload, im_istore, im_astore, im_lstore, im_iinc, im_iadd, im_isub, im_imul, im_iand, im_ior, im_ishl, im_ishr, im_iushr, im_idiv, im_irem, im_ineg, im_i2l, im_l2i, im_i2b, im_i2s, im_ladd, im_lcmp, im_dup, im_pop, im_dup_x1, im_dup2, im_ceq, im_cne, im_clt, im_cge, im_cgt, im_cle, im_zeq, im_zne, im_zlt, im_zge, im_zgt, im_zle, im_ifnull, im_ifnn, im_acmpeq, im_acmpne, im_getI, im_getR, im_putI, im_putZ, im_putR, im_ald, im_iast, im_bast, im_sast, im_zast, im_aald, im_alen, im_new, im_newa, im_newq, im_tsw, im_lsw, tswA, lswA, im_callS_eq, im_callV_eq, chk_i, chk_T, dOk_i, tf_0, tf_n0, tf_1, tf_01, tf_F, tf_T, tf_em, tf_me, im_min, im_max, im_abs, ↓reduceIte, Int.zero_add, Int.add_zero, Int.one_mul, Int.mul_one, Int.ediv_one, Int.sub_zero, im_ireturn, im_zreturn, im_areturn, im_return, im_objinit, popI_eq, popII_eq, popJ_eq, popJJ_eq, popR_eq, popRR_eq, popV_eq, popVV_eq, popA_eq, popIA_eq, popIIA_eq, popRA_eq, popRIA_eq, getI, getJ, getR, lget_0, lget_s, nlAt, cat1, wsum, List.set_cons_zero, List.set_cons_succ, List.take_succ_cons, List.take_zero, List.drop_succ_cons, List.drop_zero, List.reverse_cons, List.reverse_nil, List.nil_append, List.cons_append, List.length_cons, List.length_nil, true_and, and_true, and_self, ne_eq, not_false_eq_true, not_true_eq_false, Classical.not_not, false_or, or_false, true_or, or_true, imp_self, forall_const, forall_eq, implies_true, true_implies, false_implies, Nat.reduceAdd, Nat.reduceLeDiff, Nat.reduceEqDiff, Nat.reduceSub, Int.reduceNeg, Int.reduceEq, Int.reduceLT, Int.reduceLE, Int.reduceNe, Int.reduceAdd, Int.reduceSub, Nat.le_refl, Nat.zero_le, reduceCtorEq, Option.some.injEq, w32_i, p1, r1, e3, eq, sT_sPut, sPut_eq, sPut_k, sPut_ne]
    exact h9
theorem c_J4_rotateRight {d : Nat} {Rq : SmQ} {S : SmS} {I : SmI} {a n p rt : Nat} {nd lf rg pr lo hi : Nat → Nat} (hp9 : TRp n lf rg pr lo hi rt) (hh : TRh S n nd lf rg pr) (ha : TRa S a n nd rt) (hp : p < n) (hr : lf p < n) (hR : ∀ S' : SmS, frJ a n nd S S' → TRh S' n nd (rrL lf rg pr rt p) (rrR lf rg pr rt p) (rrP lf rg pr p) → TRa S' a n nd (if p = rt then lf p else rt) → Rq (.inl none) S' I) : SC mi_J4_rotateRight d [vR (some a), vR (some (nd p))] S I Rq := SC_of0 (Nat.le_of_ble_eq_true rfl) (b_J4_rotateRight (S := sBud S 0 0) hp9 hh ha hp hr (fun S' f9 => hR (sBud S' (sC S) (sB S))  (frJ_bud f9)))