/-! explore: all that can be come to, and what of it is safe -/
set_option maxRecDepth 100000
theorem iSet_eq {I : SmI} {a : Nat} {k x : Int} : iSet I a k x a k = x := by rw [iSet_ap, if_pos ⟨rfl, rfl⟩]
def mOk (J : SmI) : Prop := trB J ∧ ∀ p : Int, 0 ≤ p → p < 6 → 0 ≤ J 107 (4 + 5 * p) ∧ J 107 (4 + 5 * p) ≤ 3
theorem mvb {I J : SmI} {c t : Int} (hJ : I 107 = J 107) (hm : mOk J) (hc : okP J c) (hs : ∀ k : Int, 0 ≤ k → k < 4 → I 113 k = dgt c k) (h0 : 0 ≤ t) (h1 : t < J 107 1) : (t < I 107 1 ∧ I 107 1 ≤ 4) ∧ (∀ k : Int, 0 ≤ k → k < 4 → 0 ≤ I 113 k ∧ I 113 k < 7) ∧ (I 113 t ≠ 0 → 0 ≤ mNx I t (I 113 t - 1) ∧ mNx I t (I 113 t - 1) < 6) ∧ (∀ p : Int, 0 ≤ p → p < 6 → 0 ≤ I 107 (4 + 5 * p) ∧ I 107 (4 + 5 * p) ≤ 3) ∧ mMv I t = mvP J c t := by
  have n4 := hm.1.1.2
  refine ⟨by rw [hJ]; exact ⟨h1, n4⟩, fun k k0 k1 => by rw [hs k k0 k1]; exact dgt_in c k, fun e => ?_, by rw [hJ]; exact hm.2, mMv_eq hJ n4 h0 (by omega) hs⟩
  rw [hs t h0 (by omega)] at e ⊢
  obtain ⟨a, w⟩ := hc.2 t h0 (by omega) e
  have q := hm.1.2 t h0 a
  unfold onWay at w
  unfold mNx
  rw [hJ]
  split <;> omega
def frE (J I : SmI) : Prop := (∀ b : Nat, b ≠ 106 → b ≠ 113 → b ≠ 114 → b ≠ 115 → b ≠ 116 → I b = J b) ∧ ∀ k : Int, k ≠ 17 → I 106 k = J 106 k
theorem frE_st {J I : SmI} (h : frE J I) : I 107 = J 107 := h.1 107 (by decide) (by decide) (by decide) (by decide) (by decide)
theorem frE_refl {J : SmI} : frE J J := ⟨fun _ _ _ _ _ _ => rfl, fun _ _ => rfl⟩
theorem frE_trans {J I I' : SmI} (h : frE J I) (h2 : frE I I') : frE J I' := ⟨fun b a1 a2 a3 a4 a5 => (h2.1 b a1 a2 a3 a4 a5).trans (h.1 b a1 a2 a3 a4 a5), fun k hk => (h2.2 k hk).trans (h.2 k hk)⟩
theorem frE_set {J I : SmI} {a : Nat} {k x : Int} (h : frE J I) (ha : a = 113 ∨ a = 114 ∨ a = 115 ∨ a = 116) : frE J (iSet I a k x) := by
  refine ⟨fun b a1 a2 a3 a4 a5 => ?_, fun j hj => ?_⟩
  · rw [iSet_ne (by omega)]; exact h.1 b a1 a2 a3 a4 a5
  · rw [iSet_ne (by omega)]; exact h.2 j hj
theorem frE_q {J I : SmI} {x : Int} (h : frE J I) : frE J (iSet I 106 17 x) := by
  refine ⟨fun b a1 a2 a3 a4 a5 => ?_, fun j hj => ?_⟩
  · rw [iSet_ne a1]; exact h.1 b a1 a2 a3 a4 a5
  · rw [iSet_ap, if_neg (fun z => hj z.2)]; exact h.2 j hj
theorem frE_sp {J I I' : SmI} (h : frE J I) (h2 : ∀ b : Nat, b ≠ 113 → I' b = I b) : frE J I' := ⟨fun b a1 a2 a3 a4 a5 => (h2 b a2).trans (h.1 b a1 a2 a3 a4 a5), fun k hk => by rw [h2 106 (by decide)]; exact h.2 k hk⟩
theorem c_X6_decode' {d : Nat} {Rq : SmQ} {S : SmS} {I : SmI} {c : Int} (hM : MSk S) (h0 : 0 ≤ c) (h1 : c < 2401) (hR : ∀ I' : SmI, (∀ b : Nat, b ≠ 113 → I' b = I b) → (∀ k : Int, 0 ≤ k → k < 4 → I' 113 k = dgt c k) → Rq (.inl none) S I') : SC mi_X6_decode (d + 1) [vR (some 106), vI c] S I Rq := by
  refine c_X6_decode hM h0 h1 (hR _ (fun b hb => ?_) (fun k k0 k1 => ?_))
  · rw [iSet_ne hb, iSet_ne hb, iSet_ne hb, iSet_ne hb]
  · rcases i4 k0 k1 with rfl | rfl | rfl | rfl <;> simp [iSet_ap, dgt, w7_0, w7_1, w7_2, w7_3]
def xInv (J : SmI) (c k n : Int) (I : SmI) : Prop :=
  frE J I ∧ I 106 17 = n ∧ (1 ≤ n ∧ n ≤ 2401) ∧ I 114 0 = c ∧
  (∀ j : Int, 0 ≤ j → j < n → okP J (I 114 j) ∧ rchP J c (I 114 j)) ∧
  (∀ i j : Int, 0 ≤ i → i < n → 0 ≤ j → j < n → I 114 i = I 114 j → i = j) ∧
  (∀ i j : Int, 0 ≤ i → i ≤ j → j < n → lfC J (I 114 j) ≤ lfC J (I 114 i)) ∧
  (∀ x : Int, 0 ≤ x → x < 2401 → I 115 x = tf (∃ j : Int, 0 ≤ j ∧ j < n ∧ I 114 j = x)) ∧
  (∀ j : Int, 0 ≤ j → j < k → ∀ b, stpP J (I 114 j) b → ∃ i : Int, 0 ≤ i ∧ i < n ∧ I 114 i = b)
def xLev (J : SmI) (k n : Int) (I : SmI) : Prop := ∀ j : Int, 0 ≤ j → j < n → lfC J (I 114 k) - 1 ≤ lfC J (I 114 j)
theorem xInv_sp {J : SmI} {c k n : Int} {I I' : SmI} (h : xInv J c k n I) (h2 : ∀ b : Nat, b ≠ 113 → I' b = I b) : xInv J c k n I' := by
  obtain ⟨a1, a2, a3, a4, a5, a6, a7, a8, a9⟩ := h
  unfold xInv
  rw [h2 106 (by decide), h2 114 (by decide), h2 115 (by decide)]
  exact ⟨frE_sp a1 h2, a2, a3, a4, a5, a6, a7, a8, a9⟩
theorem xInv_sf {J : SmI} {c k n x y : Int} {I : SmI} (h : xInv J c k n I) : xInv J c k n (iSet I 116 x y) := by
  obtain ⟨a1, a2, a3, a4, a5, a6, a7, a8, a9⟩ := h
  unfold xInv
  rw [iSet_ne (v := 106) (by decide), iSet_ne (v := 114) (by decide), iSet_ne (v := 115) (by decide)]
  exact ⟨frE_set a1 (Or.inr (Or.inr (Or.inr rfl))), a2, a3, a4, a5, a6, a7, a8, a9⟩
/-- one more in the queue -/
theorem xInv_push {J : SmI} {c k n b : Int} {I : SmI} (hb : trB J) (h : xInv J c k n I) (k0 : 0 ≤ k) (k1 : k < n) (hl : xLev J k n I) (hs : stpP J (I 114 k) b) (hn : I 115 b = 0) : n < 2401 ∧ xInv J c k (n + 1) (iSet (iSet (iSet I 115 b 1) 114 n b) 106 17 (n + 1)) ∧ xLev J k (n + 1) (iSet (iSet (iSet I 115 b 1) 114 n b) 106 17 (n + 1)) := by
  obtain ⟨a1, a2, a3, a4, a5, a6, a7, a8, a9⟩ := h
  have hk := a5 k k0 k1
  have hs2 := stpP_ok hb hk.1 hs
  have hb1 := hs2.1.1
  have hnew : ¬ ∃ j : Int, 0 ≤ j ∧ j < n ∧ I 114 j = b := by
    rw [a8 b hb1.1 hb1.2] at hn
    exact tf_0.mp hn
  have eq : (iSet (iSet (iSet I 115 b 1) 114 n b) 106 17 (n + 1)) 114 = updD (I 114) n b := by
    funext j
    rw [iSet_ne (by decide), iSet_ap, iSet_ne (by decide)]
    unfold updD
    by_cases e : j = n
    · rw [if_pos ⟨rfl, e⟩, if_pos e]
    · rw [if_neg (fun z => e z.2), if_neg e]
  have es : ∀ x, (iSet (iSet (iSet I 115 b 1) 114 n b) 106 17 (n + 1)) 115 x = if x = b then 1 else I 115 x := fun x => by
    rw [iSet_ne (by decide), iSet_ne (by decide), iSet_ap]
    by_cases e : x = b
    · rw [if_pos ⟨rfl, e⟩, if_pos e]
    · rw [if_neg (fun z => e z.2), if_neg e]
  have eo : ∀ j : Int, j < n → updD (I 114) n b j = I 114 j := fun j hj => updD_ne (by omega)
  have en : updD (I 114) n b n = b := updD_same
  have inj : ∀ i j : Int, 0 ≤ i → i < n + 1 → 0 ≤ j → j < n + 1 → updD (I 114) n b i = updD (I 114) n b j → i = j := by
    intro i j i0 i1 j0 j1 e
    by_cases hi : i = n
    · by_cases hj : j = n
      · omega
      · rw [hi, en, eo j (by omega)] at e
        exact absurd ⟨j, j0, by omega, e.symm⟩ hnew
    · by_cases hj : j = n
      · rw [hj, en, eo i (by omega)] at e
        exact absurd ⟨i, i0, by omega, e⟩ hnew
      · rw [eo i (by omega), eo j (by omega)] at e
        exact a6 i j i0 (by omega) j0 (by omega) e
  have hle := inj_le (f := updD (I 114) n b) (N := 2401) (n := n.toNat + 1) (fun j hj => by
      by_cases e : (j : Int) = n
      · rw [e, en]; omega
      · rw [eo j (by omega)]
        have := (a5 j (by omega) (by omega)).1.1
        omega) (fun i j hi hj e => by
      have := inj i j (by omega) (by omega) (by omega) (by omega) e
      omega)
  have hlb : ∀ j : Int, 0 ≤ j → j < n → lfC J b ≤ lfC J (I 114 j) := fun j j0 j1 => by
    have := hl j j0 j1
    omega
  refine ⟨by omega, ?_, ?_⟩
  · unfold xInv
    rw [eq]
    refine ⟨frE_q (frE_set (frE_set a1 (by omega)) (by omega)), by rw [iSet_ap, if_pos ⟨rfl, rfl⟩], by omega, by rw [eo 0 (by omega)]; exact a4, ?_, inj, ?_, ?_, ?_⟩
    · intro j j0 j1
      by_cases e : j = n
      · rw [e, en]
        exact ⟨hs2.1, rchP_snoc hk.2 hs⟩
      · rw [eo j (by omega)]
        exact a5 j j0 (by omega)
    · intro i j i0 ij j1
      by_cases e : j = n
      · by_cases e2 : i = n
        · rw [e, e2]; exact Int.le_refl _
        · rw [e, en, eo i (by omega)]
          exact hlb i i0 (by omega)
      · rw [eo j (by omega), eo i (by omega)]
        exact a7 i j i0 ij (by omega)
    · intro x x0 x1
      rw [es]
      by_cases e : x = b
      · rw [if_pos e, tf_t ⟨n, by omega, by omega, by rw [en, e]⟩]
      · rw [if_neg e, a8 x x0 x1]
        refine tf_iff ⟨fun ⟨j, j0, j1, q⟩ => ⟨j, j0, by omega, by rw [eo j j1]; exact q⟩, fun ⟨j, j0, j1, q⟩ => ?_⟩
        by_cases e2 : j = n
        · rw [e2, en] at q
          exact absurd q.symm e
        · rw [eo j (by omega)] at q
          exact ⟨j, j0, by omega, q⟩
    · intro j j0 j1 y hy
      rw [eo j (by omega)] at hy
      obtain ⟨i, i0, i1, q⟩ := a9 j j0 j1 y hy
      exact ⟨i, i0, by omega, by rw [eo i i1]; exact q⟩
  · unfold xLev
    rw [eq]
    intro j j0 j1
    rw [eo k k1]
    by_cases e : j = n
    · rw [e, en, hs2.2]
      exact Int.le_refl _
    · rw [eo j (by omega)]
      exact hl j j0 (by omega)
/-- what explore leaves -/
def expl (J : SmI) (c : Int) (I : SmI) : Prop := frE J I ∧ (1 ≤ I 106 17 ∧ I 106 17 ≤ 2401) ∧ (∀ j : Int, 0 ≤ j → j < I 106 17 → okP J (I 114 j) ∧ rchP J c (I 114 j)) ∧ (∀ i j : Int, 0 ≤ i → i < I 106 17 → 0 ≤ j → j < I 106 17 → I 114 i = I 114 j → i = j) ∧ (∀ b, rchP J c b → ∃ j : Int, 0 ≤ j ∧ j < I 106 17 ∧ I 114 j = b) ∧ ∀ b, rchP J c b → I 116 b = tf (safP J b)
/-- a queue that is closed holds all that can be come to -/
theorem xInv_all {J : SmI} {c n : Int} {I : SmI} (h : xInv J c n n I) {b : Int} (hr : rchP J c b) : ∃ j : Int, 0 ≤ j ∧ j < n ∧ I 114 j = b := by
  obtain ⟨a1, a2, a3, a4, a5, a6, a7, a8, a9⟩ := h
  have key : ∀ (m : Nat) (x : Int), (∃ j : Int, 0 ≤ j ∧ j < n ∧ I 114 j = x) → rcN J m x b → ∃ j : Int, 0 ≤ j ∧ j < n ∧ I 114 j = b := by
    intro m
    induction m with
    | zero => intro x hx e; cases e; exact hx
    | succ m ih =>
      rintro x ⟨j, j0, j1, rfl⟩ ⟨y, hy, e⟩
      exact ih y (a9 j j0 j1 y hy) e
  obtain ⟨m, hr⟩ := hr
  exact key m c ⟨0, by omega, by omega, a4⟩ hr
theorem b_X6_explore {d : Nat} {Rq : SmQ} {S : SmS} {I : SmI} {c : Int} (hM : MSk S) (hm : mOk I) (hc : okP I c) (hR : ∀ I' : SmI, expl I c I' → Rq (.inl none) S I') : SW mi_X6_explore 0 (d + 4) Rq [some (vR (some 106)), some (vI c), none, none, none, none] [] S I := by
  have n4 := hm.1.1
  -- the second loop
  have h152 : ∀ (n : Int) (I' : SmI), xInv I c n n I' → SW mi_X6_explore 152 (d + 4) Rq [some (vR (some 106)), some (vI c), some (vI (n - 1)), none, none, none] [] S I' := by
    intro n I0 hI0
    have hn := hI0.2.2.1
    have loop := loop_up (P := fun (i : Nat) => ∀ I' : SmI, xInv I c n n I' → (∀ j : Int, n - i ≤ j → j < n → I' 116 (I' 114 j) = tf (safP I (I' 114 j))) → SW mi_X6_explore 152 (d + 4) Rq [some (vR (some 106)), some (vI c), some (vI (n - 1 - i)), none, none, none] [] S I') (n := n.toNat) ?_ ?_
    · have := loop I0 hI0 (fun j j0 j1 => absurd j1 (by simp at j0; omega))
      refine SW_as this ?_ (by first | rfl | grind) (by first | rfl | grind) (by first | rfl | grind)
      simp only [leL_nil, leL_none, leL_some, Option.some.injEq, vI_inj, vR_inj, true_and, and_true]
      try grind
    · intro I' hI hs
      refine rv_X6_explore_152 ?_
      simp +contextual (disch := omega) only [tr_X6_explore_152, im_ic, im_lc, im_nul, im_iload, im_lload, im_aload, im_istore, im_astore, im_lstore, im_iinc, im_iadd, im_isub, im_imul, im_iand, im_ior, im_ishl, im_ishr, im_iushr, im_idiv, im_irem, im_ineg, im_i2l, im_l2i, im_i2b, im_i2s, im_ladd, im_lcmp, im_dup, im_pop, im_dup_x1, im_dup2, im_ceq, im_cne, im_clt, im_cge, im_cgt, im_cle, im_zeq, im_zne, im_zlt, im_zge, im_zgt, im_zle, im_ifnull, im_ifnn, im_acmpeq, im_acmpne, im_getI, im_getR, im_putI, im_putZ, im_putR, im_ald, im_iast, im_bast, im_sast, im_zast, im_aald, im_alen, im_new, im_newa, im_newq, im_tsw, im_lsw, tswA, lswA, im_callS_eq, im_callV_eq, chk_i, chk_T, dOk_i, tf_0, tf_n0, tf_1, tf_01, tf_F, tf_T, tf_em, tf_me, ↓reduceIte, Int.zero_add, Int.add_zero, Int.one_mul, Int.mul_one, Int.ediv_one, Int.sub_zero, im_ireturn, im_zreturn, im_areturn, im_return, im_objinit, popI_eq, popII_eq, popJ_eq, popJJ_eq, popR_eq, popRR_eq, popV_eq, popVV_eq, popA_eq, popIA_eq, popIIA_eq, popRA_eq, popRIA_eq, getI, getJ, getR, lget_0, lget_s, nlAt, cat1, wsum, List.set_cons_zero, List.set_cons_succ, List.take_succ_cons, List.take_zero, List.drop_succ_cons, List.drop_zero, List.reverse_cons, List.reverse_nil, List.nil_append, List.cons_append, List.length_cons, List.length_nil, true_and, and_true, and_self, ne_eq, not_false_eq_true, not_true_eq_false, Classical.not_not, false_or, or_false, true_or, or_true, imp_self, forall_const, forall_eq, implies_true, true_implies, false_implies, Nat.reduceAdd, Nat.reduceLeDiff, Nat.reduceEqDiff, Nat.reduceSub, Int.reduceNeg, Int.reduceEq, Int.reduceLT, Int.reduceLE, Int.reduceNe, Int.reduceAdd, Int.reduceSub, Nat.le_refl, Nat.zero_le, reduceCtorEq, Option.some.injEq, w32_i, MSk_t106 hM, MSk_p0 hM, MSk_t107 hM, MSk_n107 hM, MSk_p1 hM, MSk_t108 hM, MSk_n108 hM, MSk_p2 hM, MSk_t109 hM, MSk_n109 hM, MSk_p3 hM, MSk_t110 hM, MSk_n110 hM, MSk_p4 hM, MSk_t111 hM, MSk_n111 hM, MSk_p5 hM, MSk_t112 hM, MSk_n112 hM, MSk_p13 hM, MSk_t113 hM, MSk_n113 hM, MSk_p14 hM, MSk_t114 hM, MSk_n114 hM, MSk_p15 hM, MSk_t115 hM, MSk_n115 hM, MSk_p16 hM, MSk_t116 hM, MSk_n116 hM, MSk_p18 hM, MSk_t117 hM, MSk_n117 hM, MSk_p20 hM, MSk_t118 hM, MSk_n118 hM, MSk_p21 hM, MSk_t119 hM, MSk_n119 hM, MSk_p22 hM, MSk_t120 hM, MSk_n120 hM]
      refine ⟨fun _ => ?_, fun h => absurd h (by omega)⟩
      have hi := hI
      obtain ⟨a1, a2, a3, a4, a5, a6, a7, a8, a9⟩ := hI
      refine hR I' ⟨a1, by rw [a2]; exact a3, by rw [a2]; exact a5, by rw [a2]; exact a6, fun b hb => by rw [a2]; exact xInv_all hi hb, fun b hb => ?_⟩
      obtain ⟨j, j0, j1, rfl⟩ := xInv_all hi hb
      exact hs j (by omega) j1
    · intro i hi ih I' hI hs
      have hI2 := hI
      obtain ⟨a1, a2, a3, a4, a5, a6, a7, a8, a9⟩ := hI
      have hJ := frE_st a1
      have hq := a5 (n - 1 - i) (by omega) (by omega)
      have hqb := hq.1.1
      refine rv_X6_explore_152 ?_
      simp +contextual (disch := omega) only [tr_X6_explore_152, im_ic, im_lc, im_nul, im_iload, im_lload, im_aload, im_istore, im_astore, im_lstore, im_iinc, im_iadd, im_isub, im_imul, im_iand, im_ior, im_ishl, im_ishr, im_iushr, im_idiv, im_irem, im_ineg, im_i2l, im_l2i, im_i2b, im_i2s, im_ladd, im_lcmp, im_dup, im_pop, im_dup_x1, im_dup2, im_ceq, im_cne, im_clt, im_cge, im_cgt, im_cle, im_zeq, im_zne, im_zlt, im_zge, im_zgt, im_zle, im_ifnull, im_ifnn, im_acmpeq, im_acmpne, im_getI, im_getR, im_putI, im_putZ, im_putR, im_ald, im_iast, im_bast, im_sast, im_zast, im_aald, im_alen, im_new, im_newa, im_newq, im_tsw, im_lsw, tswA, lswA, im_callS_eq, im_callV_eq, chk_i, chk_T, dOk_i, tf_0, tf_n0, tf_1, tf_01, tf_F, tf_T, tf_em, tf_me, ↓reduceIte, Int.zero_add, Int.add_zero, Int.one_mul, Int.mul_one, Int.ediv_one, Int.sub_zero, im_ireturn, im_zreturn, im_areturn, im_return, im_objinit, popI_eq, popII_eq, popJ_eq, popJJ_eq, popR_eq, popRR_eq, popV_eq, popVV_eq, popA_eq, popIA_eq, popIIA_eq, popRA_eq, popRIA_eq, getI, getJ, getR, lget_0, lget_s, nlAt, cat1, wsum, List.set_cons_zero, List.set_cons_succ, List.take_succ_cons, List.take_zero, List.drop_succ_cons, List.drop_zero, List.reverse_cons, List.reverse_nil, List.nil_append, List.cons_append, List.length_cons, List.length_nil, true_and, and_true, and_self, ne_eq, not_false_eq_true, not_true_eq_false, Classical.not_not, false_or, or_false, true_or, or_true, imp_self, forall_const, forall_eq, implies_true, true_implies, false_implies, Nat.reduceAdd, Nat.reduceLeDiff, Nat.reduceEqDiff, Nat.reduceSub, Int.reduceNeg, Int.reduceEq, Int.reduceLT, Int.reduceLE, Int.reduceNe, Int.reduceAdd, Int.reduceSub, Nat.le_refl, Nat.zero_le, reduceCtorEq, Option.some.injEq, w32_i, MSk_t106 hM, MSk_p0 hM, MSk_t107 hM, MSk_n107 hM, MSk_p1 hM, MSk_t108 hM, MSk_n108 hM, MSk_p2 hM, MSk_t109 hM, MSk_n109 hM, MSk_p3 hM, MSk_t110 hM, MSk_n110 hM, MSk_p4 hM, MSk_t111 hM, MSk_n111 hM, MSk_p5 hM, MSk_t112 hM, MSk_n112 hM, MSk_p13 hM, MSk_t113 hM, MSk_n113 hM, MSk_p14 hM, MSk_t114 hM, MSk_n114 hM, MSk_p15 hM, MSk_t115 hM, MSk_n115 hM, MSk_p16 hM, MSk_t116 hM, MSk_n116 hM, MSk_p18 hM, MSk_t117 hM, MSk_n117 hM, MSk_p20 hM, MSk_t118 hM, MSk_n118 hM, MSk_p21 hM, MSk_t119 hM, MSk_n119 hM, MSk_p22 hM, MSk_t120 hM, MSk_n120 hM]
      refine ⟨fun h => absurd h (by omega), fun _ => ?_⟩
      refine c_X6_decode' hM hqb.1 hqb.2 (fun I2 f1 f2 => ?_)
      rw [retK_n]
      have hJ2 : I2 107 = I 107 := (f1 107 (by decide)).trans hJ
      have hQ2 : I2 114 = I' 114 := f1 114 (by decide)
      have hF2 : I2 116 = I' 116 := f1 116 (by decide)
      have hX2 := xInv_sp hI2 f1
      have l184 : ∀ fl : Int, fl = tf (I' 114 (n - 1 - i) = 0 ∨ ∃ t : Int, 0 ≤ t ∧ t < 0 ∧ mvP I (I' 114 (n - 1 - i)) t ≠ -4 ∧ safP I (mvP I (I' 114 (n - 1 - i)) t)) → SW mi_X6_explore 184 (d + 4) Rq [some (vR (some 106)), some (vI c), some (vI (n - 1 - i)), some (vI fl), some (vI 0), none] [] S I2 := by
        refine loop_up (P := fun (t : Nat) => ∀ fl : Int, fl = tf (I' 114 (n - 1 - i) = 0 ∨ ∃ t' : Int, 0 ≤ t' ∧ t' < t ∧ mvP I (I' 114 (n - 1 - i)) t' ≠ -4 ∧ safP I (mvP I (I' 114 (n - 1 - i)) t')) → SW mi_X6_explore 184 (d + 4) Rq [some (vR (some 106)), some (vI c), some (vI (n - 1 - i)), some (vI fl), some (vI t), none] [] S I2) (n := (I 107 1).toNat) ?_ ?_
        · intro fl hfl
          have e : fl = tf (safP I (I' 114 (n - 1 - i))) := by
            rw [hfl]
            refine tf_iff ?_
            rw [safP_iff]
            refine or_congr Iff.rfl ⟨fun ⟨t, t0, t1, t2, t3⟩ => ⟨_, ⟨t, t0, by omega, t2, rfl⟩, t3⟩, fun ⟨b, ⟨t, t0, t1, t2, t3⟩, q⟩ => ⟨t, t0, by omega, t2, t3 ▸ q⟩⟩
          have e01 : fl = 0 ∨ fl = 1 := by rw [e]; exact tf_01'
          refine rv_X6_explore_184 ?_
          simp +contextual (disch := omega) only [tr_X6_explore_184, im_ic, im_lc, im_nul, im_iload, im_lload, im_aload, im_istore, im_astore, im_lstore, im_iinc, im_iadd, im_isub, im_imul, im_iand, im_ior, im_ishl, im_ishr, im_iushr, im_idiv, im_irem, im_ineg, im_i2l, im_l2i, im_i2b, im_i2s, im_ladd, im_lcmp, im_dup, im_pop, im_dup_x1, im_dup2, im_ceq, im_cne, im_clt, im_cge, im_cgt, im_cle, im_zeq, im_zne, im_zlt, im_zge, im_zgt, im_zle, im_ifnull, im_ifnn, im_acmpeq, im_acmpne, im_getI, im_getR, im_putI, im_putZ, im_putR, im_ald, im_iast, im_bast, im_sast, im_zast, im_aald, im_alen, im_new, im_newa, im_newq, im_tsw, im_lsw, tswA, lswA, im_callS_eq, im_callV_eq, chk_i, chk_T, dOk_i, tf_0, tf_n0, tf_1, tf_01, tf_F, tf_T, tf_em, tf_me, ↓reduceIte, Int.zero_add, Int.add_zero, Int.one_mul, Int.mul_one, Int.ediv_one, Int.sub_zero, im_ireturn, im_zreturn, im_areturn, im_return, im_objinit, popI_eq, popII_eq, popJ_eq, popJJ_eq, popR_eq, popRR_eq, popV_eq, popVV_eq, popA_eq, popIA_eq, popIIA_eq, popRA_eq, popRIA_eq, getI, getJ, getR, lget_0, lget_s, nlAt, cat1, wsum, List.set_cons_zero, List.set_cons_succ, List.take_succ_cons, List.take_zero, List.drop_succ_cons, List.drop_zero, List.reverse_cons, List.reverse_nil, List.nil_append, List.cons_append, List.length_cons, List.length_nil, true_and, and_true, and_self, ne_eq, not_false_eq_true, not_true_eq_false, Classical.not_not, false_or, or_false, true_or, or_true, imp_self, forall_const, forall_eq, implies_true, true_implies, false_implies, Nat.reduceAdd, Nat.reduceLeDiff, Nat.reduceEqDiff, Nat.reduceSub, Int.reduceNeg, Int.reduceEq, Int.reduceLT, Int.reduceLE, Int.reduceNe, Int.reduceAdd, Int.reduceSub, Nat.le_refl, Nat.zero_le, reduceCtorEq, Option.some.injEq, w32_i, MSk_t106 hM, MSk_p0 hM, MSk_t107 hM, MSk_n107 hM, MSk_p1 hM, MSk_t108 hM, MSk_n108 hM, MSk_p2 hM, MSk_t109 hM, MSk_n109 hM, MSk_p3 hM, MSk_t110 hM, MSk_n110 hM, MSk_p4 hM, MSk_t111 hM, MSk_n111 hM, MSk_p5 hM, MSk_t112 hM, MSk_n112 hM, MSk_p13 hM, MSk_t113 hM, MSk_n113 hM, MSk_p14 hM, MSk_t114 hM, MSk_n114 hM, MSk_p15 hM, MSk_t115 hM, MSk_n115 hM, MSk_p16 hM, MSk_t116 hM, MSk_n116 hM, MSk_p18 hM, MSk_t117 hM, MSk_n117 hM, MSk_p20 hM, MSk_t118 hM, MSk_n118 hM, MSk_p21 hM, MSk_t119 hM, MSk_n119 hM, MSk_p22 hM, MSk_t120 hM, MSk_n120 hM, hJ2, hQ2, e01]
          refine ⟨fun _ => ?_, fun h => absurd h (by omega)⟩
          have := ih (iSet I2 116 (I' 114 (n - 1 - i)) fl) (xInv_sf hX2) (fun j j0 j1 => ?_)
          · refine SW_as this ?_ (by first | rfl | grind) (by first | rfl | grind) (by first | rfl | grind)
            simp only [leL_nil, leL_none, leL_some, Option.some.injEq, vI_inj, vR_inj, true_and, and_true]
            try grind
          · rw [iSet_ne (v := 114) (by decide), hQ2, iSet_ap]
            by_cases ej : I' 114 j = I' 114 (n - 1 - i)
            · rw [if_pos ⟨rfl, ej⟩, ej, e]
            · rw [if_neg (fun z => ej z.2), hF2]
              refine hs j ?_ j1
              by_cases e3 : j = n - 1 - i
              · exact absurd (by rw [e3]) ej
              · omega
        · intro t ht jh fl hfl
          obtain ⟨m1, m2, m3, m4, m5⟩ := mvb (c := I' 114 (n - 1 - i)) (t := t) hJ2 hm hq.1 f2 (by omega) (by omega)
          have up : ∀ fl2 : Int, fl2 = tf (I' 114 (n - 1 - i) = 0 ∨ ∃ t' : Int, 0 ≤ t' ∧ t' < t + 1 ∧ mvP I (I' 114 (n - 1 - i)) t' ≠ -4 ∧ safP I (mvP I (I' 114 (n - 1 - i)) t')) → ∀ z : Int, SW mi_X6_explore 184 (d + 4) Rq [some (vR (some 106)), some (vI c), some (vI (n - 1 - i)), some (vI fl2), some (vI (t + 1)), some (vI z)] [] S I2 := by
            intro fl2 h2 z
            have := jh fl2 h2
            refine SW_as this ?_ (by first | rfl | grind) (by first | rfl | grind) (by first | rfl | grind)
            simp only [leL_nil, leL_none, leL_some, Option.some.injEq, vI_inj, vR_inj, true_and, and_true]
            try grind
          have old : tf (I' 114 (n - 1 - i) = 0 ∨ ∃ t' : Int, 0 ≤ t' ∧ t' < t + 1 ∧ mvP I (I' 114 (n - 1 - i)) t' ≠ -4 ∧ safP I (mvP I (I' 114 (n - 1 - i)) t')) = tf ((I' 114 (n - 1 - i) = 0 ∨ ∃ t' : Int, 0 ≤ t' ∧ t' < t ∧ mvP I (I' 114 (n - 1 - i)) t' ≠ -4 ∧ safP I (mvP I (I' 114 (n - 1 - i)) t')) ∨ mvP I (I' 114 (n - 1 - i)) t ≠ -4 ∧ safP I (mvP I (I' 114 (n - 1 - i)) t)) := by
            refine tf_iff ⟨fun q => ?_, fun q => ?_⟩
            · rcases q with q | ⟨t', t0, t1, q⟩
              · exact Or.inl (Or.inl q)
              · by_cases e : t' = t
                · rw [e] at q; exact Or.inr q
                · exact Or.inl (Or.inr ⟨t', t0, by omega, q⟩)
            · rcases q with (q | ⟨t', t0, t1, q⟩) | q
              · exact Or.inl q
              · exact Or.inr ⟨t', t0, by omega, q⟩
              · exact Or.inr ⟨t, by omega, by omega, q⟩
          have hto : mvP I (I' 114 (n - 1 - i)) t ≠ -4 → (0 ≤ mvP I (I' 114 (n - 1 - i)) t ∧ mvP I (I' 114 (n - 1 - i)) t < 2401) ∧ I' 116 (mvP I (I' 114 (n - 1 - i)) t) = tf (safP I (mvP I (I' 114 (n - 1 - i)) t)) := by
            intro hne
            have hst : stpP I (I' 114 (n - 1 - i)) (mvP I (I' 114 (n - 1 - i)) t) := ⟨t, by omega, by omega, hne, rfl⟩
            have h7 := stpP_ok hm.1 hq.1 hst
            obtain ⟨j, j0, j1, ej⟩ := a9 (n - 1 - i) (by omega) (by omega) _ hst
            refine ⟨h7.1.1, ?_⟩
            rw [← ej]
            refine hs j ?_ j1
            by_cases hj : j ≤ n - 1 - i
            · have := a7 j (n - 1 - i) j0 hj (by omega)
              rw [ej, h7.2] at this
              omega
            · omega
          refine rv_X6_explore_184 ?_
          simp +contextual (disch := omega) only [tr_X6_explore_184, im_ic, im_lc, im_nul, im_iload, im_lload, im_aload, im_istore, im_astore, im_lstore, im_iinc, im_iadd, im_isub, im_imul, im_iand, im_ior, im_ishl, im_ishr, im_iushr, im_idiv, im_irem, im_ineg, im_i2l, im_l2i, im_i2b, im_i2s, im_ladd, im_lcmp, im_dup, im_pop, im_dup_x1, im_dup2, im_ceq, im_cne, im_clt, im_cge, im_cgt, im_cle, im_zeq, im_zne, im_zlt, im_zge, im_zgt, im_zle, im_ifnull, im_ifnn, im_acmpeq, im_acmpne, im_getI, im_getR, im_putI, im_putZ, im_putR, im_ald, im_iast, im_bast, im_sast, im_zast, im_aald, im_alen, im_new, im_newa, im_newq, im_tsw, im_lsw, tswA, lswA, im_callS_eq, im_callV_eq, chk_i, chk_T, dOk_i, tf_0, tf_n0, tf_1, tf_01, tf_F, tf_T, tf_em, tf_me, ↓reduceIte, Int.zero_add, Int.add_zero, Int.one_mul, Int.mul_one, Int.ediv_one, Int.sub_zero, im_ireturn, im_zreturn, im_areturn, im_return, im_objinit, popI_eq, popII_eq, popJ_eq, popJJ_eq, popR_eq, popRR_eq, popV_eq, popVV_eq, popA_eq, popIA_eq, popIIA_eq, popRA_eq, popRIA_eq, getI, getJ, getR, lget_0, lget_s, nlAt, cat1, wsum, List.set_cons_zero, List.set_cons_succ, List.take_succ_cons, List.take_zero, List.drop_succ_cons, List.drop_zero, List.reverse_cons, List.reverse_nil, List.nil_append, List.cons_append, List.length_cons, List.length_nil, true_and, and_true, and_self, ne_eq, not_false_eq_true, not_true_eq_false, Classical.not_not, false_or, or_false, true_or, or_true, imp_self, forall_const, forall_eq, implies_true, true_implies, false_implies, Nat.reduceAdd, Nat.reduceLeDiff, Nat.reduceEqDiff, Nat.reduceSub, Int.reduceNeg, Int.reduceEq, Int.reduceLT, Int.reduceLE, Int.reduceNe, Int.reduceAdd, Int.reduceSub, Nat.le_refl, Nat.zero_le, reduceCtorEq, Option.some.injEq, w32_i, MSk_t106 hM, MSk_p0 hM, MSk_t107 hM, MSk_n107 hM, MSk_p1 hM, MSk_t108 hM, MSk_n108 hM, MSk_p2 hM, MSk_t109 hM, MSk_n109 hM, MSk_p3 hM, MSk_t110 hM, MSk_n110 hM, MSk_p4 hM, MSk_t111 hM, MSk_n111 hM, MSk_p5 hM, MSk_t112 hM, MSk_n112 hM, MSk_p13 hM, MSk_t113 hM, MSk_n113 hM, MSk_p14 hM, MSk_t114 hM, MSk_n114 hM, MSk_p15 hM, MSk_t115 hM, MSk_n115 hM, MSk_p16 hM, MSk_t116 hM, MSk_n116 hM, MSk_p18 hM, MSk_t117 hM, MSk_n117 hM, MSk_p20 hM, MSk_t118 hM, MSk_n118 hM, MSk_p21 hM, MSk_t119 hM, MSk_n119 hM, MSk_p22 hM, MSk_t120 hM, MSk_n120 hM, hM, hJ2, hF2, im_p_X6_movedBy, m5]
          refine ⟨fun h => absurd h (by omega), fun _ => ⟨m2, m3, hm.2, fun hf => up 1 ?_ _, fun hf => ⟨fun e => up 0 ?_ _, fun e => ⟨fun e2 => up 0 ?_ _, fun e2 => up 1 ?_ _⟩⟩⟩⟩
          · rw [hfl] at hf
            rw [old, tf_t (Or.inl (tf_n0.mp hf))]
          · rw [hfl] at hf
            rw [old, tf_f (fun z => z.elim (tf_0.mp hf) (fun z => z.1 e))]
          · rw [hfl] at hf
            rw [(hto e).2] at e2
            rw [old, tf_f (fun z => z.elim (tf_0.mp hf) (fun z => tf_0.mp e2 z.2))]
          · rw [(hto e).2] at e2
            rw [old, tf_t (Or.inr ⟨e, tf_n0.mp e2⟩)]
      refine rv_X6_explore_166 ?_
      simp +contextual (disch := omega) only [tr_X6_explore_166, im_ic, im_lc, im_nul, im_iload, im_lload, im_aload, im_istore, im_astore, im_lstore, im_iinc, im_iadd, im_isub, im_imul, im_iand, im_ior, im_ishl, im_ishr, im_iushr, im_idiv, im_irem, im_ineg, im_i2l, im_l2i, im_i2b, im_i2s, im_ladd, im_lcmp, im_dup, im_pop, im_dup_x1, im_dup2, im_ceq, im_cne, im_clt, im_cge, im_cgt, im_cle, im_zeq, im_zne, im_zlt, im_zge, im_zgt, im_zle, im_ifnull, im_ifnn, im_acmpeq, im_acmpne, im_getI, im_getR, im_putI, im_putZ, im_putR, im_ald, im_iast, im_bast, im_sast, im_zast, im_aald, im_alen, im_new, im_newa, im_newq, im_tsw, im_lsw, tswA, lswA, im_callS_eq, im_callV_eq, chk_i, chk_T, dOk_i, tf_0, tf_n0, tf_1, tf_01, tf_F, tf_T, tf_em, tf_me, ↓reduceIte, Int.zero_add, Int.add_zero, Int.one_mul, Int.mul_one, Int.ediv_one, Int.sub_zero, im_ireturn, im_zreturn, im_areturn, im_return, im_objinit, popI_eq, popII_eq, popJ_eq, popJJ_eq, popR_eq, popRR_eq, popV_eq, popVV_eq, popA_eq, popIA_eq, popIIA_eq, popRA_eq, popRIA_eq, getI, getJ, getR, lget_0, lget_s, nlAt, cat1, wsum, List.set_cons_zero, List.set_cons_succ, List.take_succ_cons, List.take_zero, List.drop_succ_cons, List.drop_zero, List.reverse_cons, List.reverse_nil, List.nil_append, List.cons_append, List.length_cons, List.length_nil, true_and, and_true, and_self, ne_eq, not_false_eq_true, not_true_eq_false, Classical.not_not, false_or, or_false, true_or, or_true, imp_self, forall_const, forall_eq, implies_true, true_implies, false_implies, Nat.reduceAdd, Nat.reduceLeDiff, Nat.reduceEqDiff, Nat.reduceSub, Int.reduceNeg, Int.reduceEq, Int.reduceLT, Int.reduceLE, Int.reduceNe, Int.reduceAdd, Int.reduceSub, Nat.le_refl, Nat.zero_le, reduceCtorEq, Option.some.injEq, w32_i, MSk_t106 hM, MSk_p0 hM, MSk_t107 hM, MSk_n107 hM, MSk_p1 hM, MSk_t108 hM, MSk_n108 hM, MSk_p2 hM, MSk_t109 hM, MSk_n109 hM, MSk_p3 hM, MSk_t110 hM, MSk_n110 hM, MSk_p4 hM, MSk_t111 hM, MSk_n111 hM, MSk_p5 hM, MSk_t112 hM, MSk_n112 hM, MSk_p13 hM, MSk_t113 hM, MSk_n113 hM, MSk_p14 hM, MSk_t114 hM, MSk_n114 hM, MSk_p15 hM, MSk_t115 hM, MSk_n115 hM, MSk_p16 hM, MSk_t116 hM, MSk_n116 hM, MSk_p18 hM, MSk_t117 hM, MSk_n117 hM, MSk_p20 hM, MSk_t118 hM, MSk_n118 hM, MSk_p21 hM, MSk_t119 hM, MSk_n119 hM, MSk_p22 hM, MSk_t120 hM, MSk_n120 hM, hQ2]
      refine ⟨fun e => l184 0 ?_, fun e => l184 1 ?_⟩
      · rw [tf_f (fun z => z.elim e (fun ⟨t, a, b, _⟩ => by omega))]
      · rw [tf_t (Or.inl e)]
  -- the first loop
  have hx : ∀ (n : Int) (I' : SmI), xInv I c n n I' → SW mi_X6_explore 50 (d + 4) Rq [some (vR (some 106)), some (vI c), some (vI n), none, none, none] [] S I' := by
    intro n I' hI
    have a2 := hI.2.1
    have a3 := hI.2.2.1
    refine rv_X6_explore_50 ?_
    simp +contextual (disch := omega) only [tr_X6_explore_50, im_ic, im_lc, im_nul, im_iload, im_lload, im_aload, im_istore, im_astore, im_lstore, im_iinc, im_iadd, im_isub, im_imul, im_iand, im_ior, im_ishl, im_ishr, im_iushr, im_idiv, im_irem, im_ineg, im_i2l, im_l2i, im_i2b, im_i2s, im_ladd, im_lcmp, im_dup, im_pop, im_dup_x1, im_dup2, im_ceq, im_cne, im_clt, im_cge, im_cgt, im_cle, im_zeq, im_zne, im_zlt, im_zge, im_zgt, im_zle, im_ifnull, im_ifnn, im_acmpeq, im_acmpne, im_getI, im_getR, im_putI, im_putZ, im_putR, im_ald, im_iast, im_bast, im_sast, im_zast, im_aald, im_alen, im_new, im_newa, im_newq, im_tsw, im_lsw, tswA, lswA, im_callS_eq, im_callV_eq, chk_i, chk_T, dOk_i, tf_0, tf_n0, tf_1, tf_01, tf_F, tf_T, tf_em, tf_me, ↓reduceIte, Int.zero_add, Int.add_zero, Int.one_mul, Int.mul_one, Int.ediv_one, Int.sub_zero, im_ireturn, im_zreturn, im_areturn, im_return, im_objinit, popI_eq, popII_eq, popJ_eq, popJJ_eq, popR_eq, popRR_eq, popV_eq, popVV_eq, popA_eq, popIA_eq, popIIA_eq, popRA_eq, popRIA_eq, getI, getJ, getR, lget_0, lget_s, nlAt, cat1, wsum, List.set_cons_zero, List.set_cons_succ, List.take_succ_cons, List.take_zero, List.drop_succ_cons, List.drop_zero, List.reverse_cons, List.reverse_nil, List.nil_append, List.cons_append, List.length_cons, List.length_nil, true_and, and_true, and_self, ne_eq, not_false_eq_true, not_true_eq_false, Classical.not_not, false_or, or_false, true_or, or_true, imp_self, forall_const, forall_eq, implies_true, true_implies, false_implies, Nat.reduceAdd, Nat.reduceLeDiff, Nat.reduceEqDiff, Nat.reduceSub, Int.reduceNeg, Int.reduceEq, Int.reduceLT, Int.reduceLE, Int.reduceNe, Int.reduceAdd, Int.reduceSub, Nat.le_refl, Nat.zero_le, reduceCtorEq, Option.some.injEq, w32_i, MSk_t106 hM, MSk_p0 hM, MSk_t107 hM, MSk_n107 hM, MSk_p1 hM, MSk_t108 hM, MSk_n108 hM, MSk_p2 hM, MSk_t109 hM, MSk_n109 hM, MSk_p3 hM, MSk_t110 hM, MSk_n110 hM, MSk_p4 hM, MSk_t111 hM, MSk_n111 hM, MSk_p5 hM, MSk_t112 hM, MSk_n112 hM, MSk_p13 hM, MSk_t113 hM, MSk_n113 hM, MSk_p14 hM, MSk_t114 hM, MSk_n114 hM, MSk_p15 hM, MSk_t115 hM, MSk_n115 hM, MSk_p16 hM, MSk_t116 hM, MSk_n116 hM, MSk_p18 hM, MSk_t117 hM, MSk_n117 hM, MSk_p20 hM, MSk_t118 hM, MSk_n118 hM, MSk_p21 hM, MSk_t119 hM, MSk_n119 hM, MSk_p22 hM, MSk_t120 hM, MSk_n120 hM, a2]
    exact ⟨fun _ => h152 n I' hI, fun h => absurd (Int.le_refl _) h⟩
  have h50 : ∀ (I0 : SmI), xInv I c 0 1 I0 → SW mi_X6_explore 50 (d + 4) Rq [some (vR (some 106)), some (vI c), some (vI 0), none, none, none] [] S I0 := by
    intro I0 h0
    refine (loop_up (P := fun (k : Nat) => ∀ (n : Int) (I' : SmI), xInv I c k n I' → (k : Int) ≤ n → ((k : Int) < n → xLev I k n I') → SW mi_X6_explore 50 (d + 4) Rq [some (vR (some 106)), some (vI c), some (vI k), none, none, none] [] S I') (n := 2401) ?_ ?_) 1 I0 h0 (by omega) (fun _ j j0 j1 => by
      obtain rfl : j = 0 := by omega
      show lfC I (I0 114 0) - 1 ≤ _
      omega)
    · intro n I' hI hk _
      have a3 := hI.2.2.1
      obtain rfl : n = ((2401 : Nat) : Int) := by omega
      exact hx _ I' hI
    · intro k hk ih n I' hI hkn hl
      by_cases e : (k : Int) = n
      · subst e; exact hx _ I' hI
      · have hlt : (k : Int) < n := by omega
        have a2 := hI.2.1
        have a3 := hI.2.2.1
        have hq := hI.2.2.2.2.1 k (by omega) hlt
        have hqb := hq.1.1
        refine rv_X6_explore_50 ?_
        simp +contextual (disch := omega) only [tr_X6_explore_50, im_ic, im_lc, im_nul, im_iload, im_lload, im_aload, im_istore, im_astore, im_lstore, im_iinc, im_iadd, im_isub, im_imul, im_iand, im_ior, im_ishl, im_ishr, im_iushr, im_idiv, im_irem, im_ineg, im_i2l, im_l2i, im_i2b, im_i2s, im_ladd, im_lcmp, im_dup, im_pop, im_dup_x1, im_dup2, im_ceq, im_cne, im_clt, im_cge, im_cgt, im_cle, im_zeq, im_zne, im_zlt, im_zge, im_zgt, im_zle, im_ifnull, im_ifnn, im_acmpeq, im_acmpne, im_getI, im_getR, im_putI, im_putZ, im_putR, im_ald, im_iast, im_bast, im_sast, im_zast, im_aald, im_alen, im_new, im_newa, im_newq, im_tsw, im_lsw, tswA, lswA, im_callS_eq, im_callV_eq, chk_i, chk_T, dOk_i, tf_0, tf_n0, tf_1, tf_01, tf_F, tf_T, tf_em, tf_me, ↓reduceIte, Int.zero_add, Int.add_zero, Int.one_mul, Int.mul_one, Int.ediv_one, Int.sub_zero, im_ireturn, im_zreturn, im_areturn, im_return, im_objinit, popI_eq, popII_eq, popJ_eq, popJJ_eq, popR_eq, popRR_eq, popV_eq, popVV_eq, popA_eq, popIA_eq, popIIA_eq, popRA_eq, popRIA_eq, getI, getJ, getR, lget_0, lget_s, nlAt, cat1, wsum, List.set_cons_zero, List.set_cons_succ, List.take_succ_cons, List.take_zero, List.drop_succ_cons, List.drop_zero, List.reverse_cons, List.reverse_nil, List.nil_append, List.cons_append, List.length_cons, List.length_nil, true_and, and_true, and_self, ne_eq, not_false_eq_true, not_true_eq_false, Classical.not_not, false_or, or_false, true_or, or_true, imp_self, forall_const, forall_eq, implies_true, true_implies, false_implies, Nat.reduceAdd, Nat.reduceLeDiff, Nat.reduceEqDiff, Nat.reduceSub, Int.reduceNeg, Int.reduceEq, Int.reduceLT, Int.reduceLE, Int.reduceNe, Int.reduceAdd, Int.reduceSub, Nat.le_refl, Nat.zero_le, reduceCtorEq, Option.some.injEq, w32_i, MSk_t106 hM, MSk_p0 hM, MSk_t107 hM, MSk_n107 hM, MSk_p1 hM, MSk_t108 hM, MSk_n108 hM, MSk_p2 hM, MSk_t109 hM, MSk_n109 hM, MSk_p3 hM, MSk_t110 hM, MSk_n110 hM, MSk_p4 hM, MSk_t111 hM, MSk_n111 hM, MSk_p5 hM, MSk_t112 hM, MSk_n112 hM, MSk_p13 hM, MSk_t113 hM, MSk_n113 hM, MSk_p14 hM, MSk_t114 hM, MSk_n114 hM, MSk_p15 hM, MSk_t115 hM, MSk_n115 hM, MSk_p16 hM, MSk_t116 hM, MSk_n116 hM, MSk_p18 hM, MSk_t117 hM, MSk_n117 hM, MSk_p20 hM, MSk_t118 hM, MSk_n118 hM, MSk_p21 hM, MSk_t119 hM, MSk_n119 hM, MSk_p22 hM, MSk_t120 hM, MSk_n120 hM, a2]
        refine ⟨fun h => absurd h (by omega), fun _ => ?_⟩
        refine c_X6_decode' hM hqb.1 hqb.2 (fun I2 f1 f2 => ?_)
        rw [retK_n]
        have hQ2 : I2 114 = I' 114 := f1 114 (by decide)
        have l70 : ∀ (n : Int) (I' : SmI), xInv I c k n I' → (k : Int) < n → xLev I k n I' → (∀ j : Int, 0 ≤ j → j < 4 → I' 113 j = dgt (I' 114 k) j) → SW mi_X6_explore 70 (d + 4) Rq [some (vR (some 106)), some (vI c), some (vI k), some (vI 0), none, none] [] S I' := by
          intro n I' g1 g2 g3 g4
          refine (loop_up (P := fun (t : Nat) => ∀ (n : Int) (I' : SmI), xInv I c k n I' → (k : Int) < n → xLev I k n I' → (∀ j : Int, 0 ≤ j → j < 4 → I' 113 j = dgt (I' 114 k) j) → (∀ t' : Int, 0 ≤ t' → t' < t → mvP I (I' 114 k) t' ≠ -4 → ∃ i : Int, 0 ≤ i ∧ i < n ∧ I' 114 i = mvP I (I' 114 k) t') → SW mi_X6_explore 70 (d + 4) Rq [some (vR (some 106)), some (vI c), some (vI k), some (vI t), none, none] [] S I') (n := (I 107 1).toNat) ?_ ?_) n I' g1 g2 g3 g4 (fun t' a b => absurd b (by omega))
          · intro n I' g1 g2 g3 g4 g5
            have hJ := frE_st g1.1
            have a3 := g1.2.2.1
            refine rv_X6_explore_70 ?_
            simp +contextual (disch := omega) only [tr_X6_explore_70, im_ic, im_lc, im_nul, im_iload, im_lload, im_aload, im_istore, im_astore, im_lstore, im_iinc, im_iadd, im_isub, im_imul, im_iand, im_ior, im_ishl, im_ishr, im_iushr, im_idiv, im_irem, im_ineg, im_i2l, im_l2i, im_i2b, im_i2s, im_ladd, im_lcmp, im_dup, im_pop, im_dup_x1, im_dup2, im_ceq, im_cne, im_clt, im_cge, im_cgt, im_cle, im_zeq, im_zne, im_zlt, im_zge, im_zgt, im_zle, im_ifnull, im_ifnn, im_acmpeq, im_acmpne, im_getI, im_getR, im_putI, im_putZ, im_putR, im_ald, im_iast, im_bast, im_sast, im_zast, im_aald, im_alen, im_new, im_newa, im_newq, im_tsw, im_lsw, tswA, lswA, im_callS_eq, im_callV_eq, chk_i, chk_T, dOk_i, tf_0, tf_n0, tf_1, tf_01, tf_F, tf_T, tf_em, tf_me, ↓reduceIte, Int.zero_add, Int.add_zero, Int.one_mul, Int.mul_one, Int.ediv_one, Int.sub_zero, im_ireturn, im_zreturn, im_areturn, im_return, im_objinit, popI_eq, popII_eq, popJ_eq, popJJ_eq, popR_eq, popRR_eq, popV_eq, popVV_eq, popA_eq, popIA_eq, popIIA_eq, popRA_eq, popRIA_eq, getI, getJ, getR, lget_0, lget_s, nlAt, cat1, wsum, List.set_cons_zero, List.set_cons_succ, List.take_succ_cons, List.take_zero, List.drop_succ_cons, List.drop_zero, List.reverse_cons, List.reverse_nil, List.nil_append, List.cons_append, List.length_cons, List.length_nil, true_and, and_true, and_self, ne_eq, not_false_eq_true, not_true_eq_false, Classical.not_not, false_or, or_false, true_or, or_true, imp_self, forall_const, forall_eq, implies_true, true_implies, false_implies, Nat.reduceAdd, Nat.reduceLeDiff, Nat.reduceEqDiff, Nat.reduceSub, Int.reduceNeg, Int.reduceEq, Int.reduceLT, Int.reduceLE, Int.reduceNe, Int.reduceAdd, Int.reduceSub, Nat.le_refl, Nat.zero_le, reduceCtorEq, Option.some.injEq, w32_i, MSk_t106 hM, MSk_p0 hM, MSk_t107 hM, MSk_n107 hM, MSk_p1 hM, MSk_t108 hM, MSk_n108 hM, MSk_p2 hM, MSk_t109 hM, MSk_n109 hM, MSk_p3 hM, MSk_t110 hM, MSk_n110 hM, MSk_p4 hM, MSk_t111 hM, MSk_n111 hM, MSk_p5 hM, MSk_t112 hM, MSk_n112 hM, MSk_p13 hM, MSk_t113 hM, MSk_n113 hM, MSk_p14 hM, MSk_t114 hM, MSk_n114 hM, MSk_p15 hM, MSk_t115 hM, MSk_n115 hM, MSk_p16 hM, MSk_t116 hM, MSk_n116 hM, MSk_p18 hM, MSk_t117 hM, MSk_n117 hM, MSk_p20 hM, MSk_t118 hM, MSk_n118 hM, MSk_p21 hM, MSk_t119 hM, MSk_n119 hM, MSk_p22 hM, MSk_t120 hM, MSk_n120 hM, hJ]
            refine ⟨fun _ => ?_, fun h => absurd h (by omega)⟩
            obtain ⟨b1, b2, b3, b4, b5, b6, b7, b8, b9⟩ := g1
            have := ih n I' ⟨b1, b2, b3, b4, b5, b6, b7, b8, fun j j0 j1 b hb => by
              by_cases ej : j = k
              · subst ej
                obtain ⟨t, t0, t1, t2, rfl⟩ := hb
                exact g5 t t0 (by omega) t2
              · exact b9 j j0 (by omega) b hb⟩ (by omega) (fun hk1 j j0 j1 => by
              have := b7 k (k + 1) (by omega) (by omega) (by omega)
              have := g3 j j0 j1
              show lfC I (I' 114 (k + 1)) - 1 ≤ _
              omega)
            refine SW_as this ?_ (by first | rfl | grind) (by first | rfl | grind) (by first | rfl | grind)
            simp only [leL_nil, leL_none, leL_some, Option.some.injEq, vI_inj, vR_inj, true_and, and_true]
            try grind
          · intro t ht jh n I' g1 g2 g3 g4 g5
            have hJ := frE_st g1.1
            have a2 := g1.2.1
            have a3 := g1.2.2.1
            have hq := g1.2.2.2.2.1 k (by omega) g2
            obtain ⟨m1, m2, m3, m4, m5⟩ := mvb (c := I' 114 k) (t := t) hJ hm hq.1 g4 (by omega) (by omega)
            have hto : mvP I (I' 114 k) t ≠ -4 → stpP I (I' 114 k) (mvP I (I' 114 k) t) ∧ 0 ≤ mvP I (I' 114 k) t ∧ mvP I (I' 114 k) t < 2401 := fun hne => by
              have hs : stpP I (I' 114 k) (mvP I (I' 114 k) t) := ⟨t, by omega, by omega, hne, rfl⟩
              exact ⟨hs, (stpP_ok hm.1 hq.1 hs).1.1⟩
            have stay : (mvP I (I' 114 k) t ≠ -4 → ∃ i : Int, 0 ≤ i ∧ i < n ∧ I' 114 i = mvP I (I' 114 k) t) → ∀ z : Int, SW mi_X6_explore 70 (d + 4) Rq [some (vR (some 106)), some (vI c), some (vI k), some (vI (t + 1)), some (vI z), none] [] S I' := by
              intro h z
              have := jh n I' g1 g2 g3 g4 (fun t' a b hn => by
                by_cases e : t' = t
                · rw [e] at hn ⊢; exact h hn
                · exact g5 t' a (by omega) hn)
              refine SW_as this ?_ (by first | rfl | grind) (by first | rfl | grind) (by first | rfl | grind)
              simp only [leL_nil, leL_none, leL_some, Option.some.injEq, vI_inj, vR_inj, true_and, and_true]
              try grind
            refine rv_X6_explore_70 ?_
            simp +contextual (disch := omega) only [tr_X6_explore_70, im_ic, im_lc, im_nul, im_iload, im_lload, im_aload, im_istore, im_astore, im_lstore, im_iinc, im_iadd, im_isub, im_imul, im_iand, im_ior, im_ishl, im_ishr, im_iushr, im_idiv, im_irem, im_ineg, im_i2l, im_l2i, im_i2b, im_i2s, im_ladd, im_lcmp, im_dup, im_pop, im_dup_x1, im_dup2, im_ceq, im_cne, im_clt, im_cge, im_cgt, im_cle, im_zeq, im_zne, im_zlt, im_zge, im_zgt, im_zle, im_ifnull, im_ifnn, im_acmpeq, im_acmpne, im_getI, im_getR, im_putI, im_putZ, im_putR, im_ald, im_iast, im_bast, im_sast, im_zast, im_aald, im_alen, im_new, im_newa, im_newq, im_tsw, im_lsw, tswA, lswA, im_callS_eq, im_callV_eq, chk_i, chk_T, dOk_i, tf_0, tf_n0, tf_1, tf_01, tf_F, tf_T, tf_em, tf_me, ↓reduceIte, Int.zero_add, Int.add_zero, Int.one_mul, Int.mul_one, Int.ediv_one, Int.sub_zero, im_ireturn, im_zreturn, im_areturn, im_return, im_objinit, popI_eq, popII_eq, popJ_eq, popJJ_eq, popR_eq, popRR_eq, popV_eq, popVV_eq, popA_eq, popIA_eq, popIIA_eq, popRA_eq, popRIA_eq, getI, getJ, getR, lget_0, lget_s, nlAt, cat1, wsum, List.set_cons_zero, List.set_cons_succ, List.take_succ_cons, List.take_zero, List.drop_succ_cons, List.drop_zero, List.reverse_cons, List.reverse_nil, List.nil_append, List.cons_append, List.length_cons, List.length_nil, true_and, and_true, and_self, ne_eq, not_false_eq_true, not_true_eq_false, Classical.not_not, false_or, or_false, true_or, or_true, imp_self, forall_const, forall_eq, implies_true, true_implies, false_implies, Nat.reduceAdd, Nat.reduceLeDiff, Nat.reduceEqDiff, Nat.reduceSub, Int.reduceNeg, Int.reduceEq, Int.reduceLT, Int.reduceLE, Int.reduceNe, Int.reduceAdd, Int.reduceSub, Nat.le_refl, Nat.zero_le, reduceCtorEq, Option.some.injEq, w32_i, MSk_t106 hM, MSk_p0 hM, MSk_t107 hM, MSk_n107 hM, MSk_p1 hM, MSk_t108 hM, MSk_n108 hM, MSk_p2 hM, MSk_t109 hM, MSk_n109 hM, MSk_p3 hM, MSk_t110 hM, MSk_n110 hM, MSk_p4 hM, MSk_t111 hM, MSk_n111 hM, MSk_p5 hM, MSk_t112 hM, MSk_n112 hM, MSk_p13 hM, MSk_t113 hM, MSk_n113 hM, MSk_p14 hM, MSk_t114 hM, MSk_n114 hM, MSk_p15 hM, MSk_t115 hM, MSk_n115 hM, MSk_p16 hM, MSk_t116 hM, MSk_n116 hM, MSk_p18 hM, MSk_t117 hM, MSk_n117 hM, MSk_p20 hM, MSk_t118 hM, MSk_n118 hM, MSk_p21 hM, MSk_t119 hM, MSk_n119 hM, MSk_p22 hM, MSk_t120 hM, MSk_n120 hM, hM, hJ, im_p_X6_movedBy, m5, a2, iSet_ne]
            refine ⟨fun h => absurd h (by omega), fun _ => ⟨m2, m3, hm.2, fun e => stay (fun z => absurd e z) _, fun e => ⟨fun e2 => stay (fun _ => ?_) _, fun e2 => ?_⟩⟩⟩
            · have b8 := g1.2.2.2.2.2.2.2.1 _ (hto e).2.1 (hto e).2.2
              rw [b8] at e2
              exact tf_n0.mp e2
            · obtain ⟨q1, q2, q3⟩ := xInv_push hm.1 g1 (by omega) g2 g3 (hto e).1 e2
              refine ⟨⟨by omega, q1⟩, ?_⟩
              have eq : ∀ j : Int, j < n → iSet (iSet (iSet I' 115 (mvP I (I' 114 k) t) 1) 114 n (mvP I (I' 114 k) t)) 106 17 (n + 1) 114 j = I' 114 j := fun j hj => by
                rw [iSet_ne (by decide), iSet_ap, if_neg (fun z => by have := z.2; omega), iSet_ne (by decide)]
              have es : iSet (iSet (iSet I' 115 (mvP I (I' 114 k) t) 1) 114 n (mvP I (I' 114 k) t)) 106 17 (n + 1) 113 = I' 113 := by
                rw [iSet_ne (by decide), iSet_ne (by decide), iSet_ne (by decide)]
              have en : iSet (iSet (iSet I' 115 (mvP I (I' 114 k) t) 1) 114 n (mvP I (I' 114 k) t)) 106 17 (n + 1) 114 n = mvP I (I' 114 k) t := by
                rw [iSet_ne (by decide), iSet_eq]
              have := jh (n + 1) _ q2 (by omega) q3 (by rw [es, eq k g2]; exact g4) (fun t' a b hn => by
                rw [eq k g2] at hn ⊢
                by_cases et : t' = t
                · exact ⟨n, by omega, by omega, by rw [en, et]⟩
                · obtain ⟨i, i0, i1, i2⟩ := g5 t' a (by omega) hn
                  exact ⟨i, i0, by omega, by rw [eq i i1]; exact i2⟩)
              refine SW_as this ?_ (by first | rfl | grind) (by first | rfl | grind) (by first | rfl | grind)
              simp only [leL_nil, leL_none, leL_some, Option.some.injEq, vI_inj, vR_inj, true_and, and_true]
              try grind
        refine rv_X6_explore_68 ?_
        simp +contextual (disch := omega) only [tr_X6_explore_68, im_ic, im_lc, im_nul, im_iload, im_lload, im_aload, im_istore, im_astore, im_lstore, im_iinc, im_iadd, im_isub, im_imul, im_iand, im_ior, im_ishl, im_ishr, im_iushr, im_idiv, im_irem, im_ineg, im_i2l, im_l2i, im_i2b, im_i2s, im_ladd, im_lcmp, im_dup, im_pop, im_dup_x1, im_dup2, im_ceq, im_cne, im_clt, im_cge, im_cgt, im_cle, im_zeq, im_zne, im_zlt, im_zge, im_zgt, im_zle, im_ifnull, im_ifnn, im_acmpeq, im_acmpne, im_getI, im_getR, im_putI, im_putZ, im_putR, im_ald, im_iast, im_bast, im_sast, im_zast, im_aald, im_alen, im_new, im_newa, im_newq, im_tsw, im_lsw, tswA, lswA, im_callS_eq, im_callV_eq, chk_i, chk_T, dOk_i, tf_0, tf_n0, tf_1, tf_01, tf_F, tf_T, tf_em, tf_me, ↓reduceIte, Int.zero_add, Int.add_zero, Int.one_mul, Int.mul_one, Int.ediv_one, Int.sub_zero, im_ireturn, im_zreturn, im_areturn, im_return, im_objinit, popI_eq, popII_eq, popJ_eq, popJJ_eq, popR_eq, popRR_eq, popV_eq, popVV_eq, popA_eq, popIA_eq, popIIA_eq, popRA_eq, popRIA_eq, getI, getJ, getR, lget_0, lget_s, nlAt, cat1, wsum, List.set_cons_zero, List.set_cons_succ, List.take_succ_cons, List.take_zero, List.drop_succ_cons, List.drop_zero, List.reverse_cons, List.reverse_nil, List.nil_append, List.cons_append, List.length_cons, List.length_nil, true_and, and_true, and_self, ne_eq, not_false_eq_true, not_true_eq_false, Classical.not_not, false_or, or_false, true_or, or_true, imp_self, forall_const, forall_eq, implies_true, true_implies, false_implies, Nat.reduceAdd, Nat.reduceLeDiff, Nat.reduceEqDiff, Nat.reduceSub, Int.reduceNeg, Int.reduceEq, Int.reduceLT, Int.reduceLE, Int.reduceNe, Int.reduceAdd, Int.reduceSub, Nat.le_refl, Nat.zero_le, reduceCtorEq, Option.some.injEq, w32_i]
        exact l70 n I2 (xInv_sp hI f1) hlt (by unfold xLev; rw [hQ2]; exact hl hlt) (by rw [hQ2]; exact f2)
  -- the beginning
  refine rv_X6_explore_0 ?_
  simp +contextual (disch := omega) only [tr_X6_explore_0, im_ic, im_lc, im_nul, im_iload, im_lload, im_aload, im_istore, im_astore, im_lstore, im_iinc, im_iadd, im_isub, im_imul, im_iand, im_ior, im_ishl, im_ishr, im_iushr, im_idiv, im_irem, im_ineg, im_i2l, im_l2i, im_i2b, im_i2s, im_ladd, im_lcmp, im_dup, im_pop, im_dup_x1, im_dup2, im_ceq, im_cne, im_clt, im_cge, im_cgt, im_cle, im_zeq, im_zne, im_zlt, im_zge, im_zgt, im_zle, im_ifnull, im_ifnn, im_acmpeq, im_acmpne, im_getI, im_getR, im_putI, im_putZ, im_putR, im_ald, im_iast, im_bast, im_sast, im_zast, im_aald, im_alen, im_new, im_newa, im_newq, im_tsw, im_lsw, tswA, lswA, im_callS_eq, im_callV_eq, chk_i, chk_T, dOk_i, tf_0, tf_n0, tf_1, tf_01, tf_F, tf_T, tf_em, tf_me, ↓reduceIte, Int.zero_add, Int.add_zero, Int.one_mul, Int.mul_one, Int.ediv_one, Int.sub_zero, im_ireturn, im_zreturn, im_areturn, im_return, im_objinit, popI_eq, popII_eq, popJ_eq, popJJ_eq, popR_eq, popRR_eq, popV_eq, popVV_eq, popA_eq, popIA_eq, popIIA_eq, popRA_eq, popRIA_eq, getI, getJ, getR, lget_0, lget_s, nlAt, cat1, wsum, List.set_cons_zero, List.set_cons_succ, List.take_succ_cons, List.take_zero, List.drop_succ_cons, List.drop_zero, List.reverse_cons, List.reverse_nil, List.nil_append, List.cons_append, List.length_cons, List.length_nil, true_and, and_true, and_self, ne_eq, not_false_eq_true, not_true_eq_false, Classical.not_not, false_or, or_false, true_or, or_true, imp_self, forall_const, forall_eq, implies_true, true_implies, false_implies, Nat.reduceAdd, Nat.reduceLeDiff, Nat.reduceEqDiff, Nat.reduceSub, Int.reduceNeg, Int.reduceEq, Int.reduceLT, Int.reduceLE, Int.reduceNe, Int.reduceAdd, Int.reduceSub, Nat.le_refl, Nat.zero_le, reduceCtorEq, Option.some.injEq, w32_i]
  refine (loop_up (P := fun (i : Nat) => ∀ I' : SmI, frE I I' → (∀ x : Int, 0 ≤ x → x < i → I' 115 x = 0) → SW mi_X6_explore 2 (d + 4) Rq [some (vR (some 106)), some (vI c), some (vI i), none, none, none] [] S I') (n := 2401) ?_ ?_) I frE_refl (fun x a b => absurd b (by omega))
  · intro I' g1 g2
    have c0 := hc.1
    refine rv_X6_explore_2 ?_
    simp +contextual (disch := omega) only [tr_X6_explore_2, im_ic, im_lc, im_nul, im_iload, im_lload, im_aload, im_istore, im_astore, im_lstore, im_iinc, im_iadd, im_isub, im_imul, im_iand, im_ior, im_ishl, im_ishr, im_iushr, im_idiv, im_irem, im_ineg, im_i2l, im_l2i, im_i2b, im_i2s, im_ladd, im_lcmp, im_dup, im_pop, im_dup_x1, im_dup2, im_ceq, im_cne, im_clt, im_cge, im_cgt, im_cle, im_zeq, im_zne, im_zlt, im_zge, im_zgt, im_zle, im_ifnull, im_ifnn, im_acmpeq, im_acmpne, im_getI, im_getR, im_putI, im_putZ, im_putR, im_ald, im_iast, im_bast, im_sast, im_zast, im_aald, im_alen, im_new, im_newa, im_newq, im_tsw, im_lsw, tswA, lswA, im_callS_eq, im_callV_eq, chk_i, chk_T, dOk_i, tf_0, tf_n0, tf_1, tf_01, tf_F, tf_T, tf_em, tf_me, ↓reduceIte, Int.zero_add, Int.add_zero, Int.one_mul, Int.mul_one, Int.ediv_one, Int.sub_zero, im_ireturn, im_zreturn, im_areturn, im_return, im_objinit, popI_eq, popII_eq, popJ_eq, popJJ_eq, popR_eq, popRR_eq, popV_eq, popVV_eq, popA_eq, popIA_eq, popIIA_eq, popRA_eq, popRIA_eq, getI, getJ, getR, lget_0, lget_s, nlAt, cat1, wsum, List.set_cons_zero, List.set_cons_succ, List.take_succ_cons, List.take_zero, List.drop_succ_cons, List.drop_zero, List.reverse_cons, List.reverse_nil, List.nil_append, List.cons_append, List.length_cons, List.length_nil, true_and, and_true, and_self, ne_eq, not_false_eq_true, not_true_eq_false, Classical.not_not, false_or, or_false, true_or, or_true, imp_self, forall_const, forall_eq, implies_true, true_implies, false_implies, Nat.reduceAdd, Nat.reduceLeDiff, Nat.reduceEqDiff, Nat.reduceSub, Int.reduceNeg, Int.reduceEq, Int.reduceLT, Int.reduceLE, Int.reduceNe, Int.reduceAdd, Int.reduceSub, Nat.le_refl, Nat.zero_le, reduceCtorEq, Option.some.injEq, w32_i, MSk_t106 hM, MSk_p0 hM, MSk_t107 hM, MSk_n107 hM, MSk_p1 hM, MSk_t108 hM, MSk_n108 hM, MSk_p2 hM, MSk_t109 hM, MSk_n109 hM, MSk_p3 hM, MSk_t110 hM, MSk_n110 hM, MSk_p4 hM, MSk_t111 hM, MSk_n111 hM, MSk_p5 hM, MSk_t112 hM, MSk_n112 hM, MSk_p13 hM, MSk_t113 hM, MSk_n113 hM, MSk_p14 hM, MSk_t114 hM, MSk_n114 hM, MSk_p15 hM, MSk_t115 hM, MSk_n115 hM, MSk_p16 hM, MSk_t116 hM, MSk_n116 hM, MSk_p18 hM, MSk_t117 hM, MSk_n117 hM, MSk_p20 hM, MSk_t118 hM, MSk_n118 hM, MSk_p21 hM, MSk_t119 hM, MSk_n119 hM, MSk_p22 hM, MSk_t120 hM, MSk_n120 hM]
    refine ⟨fun _ => ?_, fun h => absurd (Int.le_refl _) h⟩
    refine h50 _ ⟨frE_q (frE_set (frE_set g1 (Or.inr (Or.inl rfl))) (Or.inr (Or.inr (Or.inl rfl)))), iSet_eq, by omega, ?_, ?_, ?_, ?_, ?_, ?_⟩
    · rw [iSet_ne (by decide), iSet_ne (by decide), iSet_eq]
    · intro j j0 j1
      obtain rfl : j = 0 := by omega
      rw [iSet_ne (by decide), iSet_ne (by decide), iSet_eq]
      exact ⟨hc, rchP_refl⟩
    · intro i j i0 i1 j0 j1 _
      omega
    · intro i j i0 ij j1
      obtain rfl : i = j := by omega
      exact Int.le_refl _
    · intro x x0 x1
      rw [iSet_ne (by decide), iSet_ap]
      by_cases e : x = c
      · rw [if_pos ⟨rfl, e⟩, tf_t ⟨0, by omega, by omega, by rw [iSet_ne (by decide), iSet_ne (by decide), iSet_eq, e]⟩]
      · rw [if_neg (fun z => e z.2), iSet_ne (by decide), g2 x x0 (by omega)]
        refine (tf_f ?_).symm
        rintro ⟨j, j0, j1, q⟩
        obtain rfl : j = 0 := by omega
        rw [iSet_ne (by decide), iSet_ne (by decide), iSet_eq] at q
        exact e q.symm
    · intro j j0 j1
      omega
  · intro i hi ih I' g1 g2
    refine rv_X6_explore_2 ?_
    simp +contextual (disch := omega) only [tr_X6_explore_2, im_ic, im_lc, im_nul, im_iload, im_lload, im_aload, im_istore, im_astore, im_lstore, im_iinc, im_iadd, im_isub, im_imul, im_iand, im_ior, im_ishl, im_ishr, im_iushr, im_idiv, im_irem, im_ineg, im_i2l, im_l2i, im_i2b, im_i2s, im_ladd, im_lcmp, im_dup, im_pop, im_dup_x1, im_dup2, im_ceq, im_cne, im_clt, im_cge, im_cgt, im_cle, im_zeq, im_zne, im_zlt, im_zge, im_zgt, im_zle, im_ifnull, im_ifnn, im_acmpeq, im_acmpne, im_getI, im_getR, im_putI, im_putZ, im_putR, im_ald, im_iast, im_bast, im_sast, im_zast, im_aald, im_alen, im_new, im_newa, im_newq, im_tsw, im_lsw, tswA, lswA, im_callS_eq, im_callV_eq, chk_i, chk_T, dOk_i, tf_0, tf_n0, tf_1, tf_01, tf_F, tf_T, tf_em, tf_me, ↓reduceIte, Int.zero_add, Int.add_zero, Int.one_mul, Int.mul_one, Int.ediv_one, Int.sub_zero, im_ireturn, im_zreturn, im_areturn, im_return, im_objinit, popI_eq, popII_eq, popJ_eq, popJJ_eq, popR_eq, popRR_eq, popV_eq, popVV_eq, popA_eq, popIA_eq, popIIA_eq, popRA_eq, popRIA_eq, getI, getJ, getR, lget_0, lget_s, nlAt, cat1, wsum, List.set_cons_zero, List.set_cons_succ, List.take_succ_cons, List.take_zero, List.drop_succ_cons, List.drop_zero, List.reverse_cons, List.reverse_nil, List.nil_append, List.cons_append, List.length_cons, List.length_nil, true_and, and_true, and_self, ne_eq, not_false_eq_true, not_true_eq_false, Classical.not_not, false_or, or_false, true_or, or_true, imp_self, forall_const, forall_eq, implies_true, true_implies, false_implies, Nat.reduceAdd, Nat.reduceLeDiff, Nat.reduceEqDiff, Nat.reduceSub, Int.reduceNeg, Int.reduceEq, Int.reduceLT, Int.reduceLE, Int.reduceNe, Int.reduceAdd, Int.reduceSub, Nat.le_refl, Nat.zero_le, reduceCtorEq, Option.some.injEq, w32_i, MSk_t106 hM, MSk_p0 hM, MSk_t107 hM, MSk_n107 hM, MSk_p1 hM, MSk_t108 hM, MSk_n108 hM, MSk_p2 hM, MSk_t109 hM, MSk_n109 hM, MSk_p3 hM, MSk_t110 hM, MSk_n110 hM, MSk_p4 hM, MSk_t111 hM, MSk_n111 hM, MSk_p5 hM, MSk_t112 hM, MSk_n112 hM, MSk_p13 hM, MSk_t113 hM, MSk_n113 hM, MSk_p14 hM, MSk_t114 hM, MSk_n114 hM, MSk_p15 hM, MSk_t115 hM, MSk_n115 hM, MSk_p16 hM, MSk_t116 hM, MSk_n116 hM, MSk_p18 hM, MSk_t117 hM, MSk_n117 hM, MSk_p20 hM, MSk_t118 hM, MSk_n118 hM, MSk_p21 hM, MSk_t119 hM, MSk_n119 hM, MSk_p22 hM, MSk_t120 hM, MSk_n120 hM]
    refine ⟨fun h => absurd h (by omega), fun _ => ?_⟩
    have := ih (iSet (iSet I' 115 i 0) 116 i 0) (frE_set (frE_set g1 (Or.inr (Or.inr (Or.inl rfl)))) (Or.inr (Or.inr (Or.inr rfl)))) (fun x x0 x1 => by
      rw [iSet_ne (by decide), iSet_ap]
      by_cases e : x = i
      · rw [if_pos ⟨rfl, e⟩]
      · rw [if_neg (fun z => e z.2)]
        exact g2 x x0 (by omega))
    refine SW_as this ?_ (by first | rfl | grind) (by first | rfl | grind) (by first | rfl | grind)
    simp only [leL_nil, leL_none, leL_some, Option.some.injEq, vI_inj, vR_inj, true_and, and_true]
    try grind
theorem c_X6_explore {d : Nat} {Rq : SmQ} {S : SmS} {I : SmI} {c : Int} (hM : MSk S) (hm : mOk I) (hc : okP I c) (hR : ∀ I' : SmI, expl I c I' → Rq (.inl none) S I') : SC mi_X6_explore (d + 4) [vR (some 106), vI c] S I Rq := SC_of0 (Nat.le_of_ble_eq_true rfl) (b_X6_explore (S := sBud S 0 0) hM hm hc hR)