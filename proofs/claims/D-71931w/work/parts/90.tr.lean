/-! trees, flat: nodes by their place in the order; n is none -/
set_option maxRecDepth 100000
def TRp (n : Nat) (lf rg pr lo hi : Nat → Nat) (rt : Nat) : Prop :=
  (n = 0 → rt = 0) ∧ (0 < n → rt < n ∧ lo rt = 0 ∧ hi rt = n ∧ pr rt = n) ∧
  ∀ i, i < n → (lo i ≤ i ∧ i < hi i ∧ hi i ≤ n) ∧ ((lf i = n ∧ lo i = i) ∨ (lf i < n ∧ lo (lf i) = lo i ∧ hi (lf i) = i ∧ pr (lf i) = i)) ∧ ((rg i = n ∧ hi i = i + 1) ∨ (rg i < n ∧ lo (rg i) = i + 1 ∧ hi (rg i) = hi i ∧ pr (rg i) = i)) ∧ (i = rt ∨ (pr i < n ∧ (lf (pr i) = i ∨ rg (pr i) = i)))
/-! turns -/
/-- kept from omega -/
def Hid (p : Prop) : Prop := p
theorem TRp_b {n : Nat} {lf rg pr lo hi : Nat → Nat} {rt i : Nat} (h : TRp n lf rg pr lo hi rt) (hi9 : i < n) : lo i ≤ i ∧ i < hi i ∧ hi i ≤ n := (h.2.2 i hi9).1
theorem TRp_l {n : Nat} {lf rg pr lo hi : Nat → Nat} {rt i : Nat} (h : TRp n lf rg pr lo hi rt) (hi9 : i < n) (hl : lf i < n) : lo (lf i) = lo i ∧ hi (lf i) = i ∧ pr (lf i) = i ∧ lf i < i := by
  have b := TRp_b h hl
  rcases (h.2.2 i hi9).2.1 with w | w
  · omega
  · exact ⟨w.2.1, w.2.2.1, w.2.2.2, by have := w.2.2.1; omega⟩
theorem TRp_r {n : Nat} {lf rg pr lo hi : Nat → Nat} {rt i : Nat} (h : TRp n lf rg pr lo hi rt) (hi9 : i < n) (hl : rg i < n) : lo (rg i) = i + 1 ∧ hi (rg i) = hi i ∧ pr (rg i) = i ∧ i < rg i := by
  have b := TRp_b h hl
  rcases (h.2.2 i hi9).2.2.1 with w | w
  · omega
  · exact ⟨w.2.1, w.2.2.1, w.2.2.2, by have := w.2.1; omega⟩
theorem TRp_ln {n : Nat} {lf rg pr lo hi : Nat → Nat} {rt i : Nat} (h : TRp n lf rg pr lo hi rt) (hi9 : i < n) (hl : ¬ lf i < n) : lf i = n ∧ lo i = i := by
  rcases (h.2.2 i hi9).2.1 with w | w
  · exact w
  · exact absurd w.1 hl
theorem TRp_rn {n : Nat} {lf rg pr lo hi : Nat → Nat} {rt i : Nat} (h : TRp n lf rg pr lo hi rt) (hi9 : i < n) (hl : ¬ rg i < n) : rg i = n ∧ hi i = i + 1 := by
  rcases (h.2.2 i hi9).2.2.1 with w | w
  · exact w
  · exact absurd w.1 hl
theorem TRp_p {n : Nat} {lf rg pr lo hi : Nat → Nat} {rt i : Nat} (h : TRp n lf rg pr lo hi rt) (hi9 : i < n) (hne : i ≠ rt) : pr i < n ∧ (lf (pr i) = i ∨ rg (pr i) = i) := (h.2.2 i hi9).2.2.2.resolve_left hne
def rlL (lf rg pr : Nat → Nat) (rt p : Nat) : Nat → Nat := fun i => if i = rg p then p else if p ≠ rt ∧ i = pr p ∧ lf (pr p) = p then rg p else lf i
def rlR (lf rg pr : Nat → Nat) (rt p : Nat) : Nat → Nat := fun i => if i = p then lf (rg p) else if p ≠ rt ∧ i = pr p ∧ lf (pr p) ≠ p then rg p else rg i
def rlP (lf rg pr : Nat → Nat) (p : Nat) : Nat → Nat := fun i => if i = p then rg p else if i = rg p then pr p else if i = lf (rg p) then p else pr i
def rrR (lf rg pr : Nat → Nat) (rt p : Nat) : Nat → Nat := fun i => if i = lf p then p else if p ≠ rt ∧ i = pr p ∧ rg (pr p) = p then lf p else rg i
def rrL (lf rg pr : Nat → Nat) (rt p : Nat) : Nat → Nat := fun i => if i = p then rg (lf p) else if p ≠ rt ∧ i = pr p ∧ rg (pr p) ≠ p then lf p else lf i
def rrP (lf rg pr : Nat → Nat) (p : Nat) : Nat → Nat := fun i => if i = p then lf p else if i = lf p then pr p else if i = rg (lf p) then p else pr i
theorem rot_L0 {n : Nat} {lf rg pr lo hi lf' rg' pr' A B : Nat → Nat} {rt p : Nat} (h : TRp n lf rg pr lo hi rt) (hp : p < n) (hr : rg p < n)
    (l1 : lf' (rg p) = p) (l2 : Hid (p ≠ rt → lf (pr p) = p → lf' (pr p) = rg p)) (l3 : ∀ i, i ≠ rg p → ¬ (p ≠ rt ∧ i = pr p ∧ lf (pr p) = p) → lf' i = lf i)
    (r1 : rg' p = lf (rg p)) (r2 : Hid (p ≠ rt → lf (pr p) ≠ p → rg' (pr p) = rg p)) (r3 : ∀ i, i ≠ p → ¬ (p ≠ rt ∧ i = pr p ∧ lf (pr p) ≠ p) → rg' i = rg i)
    (q1 : pr' p = rg p) (q2 : pr' (rg p) = pr p) (q3 : Hid (lf (rg p) < n → pr' (lf (rg p)) = p)) (q4 : ∀ i, i < n → i ≠ p → i ≠ rg p → i ≠ lf (rg p) → pr' i = pr i)
    (a1 : A (rg p) = lo p) (a2 : ∀ i, i ≠ rg p → A i = lo i) (b1 : B p = rg p) (b2 : ∀ i, i ≠ p → B i = hi i) (Ar : A (rg p) = lo p ∧ B (rg p) = hi p) : TRp n lf' rg' pr' A B (if p = rt then rg p else rt) := by
  obtain ⟨t1, t2, t3, t4⟩ := h.2.1 (by omega)
  have u1 := TRp_b h hp
  have v1 := TRp_b h hr
  obtain ⟨v5, v6, v7, v8⟩ := TRp_r h hp hr
  have vq : ∀ z : lf (rg p) < n, _ := fun z => TRp_l h hr z
  have g1 : Hid (p ≠ rt → pr p < n ∧ pr p ≠ p ∧ pr p ≠ rg p) := fun z => by
    obtain ⟨g0, y | y⟩ := TRp_p h hp z
    · have w := TRp_l h g0 (by rw [y]; exact hp)
      rw [y] at w
      refine ⟨g0, by omega, by omega⟩
    · have w := TRp_r h g0 (by rw [y]; exact hp)
      rw [y] at w
      refine ⟨g0, by omega, by omega⟩
  have ch : ∀ i, i < n → ∀ j, j < n → (lf i = j ∨ rg i = j) → pr j = i ∧ j ≠ rt := fun i hi9 j hj hij => by
    rcases hij with rfl | rfl
    · have w := TRp_l h hi9 hj
      have b := TRp_b h hj
      have b2 := TRp_b h hi9
      refine ⟨w.2.2.1, fun z => ?_⟩
      rw [z] at w
      omega
    · have w := TRp_r h hi9 hj
      have b := TRp_b h hj
      have b2 := TRp_b h hi9
      refine ⟨w.2.2.1, fun z => ?_⟩
      rw [z] at w
      omega
  have chq : lf (rg p) < n → ∀ j, j = lf (rg p) → pr j = rg p ∧ j ≠ rt := fun z j hj => by
    rw [hj]; exact ch (rg p) hr _ z (Or.inl rfl)
  refine ⟨fun z => absurd z (by omega), fun _ => ?_, fun i hi9 => ?_⟩
  · by_cases z : p = rt
    · rw [if_pos z, q2]
      have e : pr p = n := by rw [z]; exact t4
      have w2 := Ar
      have w3 : lo p = 0 ∧ hi p = n := by rw [z]; exact ⟨t2, t3⟩
      exact ⟨hr, by rw [w2.1]; exact w3.1, by rw [w2.2]; exact w3.2, e⟩
    · rw [if_neg z]
      have w1 : rt ≠ rg p := fun w => (ch p hp (rg p) hr (Or.inr rfl)).2 w.symm
      have w3 : rt ≠ lf (rg p) := fun w => (ch (rg p) hr (lf (rg p)) (by rw [← w]; exact t1) (Or.inl rfl)).2 w.symm
      rw [q4 rt t1 (fun w => z w.symm) w1 w3, a2 rt w1, b2 rt (fun w => z w.symm)]
      exact ⟨t1, t2, t3, t4⟩
  · by_cases ip : i = p
    · subst ip
      refine ⟨?_, ?_, ?_, Or.inr ?_⟩
      · rw [b1, a2 i (by omega)]; omega
      · rw [(l3 i (by omega) (fun z => (g1 z.1).2.1 z.2.1.symm))]
        by_cases z : lf i < n
        · obtain ⟨w1, w2, w3, w4⟩ := TRp_l h hp z
          have jr : lf i ≠ rg i := by omega
          have jq : lf i ≠ lf (rg i) := fun y => by
            have := (ch (rg i) hr (lf i) z (Or.inl y.symm)).1
            omega
          exact Or.inr ⟨z, by rw [a2 _ jr, a2 i (by omega)]; exact w1, by rw [b2 _ (by omega)]; exact w2, by rw [q4 _ z (by omega) jr jq]; exact w3⟩
        · obtain ⟨w1, w2⟩ := TRp_ln h hp z
          exact Or.inl ⟨w1, by rw [a2 i (by omega)]; exact w2⟩
      · rw [r1]
        by_cases z : lf (rg i) < n
        · obtain ⟨w1, w2, w3, w4⟩ := vq z
          have bq := TRp_b h z
          exact Or.inr ⟨z, by rw [a2 _ (by omega)]; omega, by rw [b2 _ (by omega), b1]; exact w2, q3 z⟩
        · obtain ⟨w1, w2⟩ := TRp_ln h hr z
          exact Or.inl ⟨w1, by rw [b1]; omega⟩
      · rw [q1]; exact ⟨hr, Or.inl l1⟩
    · by_cases ir : i = rg p
      · subst ir
        refine ⟨?_, ?_, ?_, ?_⟩
        · rw [Ar.1, Ar.2]; omega
        · rw [l1]
          exact Or.inr ⟨hp, by rw [Ar.1, a2 p (by omega)], b1, q1⟩
        · rw [(r3 (rg p) (by omega) (fun z => (g1 z.1).2.2 z.2.1.symm))]
          by_cases z : rg (rg p) < n
          · obtain ⟨w1, w2, w3, w4⟩ := TRp_r h hr z
            have jq : rg (rg p) ≠ lf (rg p) := fun y => by
              have := vq (by rw [← y]; exact z)
              rw [← y] at this
              omega
            exact Or.inr ⟨z, by rw [a2 _ (by omega)]; exact w1, by rw [b2 _ (by omega), Ar.2]; omega, by rw [q4 _ z (by omega) (by omega) jq]; exact w3⟩
          · obtain ⟨w1, w2⟩ := TRp_rn h hr z
            exact Or.inl ⟨w1, by rw [Ar.2]; omega⟩
        · by_cases z : p = rt
          · rw [if_pos z]; exact Or.inl rfl
          · rw [q2]
            refine Or.inr ⟨(g1 z).1, ?_⟩
            by_cases y : lf (pr p) = p
            · exact Or.inl (l2 z y)
            · exact Or.inr (r2 z y)
      · have bi := TRp_b h hi9
        have kid : ∀ j, j < n → (lf i = j ∨ rg i = j) → j ≠ p → A j = lo j ∧ B j = hi j ∧ pr' j = i := fun j hj hij jp => by
          have c := (ch i hi9 j hj hij).1
          have jr : j ≠ rg p := fun z => by rw [z, v7] at c; exact ip c.symm
          have jq : j ≠ lf (rg p) := fun z => by
            have := (ch (rg p) hr j hj (Or.inl z.symm)).1
            exact ir (c.symm.trans this)
          exact ⟨a2 j jr, b2 j jp, by rw [q4 j hj jp jr jq]; exact c⟩
        have ak : A i = lo i := a2 i ir
        have bk : B i = hi i := b2 i ip
        refine ⟨by rw [ak, bk]; exact bi, ?_, ?_, ?_⟩
        · by_cases z : p ≠ rt ∧ i = pr p ∧ lf (pr p) = p
          · obtain ⟨z1, z2, z3⟩ := z
            obtain ⟨g0, g5, g6⟩ := g1 z1
            have y0 := l2 z1 z3
            rw [z2, y0]
            have cz : lf (pr p) = p := z3
            obtain ⟨w1, w2, w3, w4⟩ := TRp_l h g0 (by rw [cz]; exact hp)
            rw [cz] at w1 w2 w3 w4
            rw [z2] at ak bk
            refine Or.inr ⟨hr, ?_, ?_, q2⟩
            · first | (rw [Ar.1, ak]; exact w1) | (rw [Ar.1]; exact w1)
            · first | (rw [Ar.2, bk]; exact w2) | (rw [Ar.2]; exact w2)
          · rw [l3 i ir z]
            by_cases y : lf i < n
            · have y3 : lf i ≠ p := fun w => by
                have c := ch i hi9 p hp (Or.inl w)
                apply z
                refine ⟨c.2, c.1.symm, ?_⟩
                rw [c.1]
                exact w
              obtain ⟨k1, k2, k3⟩ := kid _ y (Or.inl rfl) y3
              obtain ⟨w1, w2, w3, w4⟩ := TRp_l h hi9 y
              refine Or.inr ⟨y, ?_, ?_, k3⟩
              · first | (rw [k1, ak]; exact w1) | (rw [k1]; exact w1)
              · first | (rw [k2, bk]; exact w2) | (rw [k2]; exact w2)
            · obtain ⟨w1, w2⟩ := TRp_ln h hi9 y
              refine Or.inl ⟨w1, ?_⟩
              first | (rw [ak]; exact w2) | (rw [bk]; exact w2)
        · by_cases z : p ≠ rt ∧ i = pr p ∧ lf (pr p) ≠ p
          · obtain ⟨z1, z2, z3⟩ := z
            obtain ⟨g0, g5, g6⟩ := g1 z1
            have y0 := r2 z1 z3
            rw [z2, y0]
            have cz : rg (pr p) = p := by
              obtain ⟨_, c | c⟩ := TRp_p h hp z1
              · first | exact c | exact absurd c z3
              · first | exact c | exact absurd c z3
            obtain ⟨w1, w2, w3, w4⟩ := TRp_r h g0 (by rw [cz]; exact hp)
            rw [cz] at w1 w2 w3 w4
            rw [z2] at ak bk
            refine Or.inr ⟨hr, ?_, ?_, q2⟩
            · first | (rw [Ar.1, ak]; exact w1) | (rw [Ar.1]; exact w1)
            · first | (rw [Ar.2, bk]; exact w2) | (rw [Ar.2]; exact w2)
          · rw [r3 i ip z]
            by_cases y : rg i < n
            · have y3 : rg i ≠ p := fun w => by
                have c := ch i hi9 p hp (Or.inr w)
                apply z
                refine ⟨c.2, c.1.symm, ?_⟩
                rw [c.1]
                intro e
                have b1 := TRp_b h hp
                have b9 := TRp_r h hi9 (by rw [w]; exact hp)
                have b8 := TRp_l h hi9 (by rw [e]; exact hp)
                rw [w] at b9
                rw [e] at b8
                omega
              obtain ⟨k1, k2, k3⟩ := kid _ y (Or.inr rfl) y3
              obtain ⟨w1, w2, w3, w4⟩ := TRp_r h hi9 y
              refine Or.inr ⟨y, ?_, ?_, k3⟩
              · first | (rw [k1, ak]; exact w1) | (rw [k1]; exact w1)
              · first | (rw [k2, bk]; exact w2) | (rw [k2]; exact w2)
            · obtain ⟨w1, w2⟩ := TRp_rn h hi9 y
              refine Or.inl ⟨w1, ?_⟩
              first | (rw [ak]; exact w2) | (rw [bk]; exact w2)
        · by_cases iq : i = lf (rg p)
          · rw [iq, q3 (by rw [← iq]; exact hi9)]
            exact Or.inr ⟨hp, Or.inr r1⟩
          · rw [q4 i hi9 ip ir iq]
            by_cases z : i = rt
            · rw [if_neg (fun w => ip (z.trans w.symm))]; exact Or.inl z
            · refine Or.inr ?_
              obtain ⟨c1, c2⟩ := TRp_p h hi9 z
              refine ⟨c1, ?_⟩
              have L2 : lf (pr i) = i → lf' (pr i) = i := fun y => by
                rw [l3 (pr i) (fun w => by rw [w] at y; exact iq y.symm) (fun w => by rw [w.2.1, w.2.2] at y; exact ip y.symm)]
                exact y
              have R2 : rg (pr i) = i → rg' (pr i) = i := fun y => by
                rw [r3 (pr i) (fun w => by rw [w] at y; exact ir y.symm) (fun w => by
                  obtain ⟨_, c | c⟩ := TRp_p h hp w.1
                  · exact w.2.2 c
                  · rw [w.2.1, c] at y; exact ip y.symm)]
                exact y
              rcases c2 with y | y
              · exact Or.inl (L2 y)
              · exact Or.inr (R2 y)
theorem rot_R0 {n : Nat} {lf rg pr lo hi lf' rg' pr' A B : Nat → Nat} {rt p : Nat} (h : TRp n lf rg pr lo hi rt) (hp : p < n) (hr : lf p < n)
    (l1 : rg' (lf p) = p) (l2 : Hid (p ≠ rt → rg (pr p) = p → rg' (pr p) = lf p)) (l3 : ∀ i, i ≠ lf p → ¬ (p ≠ rt ∧ i = pr p ∧ rg (pr p) = p) → rg' i = rg i)
    (r1 : lf' p = rg (lf p)) (r2 : Hid (p ≠ rt → rg (pr p) ≠ p → lf' (pr p) = lf p)) (r3 : ∀ i, i ≠ p → ¬ (p ≠ rt ∧ i = pr p ∧ rg (pr p) ≠ p) → lf' i = lf i)
    (q1 : pr' p = lf p) (q2 : pr' (lf p) = pr p) (q3 : Hid (rg (lf p) < n → pr' (rg (lf p)) = p)) (q4 : ∀ i, i < n → i ≠ p → i ≠ lf p → i ≠ rg (lf p) → pr' i = pr i)
    (a1 : A p = lf p + 1) (a2 : ∀ i, i ≠ p → A i = lo i) (b1 : B (lf p) = hi p) (b2 : ∀ i, i ≠ lf p → B i = hi i) (Ar : A (lf p) = lo p ∧ B (lf p) = hi p) : TRp n lf' rg' pr' A B (if p = rt then lf p else rt) := by
  obtain ⟨t1, t2, t3, t4⟩ := h.2.1 (by omega)
  have u1 := TRp_b h hp
  have v1 := TRp_b h hr
  obtain ⟨v5, v6, v7, v8⟩ := TRp_l h hp hr
  have vq : ∀ z : rg (lf p) < n, _ := fun z => TRp_r h hr z
  have g1 : Hid (p ≠ rt → pr p < n ∧ pr p ≠ p ∧ pr p ≠ lf p) := fun z => by
    obtain ⟨g0, y | y⟩ := TRp_p h hp z
    · have w := TRp_l h g0 (by rw [y]; exact hp)
      rw [y] at w
      refine ⟨g0, by omega, by omega⟩
    · have w := TRp_r h g0 (by rw [y]; exact hp)
      rw [y] at w
      refine ⟨g0, by omega, by omega⟩
  have ch : ∀ i, i < n → ∀ j, j < n → (rg i = j ∨ lf i = j) → pr j = i ∧ j ≠ rt := fun i hi9 j hj hij => by
    rcases hij with rfl | rfl
    · have w := TRp_r h hi9 hj
      have b := TRp_b h hj
      have b2 := TRp_b h hi9
      refine ⟨w.2.2.1, fun z => ?_⟩
      rw [z] at w
      omega
    · have w := TRp_l h hi9 hj
      have b := TRp_b h hj
      have b2 := TRp_b h hi9
      refine ⟨w.2.2.1, fun z => ?_⟩
      rw [z] at w
      omega
  have chq : rg (lf p) < n → ∀ j, j = rg (lf p) → pr j = lf p ∧ j ≠ rt := fun z j hj => by
    rw [hj]; exact ch (lf p) hr _ z (Or.inl rfl)
  refine ⟨fun z => absurd z (by omega), fun _ => ?_, fun i hi9 => ?_⟩
  · by_cases z : p = rt
    · rw [if_pos z, q2]
      have e : pr p = n := by rw [z]; exact t4
      have w2 := Ar
      have w3 : lo p = 0 ∧ hi p = n := by rw [z]; exact ⟨t2, t3⟩
      exact ⟨hr, by rw [w2.1]; exact w3.1, by rw [w2.2]; exact w3.2, e⟩
    · rw [if_neg z]
      have w1 : rt ≠ lf p := fun w => (ch p hp (lf p) hr (Or.inr rfl)).2 w.symm
      have w3 : rt ≠ rg (lf p) := fun w => (ch (lf p) hr (rg (lf p)) (by rw [← w]; exact t1) (Or.inl rfl)).2 w.symm
      rw [q4 rt t1 (fun w => z w.symm) w1 w3, a2 rt (fun w => z w.symm), b2 rt w1]
      exact ⟨t1, t2, t3, t4⟩
  · by_cases ip : i = p
    · subst ip
      refine ⟨?_, ?_, ?_, Or.inr ?_⟩
      · rw [a1, b2 i (by omega)]; omega
      · rw [r1]
        by_cases z : rg (lf i) < n
        · obtain ⟨w1, w2, w3, w4⟩ := vq z
          have bq := TRp_b h z
          exact Or.inr ⟨z, by rw [a2 _ (by omega), a1]; exact w1, by rw [b2 _ (by omega)]; omega, q3 z⟩
        · obtain ⟨w1, w2⟩ := TRp_rn h hr z
          exact Or.inl ⟨w1, by rw [a1]; omega⟩
      · rw [(l3 i (by omega) (fun z => (g1 z.1).2.1 z.2.1.symm))]
        by_cases z : rg i < n
        · obtain ⟨w1, w2, w3, w4⟩ := TRp_r h hp z
          have jr : rg i ≠ lf i := by omega
          have jq : rg i ≠ rg (lf i) := fun y => by
            have := (ch (lf i) hr (rg i) z (Or.inl y.symm)).1
            omega
          exact Or.inr ⟨z, by rw [a2 _ (by omega)]; exact w1, by rw [b2 _ jr, b2 i (by omega)]; exact w2, by rw [q4 _ z (by omega) jr jq]; exact w3⟩
        · obtain ⟨w1, w2⟩ := TRp_rn h hp z
          exact Or.inl ⟨w1, by rw [b2 i (by omega)]; exact w2⟩
      · rw [q1]; exact ⟨hr, Or.inr l1⟩
    · by_cases ir : i = lf p
      · subst ir
        refine ⟨?_, ?_, ?_, ?_⟩
        · rw [Ar.1, Ar.2]; omega
        · rw [(r3 (lf p) (by omega) (fun z => (g1 z.1).2.2 z.2.1.symm))]
          by_cases z : lf (lf p) < n
          · obtain ⟨w1, w2, w3, w4⟩ := TRp_l h hr z
            have jq : lf (lf p) ≠ rg (lf p) := fun y => by
              have := vq (by rw [← y]; exact z)
              rw [← y] at this
              omega
            exact Or.inr ⟨z, by rw [a2 _ (by omega), Ar.1]; omega, by rw [b2 _ (by omega)]; exact w2, by rw [q4 _ z (by omega) (by omega) jq]; exact w3⟩
          · obtain ⟨w1, w2⟩ := TRp_ln h hr z
            exact Or.inl ⟨w1, by rw [Ar.1]; omega⟩
        · rw [l1]
          exact Or.inr ⟨hp, a1, by rw [Ar.2, b2 p (by omega)], q1⟩
        · by_cases z : p = rt
          · rw [if_pos z]; exact Or.inl rfl
          · rw [q2]
            refine Or.inr ⟨(g1 z).1, ?_⟩
            by_cases y : rg (pr p) = p
            · exact Or.inr (l2 z y)
            · exact Or.inl (r2 z y)
      · have bi := TRp_b h hi9
        have kid : ∀ j, j < n → (rg i = j ∨ lf i = j) → j ≠ p → A j = lo j ∧ B j = hi j ∧ pr' j = i := fun j hj hij jp => by
          have c := (ch i hi9 j hj hij).1
          have jr : j ≠ lf p := fun z => by rw [z, v7] at c; exact ip c.symm
          have jq : j ≠ rg (lf p) := fun z => by
            have := (ch (lf p) hr j hj (Or.inl z.symm)).1
            exact ir (c.symm.trans this)
          exact ⟨a2 j jp, b2 j jr, by rw [q4 j hj jp jr jq]; exact c⟩
        have ak : A i = lo i := a2 i ip
        have bk : B i = hi i := b2 i ir
        refine ⟨by rw [ak, bk]; exact bi, ?_, ?_, ?_⟩
        · by_cases z : p ≠ rt ∧ i = pr p ∧ rg (pr p) ≠ p
          · obtain ⟨z1, z2, z3⟩ := z
            obtain ⟨g0, g5, g6⟩ := g1 z1
            have y0 := r2 z1 z3
            rw [z2, y0]
            have cz : lf (pr p) = p := by
              obtain ⟨_, c | c⟩ := TRp_p h hp z1
              · first | exact c | exact absurd c z3
              · first | exact c | exact absurd c z3
            obtain ⟨w1, w2, w3, w4⟩ := TRp_l h g0 (by rw [cz]; exact hp)
            rw [cz] at w1 w2 w3 w4
            rw [z2] at ak bk
            refine Or.inr ⟨hr, ?_, ?_, q2⟩
            · first | (rw [Ar.1, ak]; exact w1) | (rw [Ar.1]; exact w1)
            · first | (rw [Ar.2, bk]; exact w2) | (rw [Ar.2]; exact w2)
          · rw [r3 i ip z]
            by_cases y : lf i < n
            · have y3 : lf i ≠ p := fun w => by
                have c := ch i hi9 p hp (Or.inr w)
                apply z
                refine ⟨c.2, c.1.symm, ?_⟩
                rw [c.1]
                intro e
                have b1 := TRp_b h hp
                have b9 := TRp_l h hi9 (by rw [w]; exact hp)
                have b8 := TRp_r h hi9 (by rw [e]; exact hp)
                rw [w] at b9
                rw [e] at b8
                omega
              obtain ⟨k1, k2, k3⟩ := kid _ y (Or.inr rfl) y3
              obtain ⟨w1, w2, w3, w4⟩ := TRp_l h hi9 y
              refine Or.inr ⟨y, ?_, ?_, k3⟩
              · first | (rw [k1, ak]; exact w1) | (rw [k1]; exact w1)
              · first | (rw [k2, bk]; exact w2) | (rw [k2]; exact w2)
            · obtain ⟨w1, w2⟩ := TRp_ln h hi9 y
              refine Or.inl ⟨w1, ?_⟩
              first | (rw [ak]; exact w2) | (rw [bk]; exact w2)
        · by_cases z : p ≠ rt ∧ i = pr p ∧ rg (pr p) = p
          · obtain ⟨z1, z2, z3⟩ := z
            obtain ⟨g0, g5, g6⟩ := g1 z1
            have y0 := l2 z1 z3
            rw [z2, y0]
            have cz : rg (pr p) = p := z3
            obtain ⟨w1, w2, w3, w4⟩ := TRp_r h g0 (by rw [cz]; exact hp)
            rw [cz] at w1 w2 w3 w4
            rw [z2] at ak bk
            refine Or.inr ⟨hr, ?_, ?_, q2⟩
            · first | (rw [Ar.1, ak]; exact w1) | (rw [Ar.1]; exact w1)
            · first | (rw [Ar.2, bk]; exact w2) | (rw [Ar.2]; exact w2)
          · rw [l3 i ir z]
            by_cases y : rg i < n
            · have y3 : rg i ≠ p := fun w => by
                have c := ch i hi9 p hp (Or.inl w)
                apply z
                refine ⟨c.2, c.1.symm, ?_⟩
                rw [c.1]
                exact w
              obtain ⟨k1, k2, k3⟩ := kid _ y (Or.inl rfl) y3
              obtain ⟨w1, w2, w3, w4⟩ := TRp_r h hi9 y
              refine Or.inr ⟨y, ?_, ?_, k3⟩
              · first | (rw [k1, ak]; exact w1) | (rw [k1]; exact w1)
              · first | (rw [k2, bk]; exact w2) | (rw [k2]; exact w2)
            · obtain ⟨w1, w2⟩ := TRp_rn h hi9 y
              refine Or.inl ⟨w1, ?_⟩
              first | (rw [ak]; exact w2) | (rw [bk]; exact w2)
        · by_cases iq : i = rg (lf p)
          · rw [iq, q3 (by rw [← iq]; exact hi9)]
            exact Or.inr ⟨hp, Or.inl r1⟩
          · rw [q4 i hi9 ip ir iq]
            by_cases z : i = rt
            · rw [if_neg (fun w => ip (z.trans w.symm))]; exact Or.inl z
            · refine Or.inr ?_
              obtain ⟨c1, c2⟩ := TRp_p h hi9 z
              refine ⟨c1, ?_⟩
              have L2 : rg (pr i) = i → rg' (pr i) = i := fun y => by
                rw [l3 (pr i) (fun w => by rw [w] at y; exact iq y.symm) (fun w => by rw [w.2.1, w.2.2] at y; exact ip y.symm)]
                exact y
              have R2 : lf (pr i) = i → lf' (pr i) = i := fun y => by
                rw [r3 (pr i) (fun w => by rw [w] at y; exact ir y.symm) (fun w => by
                  obtain ⟨_, c | c⟩ := TRp_p h hp w.1
                  · rw [w.2.1, c] at y; exact ip y.symm
                  · exact w.2.2 c)]
                exact y
              rcases c2 with y | y
              · exact Or.inl (R2 y)
              · exact Or.inr (L2 y)
theorem rot_L {n : Nat} {lf rg pr lo hi : Nat → Nat} {rt p : Nat} (h : TRp n lf rg pr lo hi rt) (hp : p < n) (hr : rg p < n) : TRp n (rlL lf rg pr rt p) (rlR lf rg pr rt p) (rlP lf rg pr p) (fun i => if i = rg p then lo p else lo i) (fun i => if i = p then rg p else hi i) (if p = rt then rg p else rt) := by
  have u := TRp_b h hp
  have v := TRp_b h hr
  have v9 := TRp_r h hp hr
  have w : Hid (p ≠ rt → pr p ≠ p ∧ pr p ≠ rg p) := fun z => by
    obtain ⟨y0, y | y⟩ := TRp_p h hp z
    · have := TRp_l h y0 (by rw [y]; exact hp); rw [y] at this; constructor <;> omega
    · have := TRp_r h y0 (by rw [y]; exact hp); rw [y] at this; constructor <;> omega
  refine rot_L0 h hp hr (if_pos rfl) (fun a b => ?_) (fun i a b => ?_) (if_pos rfl) (fun a b => ?_) (fun i a b => ?_) (if_pos rfl) ?_ (fun a => ?_) (fun i _ a b c => ?_) (if_pos rfl) (fun i a => if_neg a) (if_pos rfl) (fun i a => if_neg a) ⟨if_pos rfl, by rw [if_neg (show rg p ≠ p by omega)]; omega⟩
  · unfold rlL; rw [if_neg (w a).2, if_pos ⟨a, rfl, b⟩]
  · unfold rlL; rw [if_neg a, if_neg b]
  · unfold rlR; rw [if_neg (w a).1, if_pos ⟨a, rfl, b⟩]
  · unfold rlR; rw [if_neg a, if_neg b]
  · unfold rlP; rw [if_neg (by omega), if_pos rfl]
  · have := TRp_l h hr a
    have bq := TRp_b h a
    unfold rlP; rw [if_neg (by omega), if_neg (by omega), if_pos rfl]
  · unfold rlP; rw [if_neg a, if_neg b, if_neg c]
theorem rot_R {n : Nat} {lf rg pr lo hi : Nat → Nat} {rt p : Nat} (h : TRp n lf rg pr lo hi rt) (hp : p < n) (hr : lf p < n) : TRp n (rrL lf rg pr rt p) (rrR lf rg pr rt p) (rrP lf rg pr p) (fun i => if i = p then lf p + 1 else lo i) (fun i => if i = lf p then hi p else hi i) (if p = rt then lf p else rt) := by
  have u := TRp_b h hp
  have v := TRp_b h hr
  have v9 := TRp_l h hp hr
  have w : Hid (p ≠ rt → pr p ≠ p ∧ pr p ≠ lf p) := fun z => by
    obtain ⟨y0, y | y⟩ := TRp_p h hp z
    · have := TRp_l h y0 (by rw [y]; exact hp); rw [y] at this; constructor <;> omega
    · have := TRp_r h y0 (by rw [y]; exact hp); rw [y] at this; constructor <;> omega
  refine rot_R0 h hp hr (if_pos rfl) (fun a b => ?_) (fun i a b => ?_) (if_pos rfl) (fun a b => ?_) (fun i a b => ?_) (if_pos rfl) ?_ (fun a => ?_) (fun i _ a b c => ?_) (if_pos rfl) (fun i a => if_neg a) (if_pos rfl) (fun i a => if_neg a) ⟨by rw [if_neg (show lf p ≠ p by omega)]; omega, if_pos rfl⟩
  · unfold rrR; rw [if_neg (w a).2, if_pos ⟨a, rfl, b⟩]
  · unfold rrR; rw [if_neg a, if_neg b]
  · unfold rrL; rw [if_neg (w a).1, if_pos ⟨a, rfl, b⟩]
  · unfold rrL; rw [if_neg a, if_neg b]
  · unfold rrP; rw [if_neg (by omega), if_pos rfl]
  · have := TRp_r h hr a
    have bq := TRp_b h a
    unfold rrP; rw [if_neg (by omega), if_neg (by omega), if_pos rfl]
  · unfold rrP; rw [if_neg a, if_neg b, if_neg c]
/-! a new node at place k -/
def sh1 (k x : Nat) : Nat := if x < k then x else x + 1
def sh2 (k x : Nat) : Nat := if x ≤ k then x else x + 1
def un1 (k x : Nat) : Nat := if x < k then x else x - 1
theorem un_sh {k x : Nat} : un1 k (sh1 k x) = x := by
  unfold un1 sh1
  by_cases h : x < k
  · rw [if_pos h, if_pos h]
  · rw [if_neg h, if_neg (by omega)]; omega
theorem sh_un {k x : Nat} (h : x ≠ k) : sh1 k (un1 k x) = x := by
  unfold un1 sh1
  by_cases h : x < k
  · rw [if_pos h, if_pos h]
  · rw [if_neg h, if_neg (by omega)]; omega
theorem sh_ne {k x : Nat} : sh1 k x ≠ k := by unfold sh1; split <;> omega
theorem sh_inj {k x y : Nat} (h : sh1 k x = sh1 k y) : x = y := by rw [← un_sh (k := k) (x := x), h, un_sh]
theorem un_lt {k x n : Nat} (hk : k ≤ n) (h : x < n + 1) (hx : x ≠ k) : un1 k x < n := by unfold un1; split <;> omega
theorem sh_lt {k x n : Nat} (hk : k ≤ n) (h : x < n) : sh1 k x < n + 1 := by unfold sh1; split <;> omega
theorem sh_n {k n : Nat} (hk : k ≤ n) : sh1 k n = n + 1 := by unfold sh1; rw [if_neg (by omega)]
/-- to the right of the one before -/
def iR_lf (n k : Nat) (lf : Nat → Nat) : Nat → Nat := fun j => if j = k then n + 1 else sh1 k (lf (un1 k j))
def iR_rg (n k : Nat) (rg : Nat → Nat) : Nat → Nat := fun j => if j = k then n + 1 else if j + 1 = k then k else sh1 k (rg (un1 k j))
def iR_pr (k : Nat) (pr : Nat → Nat) : Nat → Nat := fun j => if j = k then k - 1 else sh1 k (pr (un1 k j))
def iR_lo (k : Nat) (lo : Nat → Nat) : Nat → Nat := fun j => if j = k then k else sh1 k (lo (un1 k j))
def iR_hi (k : Nat) (hi : Nat → Nat) : Nat → Nat := fun j => if j = k then k + 1 else sh1 k (hi (un1 k j))
theorem ins_R {n : Nat} {lf rg pr lo hi : Nat → Nat} {rt k : Nat} (h : TRp n lf rg pr lo hi rt) (k0 : 0 < k) (kn : k ≤ n) (hr : rg (k - 1) = n) : TRp (n + 1) (iR_lf n k lf) (iR_rg n k rg) (iR_pr k pr) (iR_lo k lo) (iR_hi k hi) (sh1 k rt) := by
  obtain ⟨h0, h1, h⟩ := h
  obtain ⟨r1, r2, r3, r4⟩ := h1 (by omega)
  refine ⟨fun z => absurd z (by omega), fun _ => ?_, fun j hj => ?_⟩
  · unfold iR_lo iR_hi iR_pr
    rw [if_neg sh_ne, if_neg sh_ne, if_neg sh_ne, un_sh, r2, r3, r4, sh_n kn]
    refine ⟨sh_lt kn r1, ?_, rfl, rfl⟩
    unfold sh1; rw [if_pos k0]
  · by_cases e : j = k
    · subst e
      unfold iR_lf iR_rg iR_pr iR_lo iR_hi
      simp only [↓reduceIte]
      refine ⟨by omega, Or.inl (by simp), Or.inl (by simp), Or.inr ⟨by omega, Or.inr ?_⟩⟩
      rw [if_neg (by omega), if_pos (by omega)]
    · obtain ⟨i, rfl⟩ : ∃ i, j = sh1 k i := ⟨un1 k j, (sh_un e).symm⟩
      have hi9 : i < n := by have := un_lt kn hj e; rwa [un_sh] at this
      obtain ⟨⟨a1, a2, a3⟩, a4, a5, a6⟩ := h i hi9
      have L : ∀ x, iR_lf n k lf (sh1 k x) = sh1 k (lf x) := fun x => by unfold iR_lf; rw [if_neg sh_ne, un_sh]
      have P : ∀ x, iR_pr k pr (sh1 k x) = sh1 k (pr x) := fun x => by unfold iR_pr; rw [if_neg sh_ne, un_sh]
      have A : ∀ x, iR_lo k lo (sh1 k x) = sh1 k (lo x) := fun x => by unfold iR_lo; rw [if_neg sh_ne, un_sh]
      have B : ∀ x, iR_hi k hi (sh1 k x) = sh1 k (hi x) := fun x => by unfold iR_hi; rw [if_neg sh_ne, un_sh]
      have R : ∀ x, iR_rg n k rg (sh1 k x) = if x + 1 = k then k else sh1 k (rg x) := fun x => by
        unfold iR_rg
        rw [if_neg sh_ne, un_sh]
        by_cases z : x + 1 = k
        · rw [if_pos z, if_pos (by unfold sh1; rw [if_pos (by omega)]; exact z)]
        · rw [if_neg z, if_neg (by unfold sh1; split <;> omega)]
      have Ck : iR_lo k lo k = k ∧ iR_hi k hi k = k + 1 ∧ iR_pr k pr k = k - 1 := by
        unfold iR_lo iR_hi iR_pr; simp only [↓reduceIte]; exact ⟨trivial, trivial, trivial⟩
      simp only [L, P, A, B, R]
      refine ⟨by unfold sh1; split <;> (split <;> (split <;> omega)), ?_, ?_, ?_⟩
      · rcases a4 with ⟨z1, z2⟩ | ⟨z1, z2, z3, z4⟩
        · exact Or.inl ⟨by rw [z1, sh_n kn], by rw [z2]⟩
        · exact Or.inr ⟨sh_lt kn z1, by rw [z2], by rw [z3], by rw [z4]⟩
      · by_cases z : i + 1 = k
        · rw [if_pos z]
          have e1 : rg i = n := by rw [show i = k - 1 by omega]; exact hr
          have e2 : hi i = i + 1 := by rcases a5 with w | w; exact w.2; omega
          refine Or.inr ⟨by omega, ?_, ?_, ?_⟩
          · rw [Ck.1]; unfold sh1; rw [if_pos (by omega)]; omega
          · rw [Ck.2.1, e2]; unfold sh1; rw [if_neg (by omega)]; omega
          · rw [Ck.2.2]; unfold sh1; rw [if_pos (by omega)]; omega
        · rw [if_neg z]
          rcases a5 with ⟨z1, z2⟩ | ⟨z1, z2, z3, z4⟩
          · refine Or.inl ⟨by rw [z1, sh_n kn], ?_⟩
            rw [z2]; unfold sh1; split <;> (split <;> omega)
          · refine Or.inr ⟨sh_lt kn z1, ?_, by rw [B, z3], by rw [P, z4]⟩
            rw [A, z2]; unfold sh1; split <;> (split <;> omega)
      · rcases a6 with rfl | ⟨z1, z2⟩
        · exact Or.inl rfl
        · refine Or.inr ⟨sh_lt kn z1, ?_⟩
          rcases z2 with z2 | z2
          · exact Or.inl (by rw [z2])
          · refine Or.inr ?_
            rw [if_neg (fun w => ?_), z2]
            have : rg (pr i) = n := by rw [show pr i = k - 1 by omega]; exact hr
            omega
/-- to the left of the one behind -/
def iL_lf (n k : Nat) (lf : Nat → Nat) : Nat → Nat := fun j => if j = k then n + 1 else if j = k + 1 then k else sh1 k (lf (un1 k j))
def iL_rg (n k : Nat) (rg : Nat → Nat) : Nat → Nat := fun j => if j = k then n + 1 else sh1 k (rg (un1 k j))
def iL_pr (k : Nat) (pr : Nat → Nat) : Nat → Nat := fun j => if j = k then k + 1 else sh1 k (pr (un1 k j))
def iL_lo (k : Nat) (lo : Nat → Nat) : Nat → Nat := fun j => if j = k then k else sh2 k (lo (un1 k j))
def iL_hi (k : Nat) (hi : Nat → Nat) : Nat → Nat := fun j => if j = k then k + 1 else sh2 k (hi (un1 k j))
theorem ins_L {n : Nat} {lf rg pr lo hi : Nat → Nat} {rt k : Nat} (h : TRp n lf rg pr lo hi rt) (kn : k < n) (hl : lf k = n) : TRp (n + 1) (iL_lf n k lf) (iL_rg n k rg) (iL_pr k pr) (iL_lo k lo) (iL_hi k hi) (sh1 k rt) := by
  obtain ⟨h0, h1, h⟩ := h
  obtain ⟨r1, r2, r3, r4⟩ := h1 (by omega)
  have kn' : k ≤ n := by omega
  refine ⟨fun z => absurd z (by omega), fun _ => ?_, fun j hj => ?_⟩
  · unfold iL_lo iL_hi iL_pr
    rw [if_neg sh_ne, if_neg sh_ne, if_neg sh_ne, un_sh, r2, r3, r4, sh_n kn']
    refine ⟨sh_lt kn' r1, ?_, ?_, rfl⟩
    · unfold sh2; rw [if_pos (by omega)]
    · unfold sh2; rw [if_neg (by omega)]
  · by_cases e : j = k
    · subst e
      unfold iL_lf iL_rg iL_pr iL_lo iL_hi
      simp only [↓reduceIte]
      refine ⟨by omega, Or.inl (by simp), Or.inl (by simp), Or.inr ⟨by omega, Or.inl ?_⟩⟩
      rw [if_neg (by omega)]
    · obtain ⟨i, rfl⟩ : ∃ i, j = sh1 k i := ⟨un1 k j, (sh_un e).symm⟩
      have hi9 : i < n := by have := un_lt kn' hj e; rwa [un_sh] at this
      obtain ⟨⟨a1, a2, a3⟩, a4, a5, a6⟩ := h i hi9
      have R : ∀ x, iL_rg n k rg (sh1 k x) = sh1 k (rg x) := fun x => by unfold iL_rg; rw [if_neg sh_ne, un_sh]
      have P : ∀ x, iL_pr k pr (sh1 k x) = sh1 k (pr x) := fun x => by unfold iL_pr; rw [if_neg sh_ne, un_sh]
      have A : ∀ x, iL_lo k lo (sh1 k x) = sh2 k (lo x) := fun x => by unfold iL_lo; rw [if_neg sh_ne, un_sh]
      have B : ∀ x, iL_hi k hi (sh1 k x) = sh2 k (hi x) := fun x => by unfold iL_hi; rw [if_neg sh_ne, un_sh]
      have L : ∀ x, iL_lf n k lf (sh1 k x) = if x = k then k else sh1 k (lf x) := fun x => by
        unfold iL_lf
        rw [if_neg sh_ne, un_sh]
        by_cases z : x = k
        · rw [if_pos z, if_pos (by unfold sh1; rw [if_neg (by omega)]; omega)]
        · rw [if_neg z, if_neg (by unfold sh1; split <;> omega)]
      have Ck : iL_lo k lo k = k ∧ iL_hi k hi k = k + 1 ∧ iL_pr k pr k = k + 1 := by
        unfold iL_lo iL_hi iL_pr; simp only [↓reduceIte]; exact ⟨trivial, trivial, trivial⟩
      simp only [L, P, A, B, R]
      have ek : lo k = k := by obtain ⟨_, w, _⟩ := h k kn; rcases w with w | w; exact w.2; omega
      refine ⟨by unfold sh1 sh2; split <;> (split <;> (split <;> omega)), ?_, ?_, ?_⟩
      · by_cases z : i = k
        · subst z
          rw [if_pos rfl]
          refine Or.inr ⟨by omega, ?_, ?_, ?_⟩
          · rw [Ck.1, ek]; unfold sh2; rw [if_pos (by omega)]
          · rw [Ck.2.1]; unfold sh1; rw [if_neg (by omega)]
          · rw [Ck.2.2]; unfold sh1; rw [if_neg (by omega)]
        · rw [if_neg z]
          rcases a4 with ⟨z1, z2⟩ | ⟨z1, z2, z3, z4⟩
          · refine Or.inl ⟨by rw [z1, sh_n kn'], ?_⟩
            rw [z2]; unfold sh1 sh2; split <;> (split <;> omega)
          · refine Or.inr ⟨sh_lt kn' z1, by rw [A, z2], ?_, by rw [P, z4]⟩
            rw [B, z3]; unfold sh1 sh2; split <;> (split <;> omega)
      · rcases a5 with ⟨z1, z2⟩ | ⟨z1, z2, z3, z4⟩
        · refine Or.inl ⟨by rw [z1, sh_n kn'], ?_⟩
          rw [z2]; unfold sh1 sh2; split <;> (split <;> omega)
        · refine Or.inr ⟨sh_lt kn' z1, ?_, by rw [z3], by rw [z4]⟩
          rw [z2]; unfold sh1 sh2; split <;> (split <;> omega)
      · rcases a6 with rfl | ⟨z1, z2⟩
        · exact Or.inl rfl
        · refine Or.inr ⟨sh_lt kn' z1, ?_⟩
          rcases z2 with z2 | z2
          · refine Or.inl ?_
            rw [if_neg (fun w => ?_), z2]
            rw [w, hl] at z2
            omega
          · exact Or.inr (by rw [z2])
