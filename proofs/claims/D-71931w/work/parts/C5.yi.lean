/-! the journal: the row's entries are the set's -/
set_option maxRecDepth 100000
def jrR (r : Int → Int) (S : SmS) (I : SmI) (a n : Nat) (nd ky : Nat → Nat) : Prop := JT S I a n nd ky ∧ r 3 = n ∧ ∀ i : Nat, i < n → I (ky i) 0 = r (58 + 3 * (i : Int)) ∧ I (ky i) 1 = r (58 + 3 * (i : Int) + 1) ∧ I (ky i) 2 = r (58 + 3 * (i : Int) + 2)
/-- the entries are not ahead of the clock; those of this minute run -/
def jrO (r : Int → Int) : Prop := ∀ i : Nat, (i : Int) < r 3 → r (58 + 3 * (i : Int)) ≤ r 2 ∧ (r (58 + 3 * (i : Int)) = r 2 → r (34 + 6 * r (58 + 3 * (i : Int) + 1) + 4) = 1) ∧ 0 ≤ r (58 + 3 * (i : Int) + 1) ∧ r (58 + 3 * (i : Int) + 1) < 4
theorem kp_hi {r : Int → Int} {t : Int} : ∀ (n i : Nat), kpF r t n ≤ i → i < n → r (58 + 3 * (i : Int)) = r 2 ∧ t < r (58 + 3 * (i : Int) + 1) := by
  intro n
  induction n with
  | zero => exact fun i _ h => absurd h (by omega)
  | succ n ih =>
    intro i h hi9
    rw [kpF_s] at h
    by_cases z : r (58 + 3 * (n : Int)) = r 2 ∧ t < r (58 + 3 * (n : Int) + 1)
    · rw [if_pos z] at h
      by_cases e : i = n
      · subst e; exact z
      · exact ih i h (by omega)
    · rw [if_neg z] at h
      omega
theorem kp_lo {r : Int → Int} {t : Int} : ∀ (n i : Nat), (i : Int) + 1 = kpF r t n → ¬ (r (58 + 3 * (i : Int)) = r 2 ∧ t < r (58 + 3 * (i : Int) + 1)) := by
  intro n
  induction n with
  | zero =>
    intro i h
    have e : kpF r t 0 = 0 := by unfold kpF; rfl
    rw [e] at h
    omega
  | succ n ih =>
    intro i h
    rw [kpF_s] at h
    by_cases z : r (58 + 3 * (n : Int)) = r 2 ∧ t < r (58 + 3 * (n : Int) + 1)
    · rw [if_pos z] at h
      exact ih i h
    · rw [if_neg z] at h
      have e : i = n := by omega
      subst e; exact z
/-- the new entry's place -/
theorem jr_gap {r : Int → Int} {S : SmS} {I : SmI} {a n e : Nat} {nd ky : Nat → Nat} {t : Int} (h : jrR r S I a n nd ky) (hO : jrO r) (hs : r (34 + 6 * t + 4) = 0) (e0 : I e 0 = r 2) (e1 : I e 1 = t) : (∀ i, i < (kpF r t n).toNat → kLt I (ky i) e) ∧ ∀ i, (kpF r t n).toNat ≤ i → i < n → kLt I e (ky i) := by
  obtain ⟨hJ, hn, hk⟩ := h
  have kn := kpF_in (r := r) (t := t) n
  refine ⟨fun i hi9 => ?_, fun i hi9 hin => ?_⟩
  · obtain ⟨j, hj⟩ : ∃ j : Nat, (j : Int) + 1 = kpF r t n := ⟨(kpF r t n).toNat - 1, by omega⟩
    have lo := kp_lo n j hj
    have jn : j < n := by omega
    obtain ⟨o1, o2, _⟩ := hO j (by omega)
    have ne : r (58 + 3 * (j : Int)) = r 2 → r (58 + 3 * (j : Int) + 1) ≠ t := fun z y => by
      have q := o2 z
      rw [y] at q; omega
    have last : kLt I (ky j) e := by
      unfold kLt
      rw [(hk j jn).1, (hk j jn).2.1, e0, e1]
      by_cases z : r (58 + 3 * (j : Int)) = r 2
      · have q := ne z
        have q2 : ¬ t < r (58 + 3 * (j : Int) + 1) := fun y => lo ⟨z, y⟩
        exact Or.inr ⟨z, by omega⟩
      · exact Or.inl (by omega)
    by_cases z : i = j
    · subst z; exact last
    · have q := hJ.2.2.2 i j (by omega) jn
      unfold kLt at q last ⊢
      omega
  · obtain ⟨z1, z2⟩ := kp_hi (r := r) (t := t) n i (by omega) hin
    unfold kLt
    rw [(hk i hin).1, (hk i hin).2.1, e0, e1]
    exact Or.inr ⟨z1.symm, z2⟩
theorem gIns_hi {r : Int → Int} {k t l c : Int} (h : 58 + 3 * k + 3 ≤ c) (h2 : c < 58 + 3 * r 3 + 3) (hk : 0 ≤ k) : gIns r k t l c = r (c - 3) := by
  unfold gIns
  rw [if_neg (by omega), if_neg (by omega), if_neg (by omega), if_neg (by omega), if_pos ⟨h, h2⟩]
theorem gIns_lo {r : Int → Int} {k t l c : Int} (h : c < 58 + 3 * k) (h3 : c ≠ 3) : gIns r k t l c = r c := by
  unfold gIns
  rw [if_neg h3, if_neg (by omega), if_neg (by omega), if_neg (by omega), if_neg (by omega)]
theorem jr_put {r : Int → Int} {S S' : SmS} {I I' : SmI} {a n k e z : Nat} {nd ky : Nat → Nat} {t l : Int} (h : jrR r S I a n nd ky) (hk : k ≤ n) (hJ : JT S' I' a (n + 1) (ndI k z nd) (ndI k e ky)) (e0 : I' e 0 = r 2) (e1 : I' e 1 = t) (e2 : I' e 2 = l) (hI : ∀ (v : Nat) (j : Int), sT S v = 8 → I' v j = I v j) : jrR (gIns r k t l) S' I' a (n + 1) (ndI k z nd) (ndI k e ky) := by
  obtain ⟨h1, h2, h3⟩ := h
  refine ⟨hJ, by show r 3 + 1 = ((n + 1 : Nat) : Int); omega, fun i hi9 => ?_⟩
  rcases sh_cases hk hi9 with rfl | ⟨i', hi', rfl⟩
  · rw [ndI_k, e0, e1, e2]
    unfold gIns
    refine ⟨?_, ?_, ?_⟩
    · rw [if_neg (by omega), if_pos rfl]
    · rw [if_neg (by omega), if_neg (by omega), if_pos rfl]
    · rw [if_neg (by omega), if_neg (by omega), if_neg (by omega), if_pos rfl]
  · rw [ndI_s]
    have q8 := (h1.2.2.1 i' hi').2
    obtain ⟨a0, a1, a2⟩ := h3 i' hi'
    rw [hI _ _ q8, hI _ _ q8, hI _ _ q8, a0, a1, a2]
    unfold sh1
    by_cases y : i' < k
    · rw [if_pos y, gIns_lo (by omega) (by omega), gIns_lo (by omega) (by omega), gIns_lo (by omega) (by omega)]
      exact ⟨rfl, rfl, rfl⟩
    · rw [if_neg y, gIns_hi (by omega) (by omega) (by omega), gIns_hi (by omega) (by omega) (by omega), gIns_hi (by omega) (by omega) (by omega)]
      exact ⟨by congr 1; omega, by congr 1; omega, by congr 1; omega⟩
/-- what journal answers, by the row -/
theorem jrn_row {r : Int → Int} {S : SmS} {I : SmI} {a n : Nat} {nd ky : Nat → Nat} {i w : Int} (h : jrR r S I a n nd ky) : jrnV I n ky i w = if 0 ≤ i ∧ 0 ≤ w ∧ w ≤ 2 then (if i < r 3 then r (58 + 3 * i + w) else -4) else -1 := by
  obtain ⟨h1, h2, h3⟩ := h
  unfold jrnV
  by_cases z : 0 ≤ i ∧ 0 ≤ w ∧ w ≤ 2
  · rw [if_pos z, if_pos z, h2]
    by_cases y : i < n
    · rw [if_pos y, if_pos y]
      obtain ⟨a0, a1, a2⟩ := h3 i.toNat (by omega)
      have ei : ((i.toNat : Nat) : Int) = i := by omega
      rw [ei] at a0 a1 a2
      rcases (show w = 0 ∨ w = 1 ∨ w = 2 by omega) with e | e | e
      · rw [e, a0]; congr 1; omega
      · rw [e, a1]
      · rw [e, a2]
    · rw [if_neg y, if_neg y]
  · rw [if_neg z, if_neg z]
