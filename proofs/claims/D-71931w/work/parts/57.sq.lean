/-! trains that go alone, one by one -/
set_option maxRecDepth 100000
noncomputable def gaF (J : SmI) (t : Int) : Nat → Int → Int
  | 0, c => if dgt c t = 0 then c else -4
  | n + 1, c => by classical exact if dgt c t = 0 then c else if mvP J c t = -4 then -4 else gaF J t n (mvP J c t)
theorem gaF_0 {J : SmI} {t : Int} {n : Nat} {c : Int} (h : dgt c t = 0) : gaF J t n c = c := by
  cases n with
  | zero => exact if_pos h
  | succ n => unfold gaF; rw [if_pos h]
theorem gaF_s {J : SmI} {t : Int} {n : Nat} {c : Int} (h : dgt c t ≠ 0) (hm : mvP J c t ≠ -4) : gaF J t (n + 1) c = gaF J t n (mvP J c t) := by
  conv => lhs; unfold gaF
  rw [if_neg h, if_neg hm]
theorem gaF_n {J : SmI} {t : Int} {n : Nat} {c : Int} (h : dgt c t ≠ 0) (hm : mvP J c t = -4) : gaF J t n c = -4 := by
  cases n with
  | zero => exact if_neg h
  | succ n => unfold gaF; rw [if_neg h, if_pos hm]
noncomputable def ga (J : SmI) (c t : Int) : Int := gaF J t 6 c
theorem lfT_mv {J : SmI} {c t : Int} (hb : trB J) (hc : okP J c) (h0 : 0 ≤ t) (h1 : t < J 107 1) (h : mvP J c t ≠ -4) : lfT J (mvP J c t) t = lfT J c t - 1 := by
  obtain ⟨a, b, q, e, o⟩ := mvP_ok hb hc h0 h1 h
  have l1 : ∀ k : Int, 0 ≤ k → k < 4 → k ≠ t → lfT J (mvP J c t) k = lfT J c k := fun k k0 k1 ke => by unfold lfT; rw [q k k0 k1 ke]
  have h4 := hb.1.2
  unfold lfC at b
  rcases i4 h0 (show t < 4 by omega) with rfl | rfl | rfl | rfl
  · rw [l1 1 (by omega) (by omega) (by omega), l1 2 (by omega) (by omega) (by omega), l1 3 (by omega) (by omega) (by omega)] at b; omega
  · rw [l1 0 (by omega) (by omega) (by omega), l1 2 (by omega) (by omega) (by omega), l1 3 (by omega) (by omega) (by omega)] at b; omega
  · rw [l1 0 (by omega) (by omega) (by omega), l1 1 (by omega) (by omega) (by omega), l1 3 (by omega) (by omega) (by omega)] at b; omega
  · rw [l1 0 (by omega) (by omega) (by omega), l1 1 (by omega) (by omega) (by omega), l1 2 (by omega) (by omega) (by omega)] at b; omega
/-- enough fuel -/
theorem gaF_up {J : SmI} {t : Int} (hb : trB J) (h0 : 0 ≤ t) (h1 : t < J 107 1) : ∀ (n : Nat) (c : Int), okP J c → lfT J c t ≤ n → ∀ m : Nat, n ≤ m → gaF J t m c = gaF J t n c := by
  have h4 := hb.1.2
  intro n
  induction n with
  | zero =>
    intro c hc hl m _
    have l1 := lfT_in hb hc h0 (show t < 4 by omega)
    have := l1.2.2 (by omega)
    rw [gaF_0 this, gaF_0 this]
  | succ n ih =>
    intro c hc hl m hm
    by_cases e : dgt c t = 0
    · rw [gaF_0 e, gaF_0 e]
    · by_cases e2 : mvP J c t = -4
      · rw [gaF_n e e2, gaF_n e e2]
      · obtain ⟨m', rfl⟩ : ∃ m', m = m' + 1 := ⟨m - 1, by omega⟩
        rw [gaF_s e e2, gaF_s e e2]
        have := lfT_mv hb hc h0 h1 e2
        exact ih _ (mvP_ok hb hc h0 h1 e2).1 (by omega) m' (by omega)
theorem ga_0 {J : SmI} {c t : Int} (h : dgt c t = 0) : ga J c t = c := gaF_0 h
theorem ga_n {J : SmI} {c t : Int} (h : dgt c t ≠ 0) (hm : mvP J c t = -4) : ga J c t = -4 := gaF_n h hm
theorem ga_s {J : SmI} {c t : Int} (hb : trB J) (hc : okP J c) (h0 : 0 ≤ t) (h1 : t < J 107 1) (h : dgt c t ≠ 0) (hm : mvP J c t ≠ -4) : ga J c t = ga J (mvP J c t) t := by
  have h4 := hb.1.2
  have l1 := lfT_in hb hc h0 (show t < 4 by omega)
  have l2 := lfT_mv hb hc h0 h1 hm
  have ok := (mvP_ok hb hc h0 h1 hm).1
  unfold ga
  rw [gaF_s h hm]
  exact (gaF_up hb h0 h1 5 _ ok (by omega) 6 (by omega)).symm
theorem ga_ok {J : SmI} {c t : Int} (hb : trB J) (h0 : 0 ≤ t) (h1 : t < J 107 1) (hc : okP J c) (h : ga J c t ≠ -4) : okP J (ga J c t) ∧ dgt (ga J c t) t = 0 ∧ ∀ k : Int, 0 ≤ k → k < 4 → k ≠ t → dgt (ga J c t) k = dgt c k := by
  have h4 := hb.1.2
  unfold ga at h ⊢
  have key : ∀ (n : Nat) (c : Int), okP J c → gaF J t n c ≠ -4 → okP J (gaF J t n c) ∧ dgt (gaF J t n c) t = 0 ∧ ∀ k : Int, 0 ≤ k → k < 4 → k ≠ t → dgt (gaF J t n c) k = dgt c k := by
    intro n
    induction n with
    | zero =>
      intro c hc hn
      by_cases e : dgt c t = 0
      · rw [gaF_0 e]; exact ⟨hc, e, fun _ _ _ _ => rfl⟩
      · exact absurd (if_neg e) hn
    | succ n ih =>
      intro c hc hn
      by_cases e : dgt c t = 0
      · rw [gaF_0 e]; exact ⟨hc, e, fun _ _ _ _ => rfl⟩
      · by_cases e2 : mvP J c t = -4
        · exact absurd (gaF_n e e2) hn
        · rw [gaF_s e e2] at hn ⊢
          have ok := mvP_ok hb hc h0 h1 e2
          obtain ⟨q1, q2, q3⟩ := ih _ ok.1 hn
          exact ⟨q1, q2, fun k k0 k1 ke => (q3 k k0 k1 ke).trans (ok.2.2.1 k k0 k1 ke)⟩
  exact key 6 c hc h
/-- the first that can go alone -/
noncomputable def nx1 (J : SmI) (c : Int) : Int := fstI (fun t => dgt c t ≠ 0 ∧ ga J c t ≠ -4) (J 107 1).toNat
theorem nx1_in {J : SmI} {c : Int} (hb : trB J) (h : nx1 J c ≠ -4) : 0 ≤ nx1 J c ∧ nx1 J c < J 107 1 ∧ dgt c (nx1 J c) ≠ 0 ∧ ga J c (nx1 J c) ≠ -4 := by
  have := hb.1.1
  rcases fstI_cases (fun t => dgt c t ≠ 0 ∧ ga J c t ≠ -4) (J 107 1).toNat with ⟨e, _⟩ | ⟨k, hk, e, hP, _⟩
  · exact absurd e h
  · have e' : nx1 J c = k := e
    rw [e']
    exact ⟨by omega, by omega, hP.1, hP.2⟩
noncomputable def sqC (J : SmI) : Nat → Int → Int
  | 0, c => c
  | n + 1, c => ga J (sqC J n c) (nx1 J (sqC J n c))
def nz1 (c t : Int) : Int := if dgt c t = 0 then 0 else 1
def nzc (c : Int) : Int := nz1 c 0 + nz1 c 1 + nz1 c 2 + nz1 c 3
theorem nz1_in {c t : Int} : 0 ≤ nz1 c t ∧ nz1 c t ≤ 1 := by unfold nz1; split <;> omega
theorem nzc_in {c : Int} : 0 ≤ nzc c ∧ nzc c ≤ 4 := by
  have a := nz1_in (c := c) (t := 0)
  have b := nz1_in (c := c) (t := 1)
  have d := nz1_in (c := c) (t := 2)
  have e := nz1_in (c := c) (t := 3)
  unfold nzc
  omega
theorem nzc_ga {J : SmI} {c t : Int} (hb : trB J) (h0 : 0 ≤ t) (h1 : t < J 107 1) (hc : okP J c) (hd : dgt c t ≠ 0) (h : ga J c t ≠ -4) : nzc (ga J c t) = nzc c - 1 := by
  have h4 := hb.1.2
  obtain ⟨_, q2, q3⟩ := ga_ok hb h0 h1 hc h
  have e1 : nz1 (ga J c t) t = 0 := if_pos q2
  have e2 : nz1 c t = 1 := if_neg hd
  have e3 : ∀ k : Int, 0 ≤ k → k < 4 → k ≠ t → nz1 (ga J c t) k = nz1 c k := fun k k0 k1 ke => by unfold nz1; rw [q3 k k0 k1 ke]
  unfold nzc
  rcases i4 h0 (show t < 4 by omega) with rfl | rfl | rfl | rfl
  · rw [e1, e2, e3 1 (by omega) (by omega) (by omega), e3 2 (by omega) (by omega) (by omega), e3 3 (by omega) (by omega) (by omega)]; omega
  · rw [e1, e2, e3 0 (by omega) (by omega) (by omega), e3 2 (by omega) (by omega) (by omega), e3 3 (by omega) (by omega) (by omega)]; omega
  · rw [e1, e2, e3 0 (by omega) (by omega) (by omega), e3 1 (by omega) (by omega) (by omega), e3 3 (by omega) (by omega) (by omega)]; omega
  · rw [e1, e2, e3 0 (by omega) (by omega) (by omega), e3 1 (by omega) (by omega) (by omega), e3 2 (by omega) (by omega) (by omega)]; omega
/-- m steps, then none can -/
def sqM (J : SmI) (c : Int) (m : Nat) : Prop := m ≤ 4 ∧ (∀ k : Nat, k < m → nx1 J (sqC J k c) ≠ -4) ∧ nx1 J (sqC J m c) = -4
theorem sqC_ok {J : SmI} {c : Int} (hb : trB J) (hc : okP J c) (m : Nat) (h : ∀ k : Nat, k < m → nx1 J (sqC J k c) ≠ -4) : okP J (sqC J m c) ∧ nzc (sqC J m c) = nzc c - m := by
  induction m with
  | zero => exact ⟨hc, by show nzc c = _; omega⟩
  | succ m ih =>
    obtain ⟨a, b⟩ := ih (fun k hk => h k (by omega))
    obtain ⟨n0, n1, n2, n3⟩ := nx1_in hb (h m (by omega))
    refine ⟨(ga_ok hb n0 n1 a n3).1, ?_⟩
    show nzc (ga J _ _) = _
    rw [nzc_ga hb n0 n1 a n2 n3, b]
    omega
theorem sq_ex {J : SmI} {c : Int} (hb : trB J) (hc : okP J c) : ∃ m, sqM J c m := by
  refine Classical.byContradiction fun hno => ?_
  have key : ∀ m : Nat, m ≤ 5 → ∀ k : Nat, k < m → nx1 J (sqC J k c) ≠ -4 := by
    intro m
    induction m with
    | zero => exact fun _ k hk => absurd hk (Nat.not_lt_zero _)
    | succ m ih =>
      intro hm k hk
      by_cases e : k = m
      · intro z
        rw [e] at z
        exact hno ⟨m, by omega, ih (by omega), z⟩
      · exact ih (by omega) k (by omega)
  have := (sqC_ok hb hc 5 (key 5 (by omega))).2
  have a := nzc_in (c := c)
  have b := nzc_in (c := sqC J 5 c)
  omega
