/-! what stands against a train; who is sent by a rule; a plan -/
set_option maxRecDepth 100000
noncomputable def agn (J : SmI) (t : Int) : Int := by
  classical exact if J 107 (34 + 6 * t + 4) ≠ 0 then (if J 107 (34 + 6 * t + 4) = 2 then 1 else 2) else if fstI (mRB J (J 107 (34 + 6 * t + 3)) (mNx J t (J 107 (34 + 6 * t + 3)))) (J 107 1).toNat ≠ -4 then 3 else if mvP J (pNow J) t = -4 then 4 else if safP J (mvP J (pNow J) t) then 0 else 5
theorem agn_0 {J : SmI} {t : Int} : agn J t = 0 ↔ J 107 (34 + 6 * t + 4) = 0 ∧ fstI (mRB J (J 107 (34 + 6 * t + 3)) (mNx J t (J 107 (34 + 6 * t + 3)))) (J 107 1).toNat = -4 ∧ mvP J (pNow J) t ≠ -4 ∧ safP J (mvP J (pNow J) t) := by
  unfold agn
  by_cases a : J 107 (34 + 6 * t + 4) = 0
  · rw [if_neg (fun z => z a)]
    by_cases b : fstI (mRB J (J 107 (34 + 6 * t + 3)) (mNx J t (J 107 (34 + 6 * t + 3)))) (J 107 1).toNat = -4
    · rw [if_neg (fun z => z b)]
      by_cases c : mvP J (pNow J) t = -4
      · rw [if_pos c]
        exact ⟨fun z => absurd z (by omega), fun z => absurd c z.2.2.1⟩
      · rw [if_neg c]
        by_cases e : safP J (mvP J (pNow J) t)
        · rw [if_pos e]; exact ⟨fun _ => ⟨a, b, c, e⟩, fun _ => rfl⟩
        · rw [if_neg e]; exact ⟨fun z => absurd z (by omega), fun z => absurd z.2.2.2 e⟩
    · rw [if_pos b]
      exact ⟨fun z => absurd z (by omega), fun z => absurd z.2.1 b⟩
  · rw [if_pos a]
    refine ⟨fun z => ?_, fun z => absurd z.1 a⟩
    split at z <;> omega
noncomputable def msl (J : SmI) (t : Int) : Int := mSg J t (mWy J t)
def ahd (J : SmI) (rule t u : Int) : Prop := (rule = 1 ∧ msl J t - msl J u < 0) ∨ (rule = 2 ∧ 0 < msl J t - msl J u)
noncomputable def fBy (J : SmI) (rule : Int) : Nat → Int
  | 0 => -4
  | n + 1 => by classical exact if agn J n = 0 ∧ (fBy J rule n = -4 ∨ ahd J rule n (fBy J rule n)) then (n : Int) else fBy J rule n
theorem fBy_s (J : SmI) (rule : Int) (n : Nat) : (agn J n = 0 ∧ (fBy J rule n = -4 ∨ ahd J rule n (fBy J rule n)) → fBy J rule (n + 1) = n) ∧ (¬ (agn J n = 0 ∧ (fBy J rule n = -4 ∨ ahd J rule n (fBy J rule n))) → fBy J rule (n + 1) = fBy J rule n) := by
  constructor
  · intro h
    conv => lhs; unfold fBy
    rw [if_pos h]
  · intro h
    conv => lhs; unfold fBy
    rw [if_neg h]
theorem fBy_in (J : SmI) (rule : Int) (n : Nat) : fBy J rule n = -4 ∨ (0 ≤ fBy J rule n ∧ fBy J rule n < n ∧ agn J (fBy J rule n) = 0) := by
  induction n with
  | zero => exact Or.inl rfl
  | succ n ih =>
    by_cases h : agn J n = 0 ∧ (fBy J rule n = -4 ∨ ahd J rule n (fBy J rule n))
    · rw [(fBy_s J rule n).1 h]
      exact Or.inr ⟨by omega, by omega, h.1⟩
    · rw [(fBy_s J rule n).2 h]
      rcases ih with e | e
      · exact Or.inl e
      · exact Or.inr ⟨e.1, by omega, e.2.2⟩
theorem fBy_no {J : SmI} {rule : Int} {n : Nat} (h : fBy J rule n = -4) : ∀ j : Nat, j < n → agn J j ≠ 0 := by
  induction n with
  | zero => exact fun j hj => absurd hj (Nat.not_lt_zero _)
  | succ n ih =>
    by_cases q : agn J n = 0 ∧ (fBy J rule n = -4 ∨ ahd J rule n (fBy J rule n))
    · rw [(fBy_s J rule n).1 q] at h
      omega
    · rw [(fBy_s J rule n).2 q] at h
      intro j hj
      by_cases e : j = n
      · intro z
        rw [e] at z
        exact q ⟨z, Or.inl h⟩
      · exact ih h j (by omega)
/-- the first by a rule, in a row -/
noncomputable def fR (rule : Int) (r : Int → Int) : Int := fBy (rS r) rule (r 1).toNat
def runN (rule : Int) : Nat → (Int → Int) → (Int → Int) → Prop
  | 0, r, r' => r' = r ∧ fR rule r = -4
  | n + 1, r, r' => fR rule r ≠ -4 ∧ runN rule n (gGo r (fR rule r)) r'
def aDn (r : Int → Int) : Prop := ∀ t : Int, 0 ≤ t → t < r 1 → r (34 + 6 * t + 4) = 2
def plN (rule : Int) : Nat → (Int → Int) → (Int → Int) → Prop
  | 0, r, r' => ∃ n, runN rule n r r' ∧ aDn r'
  | k + 1, r, r' => ∃ n r1, runN rule n r r1 ∧ ¬ aDn r1 ∧ plN rule k (gOn r1 1) r'
/-- safe where all are -/
def SF (r : Int → Int) : Prop := safP (rS r) (pNow (rS r))
def ph (r : Int → Int) (t : Int) : Int := if t < r 1 then 10 * (if r (34 + 6 * t) < r (34 + 6 * t + 1) then r (34 + 6 * t + 1) - r (34 + 6 * t + 3) else r (34 + 6 * t + 3) - r (34 + 6 * t + 1)) + (if r (34 + 6 * t + 4) = 1 then r (34 + 6 * t + 5) - r 2 else 0) else 0
def pH (r : Int → Int) : Int := ph r 0 + ph r 1 + ph r 2 + ph r 3
theorem ph_in {r : Int → Int} (h : WR r) {t : Int} (t0 : 0 ≤ t) : 0 ≤ ph r t ∧ ph r t ≤ 59 := by
  unfold ph
  by_cases t1 : t < r 1
  · rw [if_pos t1]
    obtain ⟨w1, w2, w3, w4, w5, w6, w7⟩ := h.2.2.2 t t0 t1
    have := h.1.1
    split <;> split <;> rename_i a b
    · have := w6 b; have := w3.1 a; omega
    · have := w3.1 a; omega
    · have := w6 b; have := w3.2 a; omega
    · have := w3.2 a; omega
  · rw [if_neg t1]; omega
theorem pH_in {r : Int → Int} (h : WR r) : 0 ≤ pH r ∧ pH r ≤ 236 := by
  have a := ph_in h (t := 0) (by omega)
  have b := ph_in h (t := 1) (by omega)
  have c := ph_in h (t := 2) (by omega)
  have d := ph_in h (t := 3) (by omega)
  unfold pH
  omega
theorem pH_one {r r' : Int → Int} {t : Int} (t0 : 0 ≤ t) (t1 : t < 4) (ho : ∀ k : Int, 0 ≤ k → k < 4 → k ≠ t → ph r' k = ph r k) (h : ph r' t < ph r t) : pH r' < pH r := by
  unfold pH
  rcases i4 t0 t1 with rfl | rfl | rfl | rfl
  · rw [ho 1 (by omega) (by omega) (by omega), ho 2 (by omega) (by omega) (by omega), ho 3 (by omega) (by omega) (by omega)]; omega
  · rw [ho 0 (by omega) (by omega) (by omega), ho 2 (by omega) (by omega) (by omega), ho 3 (by omega) (by omega) (by omega)]; omega
  · rw [ho 0 (by omega) (by omega) (by omega), ho 1 (by omega) (by omega) (by omega), ho 3 (by omega) (by omega) (by omega)]; omega
  · rw [ho 0 (by omega) (by omega) (by omega), ho 1 (by omega) (by omega) (by omega), ho 2 (by omega) (by omega) (by omega)]; omega
theorem pH_le {r r' : Int → Int} {t : Int} (t0 : 0 ≤ t) (t1 : t < 4) (ho : ∀ k : Int, 0 ≤ k → k < 4 → ph r' k ≤ ph r k) (h : ph r' t < ph r t) : pH r' < pH r := by
  have a := ho 0 (by omega) (by omega)
  have b := ho 1 (by omega) (by omega)
  have c := ho 2 (by omega) (by omega)
  have d := ho 3 (by omega) (by omega)
  unfold pH
  rcases i4 t0 t1 with rfl | rfl | rfl | rfl <;> omega
theorem pH_go {r : Int → Int} (h : WR r) {t : Int} (t0 : 0 ≤ t) (t1 : t < r 1) (hs : r (34 + 6 * t + 4) = 0) : pH (gGo r t) < pH r := by
  have h4 := h.1.2.1
  have hr := h.1.2.2.2
  have lo : ∀ c : Int, c < 58 → c ≠ 3 → gGo r t c = gGo1 r t c := fun c a b => gGo_lo hr t0 (by omega) a b
  have st := gGo_stat (t := t) hr t0 (by omega)
  have e2 : gGo r t 2 = r 2 := by rw [lo 2 (by omega) (by omega), gGo1_o (by omega) (by omega) (by omega)]
  refine pH_one (t := t) t0 (by omega) (fun k k0 k1 e => ?_) ?_
  · unfold ph
    rw [← st.1, e2, ← statE_f st k0 k1, ← statE_t st k0 k1, lo _ (by omega) (by omega), lo _ (by omega) (by omega), lo _ (by omega) (by omega), gGo1_o (by omega) (by omega) (by omega), gGo1_o (by omega) (by omega) (by omega), gGo1_o (by omega) (by omega) (by omega)]
  · unfold ph
    rw [← st.1, e2, ← statE_f st t0 (by omega), ← statE_t st t0 (by omega), lo _ (by omega) (by omega), lo _ (by omega) (by omega), lo _ (by omega) (by omega), gGo1_3, gGo1_4, gGo1_5, if_pos t1, if_pos t1, if_pos rfl, if_neg (show ¬ r (34 + 6 * t + 4) = 1 by omega)]
    obtain ⟨n1, n2, n3⟩ := mNx_in h t0 t1 hs
    have m2 := (h.2.1 _ n3 (by have := h.1.1; omega)).2.2
    generalize r (4 + 5 * (if r (34 + 6 * t + 3) < mNx (rS r) t (r (34 + 6 * t + 3)) then r (34 + 6 * t + 3) else mNx (rS r) t (r (34 + 6 * t + 3))) + 4) = x at m2 ⊢
    unfold mNx rS
    split <;> omega
theorem pH_on {r : Int → Int} (h : WR r) (h1 : r 2 + 1 ≤ 1000000) {t : Int} (t0 : 0 ≤ t) (t1 : t < r 1) (hs : r (34 + 6 * t + 4) = 1) : pH (gOn r 1) < pH r := by
  have h4 := h.1.2.1
  have st := gOn_stat (r := r) (m := 1)
  have key : ∀ k : Int, 0 ≤ k → k < 4 → ph (gOn r 1) k ≤ ph r k ∧ (k < r 1 → r (34 + 6 * k + 4) = 1 → ph (gOn r 1) k < ph r k) := by
    intro k k0 k1
    unfold ph
    rw [← st.1, gOn_2, ← statE_f st k0 k1, ← statE_t st k0 k1, gOn_w (w := 3) k0 (by omega) (by omega)]
    by_cases k2 : k < r 1
    · obtain ⟨w1, w2, w3, w4, w5, w6, w7⟩ := h.2.2.2 k k0 k2
      rw [if_pos k2, if_pos k2]
      generalize (if r (34 + 6 * k) < r (34 + 6 * k + 1) then r (34 + 6 * k + 1) - r (34 + 6 * k + 3) else r (34 + 6 * k + 3) - r (34 + 6 * k + 1)) = x
      by_cases ha : arr r 1 k
      · rw [gOn_4 k0 k2 ha, if_neg (show ¬ (if r (34 + 6 * k + 3) = r (34 + 6 * k + 1) then (2 : Int) else 0) = 1 by split <;> omega), if_pos ha.1]
        have := w6 ha.1
        omega
      · rw [gOn_n4 k0 ha, gOn_n5 k0 ha]
        unfold arr at ha
        by_cases q : r (34 + 6 * k + 4) = 1
        · rw [if_pos q, if_pos q]
          have := w6 q
          omega
        · rw [if_neg q, if_neg q]
          exact ⟨Int.le_refl _, fun _ z => absurd z q⟩
    · rw [if_neg k2, if_neg k2]
      exact ⟨Int.le_refl _, fun z => absurd z k2⟩
  exact pH_le (t := t) t0 (by omega) (fun k k0 k1 => (key k k0 k1).1) ((key t t0 (by omega)).2 t1 hs)
/-- one that goes as against says: right, safe, nearer -/
theorem go_all {r : Int → Int} (h : WR r) {t : Int} (t0 : 0 ≤ t) (t1 : t < r 1) (ha : agn (rS r) t = 0) : WR (gGo r t) ∧ SF (gGo r t) ∧ pH (gGo r t) < pH r ∧ statE r (gGo r t) ∧ gGo r t 2 = r 2 ∧ pNow (rS (gGo r t)) = mvP (rS r) (pNow (rS r)) t := by
  obtain ⟨a1, a2, a3, a4⟩ := agn_0.mp ha
  have h4 := h.1.2.1
  have hr := h.1.2.2.2
  have hw := WR_go h t0 t1 a1
  have st := gGo_stat (t := t) hr t0 (by omega)
  have pn := pNow_go h t0 t1 a1 a3
  refine ⟨hw, ?_, pH_go h t0 t1 a1, st, by rw [gGo_lo hr t0 (by omega) (by omega) (by omega), gGo1_o (by omega) (by omega) (by omega)], pn⟩
  have hJ : WR (rS r 107) := h
  have ok := (mvP_ok (WR_trB hJ) (pNow_ok hJ) t0 t1 a3).1
  unfold SF
  rw [pn]
  exact (safP_stat (J := rS r) (J' := rS (gGo r t)) st (WR_mOk hJ) ok).mp a4
theorem SF_on {r : Int → Int} (h : WR r) {m : Int} (m0 : 0 ≤ m) (m1 : r 2 + m ≤ 1000000) (hs : SF r) : SF (gOn r m) := by
  have hJ : WR (rS r 107) := h
  unfold SF at *
  rw [pNow_on h m0 m1]
  exact (safP_stat (J := rS r) (J' := rS (gOn r m)) gOn_stat (WR_mOk hJ) (pNow_ok hJ)).mp hs
theorem fR_in {rule : Int} {r : Int → Int} (h : WR r) (hn : fR rule r ≠ -4) : 0 ≤ fR rule r ∧ fR rule r < r 1 ∧ agn (rS r) (fR rule r) = 0 := by
  have h4 := h.1.2.1
  rcases fBy_in (rS r) rule (r 1).toNat with e | e
  · exact absurd e hn
  · unfold fR
    exact ⟨e.1, by omega, e.2.2⟩
/-- sending comes to an end -/
theorem run_ex (rule : Int) : ∀ (N : Nat) (r : Int → Int), pH r ≤ N → WR r → SF r → ∃ n r', runN rule n r r' ∧ WR r' ∧ SF r' ∧ pH r' ≤ pH r ∧ statE r r' ∧ r' 2 = r 2 ∧ fR rule r' = -4 := by
  intro N
  induction N with
  | zero =>
    intro r hp h hs
    by_cases e : fR rule r = -4
    · exact ⟨0, r, ⟨rfl, e⟩, h, hs, Int.le_refl _, statE_refl, rfl, e⟩
    · obtain ⟨t0, t1, ha⟩ := fR_in h e
      obtain ⟨g1, g2, g3, g4, g5⟩ := go_all h t0 t1 ha
      have := (pH_in g1).1
      omega
  | succ N ih =>
    intro r hp h hs
    by_cases e : fR rule r = -4
    · exact ⟨0, r, ⟨rfl, e⟩, h, hs, Int.le_refl _, statE_refl, rfl, e⟩
    · obtain ⟨t0, t1, ha⟩ := fR_in h e
      obtain ⟨g1, g2, g3, g4, g5, _⟩ := go_all h t0 t1 ha
      obtain ⟨n, r', q1, q2, q3, q4, q5, q6, q7⟩ := ih _ (by omega) g1 g2
      exact ⟨n + 1, r', ⟨e, q1⟩, q2, q3, by omega, statE_trans g4 q5, q6.trans g5, q7⟩
/-- where none can be sent and not all are done, one runs -/
theorem one_runs {rule : Int} {r : Int → Int} (h : WR r) (hs : SF r) (hf : fR rule r = -4) (hn : ¬ aDn r) : ∃ t : Int, 0 ≤ t ∧ t < r 1 ∧ r (34 + 6 * t + 4) = 1 := by
  refine Classical.byContradiction fun hno => ?_
  have h4 := h.1.2.1
  have hJ : WR (rS r 107) := h
  have nr : ∀ t : Int, 0 ≤ t → t < r 1 → r (34 + 6 * t + 4) ≠ 1 := fun t t0 t1 z => hno ⟨t, t0, t1, z⟩
  rcases safP_iff.mp hs with z | ⟨b, ⟨t, t0, t1, m1, rfl⟩, sb⟩
  · refine hn fun t t0 t1 => ?_
    have e := pNow_d hJ t0 (by omega)
    rw [z, dgt_0] at e
    have w := h.2.2.2 t t0 t1
    have n1 := nr t t0 t1
    obtain ⟨w1, w2, w3, w4, w5, w6, w7⟩ := w
    have e' : pD r t = 0 := e.symm
    unfold pD at e'
    rcases w4 with w4 | w4 | w4
    · rw [if_pos ⟨t0, t1, (w5 w4).1⟩] at e'
      omega
    · exact absurd w4 n1
    · exact w4
  · have hd := (mvP_ok (WR_trB hJ) (pNow_ok hJ) t0 t1 m1).2.2.2.2
    have t1' : t < r 1 := t1
    rw [pNow_d hJ t0 (by omega)] at hd
    have w := h.2.2.2 t t0 t1
    have n1 := nr t t0 t1
    have st0 : r (34 + 6 * t + 4) = 0 := by
      have hd' : pD r t ≠ 0 := hd
      unfold pD at hd'
      split at hd'
      · rename_i q
        have := w.2.2.2
        omega
      · exact absurd rfl hd'
    have hlt : ∀ j : Nat, j < (r 1).toNat → (j : Int) < r 1 := fun j hj => by omega
    have ha : agn (rS r) t = 0 := agn_0.mpr ⟨st0, fstI_no (fun j hj z => nr j (by omega) (hlt j hj) z.1), m1, sb⟩
    have := fBy_no hf t.toNat (by omega)
    rw [show ((t.toNat : Nat) : Int) = t by omega] at this
    exact this ha
theorem pl_ex (rule : Int) : ∀ (N : Nat) (r : Int → Int), pH r ≤ N → WR r → SF r → r 2 + N ≤ 1000000 → ∃ k r', k ≤ N ∧ plN rule k r r' ∧ WR r' := by
  intro N
  induction N with
  | zero =>
    intro r hp h hs hc
    obtain ⟨n, r', q1, q2, q3, q4, q5, q6, q7⟩ := run_ex rule _ r hp h hs
    by_cases e : aDn r'
    · exact ⟨0, r', Nat.le_refl _, ⟨n, q1, e⟩, q2⟩
    · exfalso
      obtain ⟨t, t0, t1, t2⟩ := one_runs q2 q3 q7 e
      have p0 := (pH_in q2).1
      obtain ⟨w1, w2, w3, w4, w5, w6, w7⟩ := q2.2.2.2 t t0 t1
      have := w6 t2
      have h4 := q2.1.2.1
      have a := ph_in q2 (t := 0) (by omega)
      have b := ph_in q2 (t := 1) (by omega)
      have c := ph_in q2 (t := 2) (by omega)
      have d := ph_in q2 (t := 3) (by omega)
      have e1 : 1 ≤ ph r' t := by
        unfold ph
        rw [if_pos t1, if_pos t2]
        split <;> rename_i z
        · have := w3.1 z; omega
        · have := w3.2 z; omega
      unfold pH at q4 hp
      rcases i4 t0 (show t < 4 by omega) with rfl | rfl | rfl | rfl <;> omega
  | succ N ih =>
    intro r hp h hs hc
    obtain ⟨n, r', q1, q2, q3, q4, q5, q6, q7⟩ := run_ex rule _ r hp h hs
    by_cases e : aDn r'
    · exact ⟨0, r', Nat.zero_le _, ⟨n, q1, e⟩, q2⟩
    · obtain ⟨t, t0, t1, t2⟩ := one_runs q2 q3 q7 e
      have hc' : r' 2 + 1 ≤ 1000000 := by omega
      have p1 := pH_on q2 hc' t0 t1 t2
      obtain ⟨k, r2, k1, k2, k3⟩ := ih (gOn r' 1) (by omega) (WR_on q2 (by omega) hc') (SF_on q2 (by omega) hc' q3) (by rw [gOn_2]; omega)
      exact ⟨k + 1, r2, by omega, ⟨n, r', q1, e, k2⟩, k3⟩
