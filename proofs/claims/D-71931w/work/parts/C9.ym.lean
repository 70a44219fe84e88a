/-! the journal's entries are not ahead, as the row goes on -/
set_option maxRecDepth 100000
theorem jrO_go {r : Int → Int} {t : Int} {n : Nat} (hO : jrO r) (t0 : 0 ≤ t) (t1 : t < 4) (hn : r 3 = n) (h60 : n < 60) : jrO (gGo r t) := by
  have hr : 0 ≤ r 3 ∧ r 3 ≤ 60 := by omega
  have kn := kpF_in (r := r) (t := t) n
  have g2 : gGo r t 2 = r 2 := by rw [gGo_lo hr t0 t1 (by omega) (by omega)]; exact gGo1_o (by omega) (by omega) (by omega)
  have gi := gGo_ins t0 t1 hn h60
  have g3 : gGo r t 3 = r 3 + 1 := by
    rw [gi]
    show gGo1 r t 3 + 1 = r 3 + 1
    rw [gGo1_o (by omega) (by omega) (by omega)]
  have gs : ∀ u : Int, 0 ≤ u → u < 4 → (u = t ∨ r (34 + 6 * u + 4) = 1) → gGo r t (34 + 6 * u + 4) = 1 := fun u u0 u1 h => by
    rw [gGo_lo hr t0 t1 (by omega) (by omega)]
    by_cases e : u = t
    · subst e; exact gGo1_4
    · rw [gGo1_o (by omega) (by omega) (by omega)]
      exact h.resolve_left e
  intro i hi9
  rw [g3] at hi9
  rw [g2]
  rcases (show (i : Int) < kpF r t n ∨ (i : Int) = kpF r t n ∨ kpF r t n < i by omega) with q | q | q
  · have e : ∀ c : Int, 58 ≤ c → c < 58 + 3 * kpF r t n → gGo r t c = r c := fun c c0 c1 => by
      rw [gi, gIns_lo (by omega) (by omega), gGo1_o (by omega) (by omega) (by omega)]
    rw [e (58 + 3 * (i : Int)) (by omega) (by omega), e (58 + 3 * (i : Int) + 1) (by omega) (by omega)]
    obtain ⟨o1, o2, o3, o4⟩ := hO i (by omega)
    exact ⟨o1, fun z => gs _ o3 o4 (Or.inr (o2 z)), o3, o4⟩
  · have e0 : gGo r t (58 + 3 * (i : Int)) = r 2 := by
      rw [gi]
      unfold gIns
      rw [if_neg (by omega), if_pos (by omega)]
      exact gGo1_o (by omega) (by omega) (by omega)
    have e1 : gGo r t (58 + 3 * (i : Int) + 1) = t := by
      rw [gi]
      unfold gIns
      rw [if_neg (by omega), if_neg (by omega), if_pos (by omega)]
    rw [e0, e1]
    exact ⟨by omega, fun _ => gs t t0 t1 (Or.inl rfl), t0, t1⟩
  · have e3 : gGo1 r t 3 = r 3 := gGo1_o (by omega) (by omega) (by omega)
    have e : ∀ c : Int, 58 + 3 * kpF r t n + 3 ≤ c → c < 58 + 3 * r 3 + 3 → gGo r t c = r (c - 3) := fun c c0 c1 => by
      rw [gi, gIns_hi (by omega) (by rw [e3]; omega) (by omega), gGo1_o (by omega) (by omega) (by omega)]
    have ei : ((i - 1 : Nat) : Int) = i - 1 := by omega
    obtain ⟨o1, o2, o3, o4⟩ := hO (i - 1) (by omega)
    rw [ei] at o1 o2 o3 o4
    rw [show 58 + 3 * ((i : Int) - 1) = 58 + 3 * (i : Int) - 3 by omega] at o1 o2 o3 o4
    rw [show 58 + 3 * (i : Int) - 3 + 1 = 58 + 3 * (i : Int) + 1 - 3 by omega] at o2 o3 o4
    rw [e (58 + 3 * (i : Int)) (by omega) (by omega), e (58 + 3 * (i : Int) + 1) (by omega) (by omega)]
    exact ⟨o1, fun z => gs _ o3 o4 (Or.inr (o2 z)), o3, o4⟩
theorem jrO_on {r : Int → Int} {m : Int} (h4 : r 1 ≤ 4) (hO : jrO r) (hm : 1 ≤ m) : jrO (gOn r m) := by
  have e : ∀ c : Int, c = 3 ∨ 58 ≤ c → gOn r m c = r c := fun c hc => gOn_o (by omega) (by omega)
  intro i hi9
  rw [e 3 (Or.inl rfl)] at hi9
  rw [gOn_2, e (58 + 3 * (i : Int)) (Or.inr (by omega)), e (58 + 3 * (i : Int) + 1) (Or.inr (by omega))]
  obtain ⟨o1, o2, o3, o4⟩ := hO i hi9
  exact ⟨by omega, fun z => absurd z (by omega), o3, o4⟩
