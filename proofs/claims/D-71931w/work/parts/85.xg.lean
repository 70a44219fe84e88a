/-! a line, a yard stand for a row -/
set_option maxRecDepth 100000
def LnA (r : Int → Int) (b : Nat) (I : SmI) : Prop := I b 10 = r 1 ∧ (∀ p : Int, 0 ≤ p → p < 6 → I (b + 8) p = r (4 + 5 * p) ∧ I (b + 9) p = r (4 + 5 * p + 4) ∧ sdB (I (b + 2 + p.toNat)) (r (4 + 5 * p)) (mTk (rS r) p)) ∧ ∀ t : Int, 0 ≤ t → t < r 1 → I (b + 10) t = r (34 + 6 * t) ∧ I (b + 11) t = r (34 + 6 * t + 1) ∧ I (b + 12) t = r (34 + 6 * t + 2)
def LnB (r : Int → Int) (b : Nat) (I : SmI) : Prop := (I b 3 = r 0 ∧ I b 11 = r 2) ∧ ∀ t : Int, 0 ≤ t → t < r 1 → I (b + 13) t = r (34 + 6 * t + 3) ∧ I (b + 14) t = tf (r (34 + 6 * t + 4) = 1) ∧ (r (34 + 6 * t + 4) ≠ 0 → I (b + 15) t = r (34 + 6 * t + 5))
def lnZ (b : Nat) (I : SmI) : Prop := ∀ t : Int, 0 ≤ t → t < 4 → I (b + 14) t = 0 ∨ I (b + 14) t = 1
def LnR (r : Int → Int) (b : Nat) (I : SmI) : Prop := LnA r b I ∧ LnB r b I ∧ lnZ b I
theorem rS_ap {r : Int → Int} {b : Nat} : rS r b = r := rfl
theorem LnA_fr {r : Int → Int} {b : Nat} {I I' : SmI} (h : LnA r b I) (hf : ∀ q : Nat, b ≤ q → q < b + 16 → I' q = I q) : LnA r b I' := by
  obtain ⟨a, p, t⟩ := h
  refine ⟨by rw [hf b (by omega) (by omega)]; exact a, fun q q0 q1 => ?_, fun q q0 q1 => ?_⟩
  · rw [hf _ (by omega) (by omega), hf _ (by omega) (by omega), hf _ (by omega) (by omega)]; exact p q q0 q1
  · rw [hf _ (by omega) (by omega), hf _ (by omega) (by omega), hf _ (by omega) (by omega)]; exact t q q0 q1
theorem LnR_fr {r : Int → Int} {b : Nat} {I I' : SmI} (h : LnR r b I) (hf : ∀ q : Nat, b ≤ q → q < b + 16 → I' q = I q) : LnR r b I' := by
  obtain ⟨a, ⟨p, t⟩, z⟩ := h
  refine ⟨LnA_fr a hf, ⟨by rw [hf b (by omega) (by omega)]; exact p, fun q q0 q1 => ?_⟩, fun q q0 q1 => ?_⟩
  · rw [hf _ (by omega) (by omega), hf _ (by omega) (by omega), hf _ (by omega) (by omega)]; exact t q q0 q1
  · rw [hf _ (by omega) (by omega)]; exact z q q0 q1
theorem sdB_cg {a a' : Int → Int} {n : Int} {C C' : Int → Int} (h : sdB a n C) (ha : ∀ k, 0 ≤ k → k < n → a' k = a k) (hC : ∀ L, C' L = C L) : sdB a' n C' := fun k k0 k1 L => by rw [ha k k0 k1, hC]; exact h k k0 k1 L
theorem LnR_cp {r : Int → Int} {b c : Nat} {I I' : SmI} (hW : WR r) (h : LnR r c I) (hc : lnCp c b I I') : LnR r b I' := by
  obtain ⟨⟨a, p, t⟩, ⟨⟨e1, e2⟩, s⟩, z⟩ := h
  obtain ⟨_, ⟨f3, f10, f11⟩, fp, ft⟩ := hc
  have h4 := hW.1.2.1
  refine ⟨⟨by rw [f10]; exact a, fun q q0 q1 => ?_, fun q q0 q1 => ?_⟩, ⟨⟨by rw [f3]; exact e1, by rw [f11]; exact e2⟩, fun q q0 q1 => ?_⟩, fun q q0 q1 => ?_⟩
  · obtain ⟨g1, g2, g3⟩ := fp q q0 q1
    obtain ⟨k1, k2, k3⟩ := p q q0 q1
    have w := (hW.2.1 q q0 q1).1
    exact ⟨g1.trans k1, g2.trans k2, sdB_cg k3 (fun k a0 a1 => g3 k a0 (by omega)) (fun _ => rfl)⟩
  · obtain ⟨g1, g2, g3, _⟩ := ft q q0 (by omega)
    rw [g1, g2, g3]; exact t q q0 q1
  · obtain ⟨_, _, _, g1, g2, g3⟩ := ft q q0 (by omega)
    rw [g1, g2, g3]; exact s q q0 q1
  · obtain ⟨_, _, _, _, g2, _⟩ := ft q q0 q1
    rw [g2]; exact z q q0 q1
theorem LnA_stat {r r' : Int → Int} {b : Nat} {I : SmI} (hW : WR r) (h : LnA r b I) (hs : statE r r') : LnA r' b I := by
  obtain ⟨a, p, t⟩ := h
  have h4 := hW.1.2.1
  refine ⟨a.trans hs.1, fun q q0 q1 => ?_, fun q q0 q1 => ?_⟩
  · obtain ⟨k1, k2, k3⟩ := p q q0 q1
    have e1 := statE_k hs q0 q1
    have e2 := hs.2.1 (4 + 5 * q + 4) (by omega) (by omega)
    refine ⟨k1.trans e1, k2.trans e2, ?_⟩
    rw [← e1]
    exact sdB_cg k3 (fun _ _ _ => rfl) (fun L => (mTk_stat (I := rS r) (I' := rS r') hs q0 q1 (hW.2.1 q q0 q1).1.2).symm)
  · obtain ⟨g1, g2, g3⟩ := t q q0 (by rw [hs.1]; exact q1)
    have q4 : q < 4 := by have := hs.1; omega
    exact ⟨g1.trans (statE_f hs q0 q4), g2.trans (statE_t hs q0 q4), g3.trans (statE_l hs q0 q4)⟩
theorem Ln_dn {r : Int → Int} {b : Nat} {I : SmI} (hW : WR r) (h : LnR r b I) {t : Int} (t0 : 0 ≤ t) (t1 : t < r 1) : (I (b + 13) t = I (b + 11) t ∧ I (b + 14) t = 0) ↔ r (34 + 6 * t + 4) = 2 := by
  obtain ⟨e1, e2, _⟩ := h.2.1.2 t t0 t1
  obtain ⟨_, e3, _⟩ := h.1.2.2 t t0 t1
  have w := (hW.2.2.2 t t0 t1).2.2.2
  rw [e1, e2, e3, tf_0]
  omega
theorem Ln_post {r : Int → Int} {b : Nat} {I : SmI} (hW : WR r) (h : LnR r b I) : mEn (lDg b I) = xcd (rS r) (pNow (rS r)) := by
  have h4 := hW.1.2.1
  unfold xcd
  refine mEn_congr fun t t0 t1 => ?_
  unfold xdg lDg
  rw [h.1.1, pNow_d (J := rS r) hW t0 t1]
  by_cases z : t < r 1
  · obtain ⟨e1, _, _⟩ := h.2.1.2 t t0 z
    obtain ⟨_, e3, _⟩ := h.1.2.2 t t0 z
    rw [if_pos z, if_pos (show t < rS r 107 1 from z), e1, e3]
    unfold pD
    rw [rS_ap]
    have w := hW.2.2.2 t t0 z
    have p := hW.1.1
    obtain ⟨w1, w2, w3, _⟩ := w
    by_cases y : r (34 + 6 * t + 3) = r (34 + 6 * t + 1)
    · rw [if_pos y, if_neg (fun x => x.2.2 y)]; rfl
    · rw [if_neg y, if_pos ⟨t0, z, y⟩]; omega
  · rw [if_neg z, if_neg (show ¬ t < rS r 107 1 from z)]
theorem Ln_all {r : Int → Int} (h0 : 0 ≤ r 1) (h4 : r 1 ≤ 4) : (7 : Int) ^ (r 1).toNat - 1 = xcd (rS r) 0 := by
  unfold xcd mEn xdg
  rw [rS_ap]
  simp only [dgt_0]
  have hc : r 1 = 0 ∨ r 1 = 1 ∨ r 1 = 2 ∨ r 1 = 3 ∨ r 1 = 4 := by omega
  rcases hc with c | c | c | c | c <;> rw [c] <;> decide
theorem Ln_nx {r : Int → Int} {b : Nat} {I : SmI} (h : LnA r b I) {t p : Int} (t0 : 0 ≤ t) (t1 : t < r 1) : mNx (rS r) t p = p + lWy b I t := by
  obtain ⟨e1, e2, _⟩ := h.2.2 t t0 t1
  unfold mNx lWy
  rw [e1, e2, rS_ap]
  split <;> omega
/-- what a yard knows is right -/
def YdK (r : Int → Int) (y : Nat) (I : SmI) : Prop := ∀ c : Int, okP (rS r) c → I (y + 1) (xcd (rS r) c) = 0 ∨ (I (y + 1) (xcd (rS r) c) = 1 ∧ safP (rS r) c) ∨ (I (y + 1) (xcd (rS r) c) = 2 ∧ ¬ safP (rS r) c)
theorem xcd_cg {J J' : SmI} {c : Int} (h : J 107 1 = J' 107 1) : xcd J c = xcd J' c := by unfold xcd xdg; rw [h]
theorem YdK_stat {r r' : Int → Int} {y : Nat} {I : SmI} (h : YdK r y I) (hW : WR r) (hs : statE r r') : YdK r' y I := fun c hc => by
  have hm : mOk (rS r) := WR_mOk (J := rS r) hW
  have hc' : okP (rS r) c := okP_stat (J := rS r') (J' := rS r) (statE_symm hs) hc
  have e : xcd (rS r') c = xcd (rS r) c := xcd_cg (J := rS r') (J' := rS r) hs.1.symm
  have es := safP_stat (J := rS r) (J' := rS r') hs hm hc'
  rw [e, ← es]
  exact h c hc'
theorem YdK_fr {r : Int → Int} {y : Nat} {I I' : SmI} (h : YdK r y I) (hf : I' (y + 1) = I (y + 1)) : YdK r y I' := fun c hc => by rw [hf]; exact h c hc
theorem YdK_0 {r : Int → Int} {y : Nat} {I : SmI} (h : ∀ k : Int, 0 ≤ k → k < 2401 → I (y + 1) k = 0) : YdK r y I := fun c _ => Or.inl (h _ xcd_in.1 xcd_in.2)
