/-! a line goes, the clock goes on: the row likewise -- @IDX -/
set_option maxRecDepth 100000
theorem LnR_go {r : Int → Int} {b : Nat} {I : SmI} {t : Int} (hW : WR r) (h : LnR r b I) (t0 : 0 ≤ t) (t1 : t < r 1) (hs : r (34 + 6 * t + 4) = 0) : LnR (gGo r t) b (lGo b I t) := by
  have h4 := hW.1.2.1
  have h3 := hW.1.2.2.2
  have t4 : t < 4 := by omega
  have st := gGo_stat (r := r) h3 t0 t4
  have lo : ∀ c : Int, c < 58 → c ≠ 3 → gGo r t c = gGo1 r t c := fun c a b => gGo_lo h3 t0 t4 a b
  have nA : LnA r b (lGo b I t) := by
    obtain ⟨a, p, q⟩ := h.1
    unfold lGo
    refine ⟨by rw [iSet_ne (by omega), iSet_ne (by omega), iSet_ne (by omega)]; exact a, fun x x0 x1 => ?_, fun x x0 x1 => ?_⟩
    · rw [iSet_ne (by omega), iSet_ne (by omega), iSet_ne (by omega), iSet_ne (by omega), iSet_ne (by omega), iSet_ne (by omega), iSet_ne (by omega), iSet_ne (by omega), iSet_ne (by omega)]; exact p x x0 x1
    · rw [iSet_ne (by omega), iSet_ne (by omega), iSet_ne (by omega), iSet_ne (by omega), iSet_ne (by omega), iSet_ne (by omega), iSet_ne (by omega), iSet_ne (by omega), iSet_ne (by omega)]; exact q x x0 x1
  obtain ⟨e1, e2, _⟩ := h.2.1.2 t t0 t1
  have z14 : I (b + 14) t = 0 := by rw [e2, tf_0]; omega
  have en := Ln_nx (p := r (34 + 6 * t + 3)) h.1 t0 t1
  have hn := mNx_in hW t0 t1 hs
  have p6 := hW.1.1
  have hw : lWy b I t = 1 ∨ lWy b I t = -1 := by unfold lWy; split <;> omega
  have esec : lSec b I t = (if r (34 + 6 * t + 3) < mNx (rS r) t (r (34 + 6 * t + 3)) then r (34 + 6 * t + 3) else mNx (rS r) t (r (34 + 6 * t + 3))) := by
    unfold lSec lMn
    rw [if_pos z14, e1, en]
    rcases hw with w | w <;> rw [w]
    · rw [if_neg (by omega), if_pos (by omega)]
    · rw [if_pos (by omega), if_neg (by omega)]
  refine ⟨LnA_stat hW nA st, ⟨⟨?_, ?_⟩, fun k k0 k1 => ?_⟩, fun k k0 k1 => ?_⟩
  · unfold lGo
    rw [iSet_ne (by omega), iSet_ne (by omega), iSet_ne (by omega), lo 0 (by omega) (by omega), gGo1_o (by omega) (by omega) (by omega)]
    exact h.2.1.1.1
  · unfold lGo
    rw [iSet_ne (by omega), iSet_ne (by omega), iSet_ne (by omega), lo 2 (by omega) (by omega), gGo1_o (by omega) (by omega) (by omega)]
    exact h.2.1.1.2
  · rw [← st.1] at k1
    rw [lo _ (by omega) (by omega), lo _ (by omega) (by omega), lo _ (by omega) (by omega)]
    by_cases e : k = t
    · subst e
      rw [gGo1_3, gGo1_4, gGo1_5]
      unfold lGo
      refine ⟨?_, ?_, fun _ => ?_⟩
      · rw [iSet_ne (by omega), iSet_ne (by omega), iSet_eq, e1, en]
      · rw [iSet_ne (by omega), iSet_eq, tf_t rfl]
      · rw [iSet_eq, esec, h.2.1.1.2, (h.1.2.1 _ (by omega) (by omega)).2.1]
    · rw [gGo1_o (by omega) (by omega) (by omega), gGo1_o (by omega) (by omega) (by omega), gGo1_o (by omega) (by omega) (by omega)]
      unfold lGo
      simp (disch := omega) only [iSet_k e, iSet_ne]
      exact h.2.1.2 k k0 k1
  · unfold lGo
    rw [iSet_ne (by omega)]
    by_cases e : k = t
    · rw [e, iSet_eq]; exact Or.inr rfl
    · rw [iSet_k e, iSet_ne (by omega)]; exact h.2.2 k k0 k1
/-- a line whose clock has gone on: those that have arrived -/
theorem arX_arr {r : Int → Int} {b : Nat} {I : SmI} {m t : Int} (hW : WR r) (h : LnR r b I) (t0 : 0 ≤ t) (t1 : t < r 1) : arX b (iSet I b 11 (r 2 + m)) t ↔ arr r m t := by
  obtain ⟨_, e2, e3⟩ := h.2.1.2 t t0 t1
  unfold arX arr
  rw [iSet_ne (by omega), iSet_ne (by omega), iSet_eq, e2, ne_eq, tf_n0]
  constructor
  · rintro ⟨a, c⟩
    exact ⟨a, by rw [← e3 (by omega)]; exact c⟩
  · rintro ⟨a, c⟩
    exact ⟨a, by rw [e3 (by omega)]; exact c⟩
theorem LnR_on {r : Int → Int} {b : Nat} {I I' : SmI} {m : Int} (hW : WR r) (h : LnR r b I) (hf : ∀ q : Nat, b ≤ q → q < b + 16 → q ≠ b + 14 → I' q = iSet I b 11 (r 2 + m) q) (a3 : ∀ u : Nat, (u : Int) < r 1 → arX b (iSet I b 11 (r 2 + m)) u → I' (b + 14) u = 0) (a4 : ∀ k : Int, ¬ (0 ≤ k ∧ k < r 1 ∧ arX b (iSet I b 11 (r 2 + m)) k) → I' (b + 14) k = I (b + 14) k) : LnR (gOn r m) b I' := by
  have h4 := hW.1.2.1
  have nA : LnA r b I' := by
    obtain ⟨a, p, q⟩ := h.1
    refine ⟨by rw [hf b (by omega) (by omega) (by omega), iSet_k (by omega)]; exact a, fun x x0 x1 => ?_, fun x x0 x1 => ?_⟩
    · rw [hf _ (by omega) (by omega) (by omega), hf _ (by omega) (by omega) (by omega), hf _ (by omega) (by omega) (by omega), iSet_ne (by omega), iSet_ne (by omega), iSet_ne (by omega)]; exact p x x0 x1
    · rw [hf _ (by omega) (by omega) (by omega), hf _ (by omega) (by omega) (by omega), hf _ (by omega) (by omega) (by omega), iSet_ne (by omega), iSet_ne (by omega), iSet_ne (by omega)]; exact q x x0 x1
  refine ⟨LnA_stat hW nA gOn_stat, ⟨⟨?_, ?_⟩, fun k k0 k1 => ?_⟩, fun k k0 k1 => ?_⟩
  · rw [hf b (by omega) (by omega) (by omega), iSet_k (by omega), gOn_o (by omega) (by omega)]; exact h.2.1.1.1
  · rw [hf b (by omega) (by omega) (by omega), iSet_eq, gOn_2]
  · have k1' : k < r 1 := by rw [gOn_o (by omega) (by omega)] at k1; exact k1
    obtain ⟨e1, e2, e3⟩ := h.2.1.2 k k0 k1'
    have ws := (hW.2.2.2 k k0 k1').2.2.2.1
    rw [hf (b + 13) (by omega) (by omega) (by omega), hf (b + 15) (by omega) (by omega) (by omega), iSet_ne (by omega), iSet_ne (by omega), gOn_w k0 (by omega) (by omega)]
    have eq := arX_arr (m := m) hW h k0 k1'
    by_cases z : arr r m k
    · have e := a3 k.toNat (by omega) (by rw [show ((k.toNat : Nat) : Int) = k by omega]; exact eq.mpr z)
      rw [show ((k.toNat : Nat) : Int) = k by omega] at e
      refine ⟨e1, ?_, fun q => ?_⟩
      · rw [e, gOn_4 k0 k1' z, tf_f]
        split <;> omega
      · rw [gOn_4 k0 k1' z] at q
        rw [gOn_5 k0 k1' z]
        by_cases y : r (34 + 6 * k + 3) = r (34 + 6 * k + 1)
        · rw [if_pos y]; exact e3 (by have := z.1; omega)
        · rw [if_neg y] at q; exact absurd rfl q
    · have e := a4 k (fun q => z (eq.mp q.2.2))
      rw [gOn_n4 k0 z, gOn_n5 k0 z]
      exact ⟨e1, by rw [e]; exact e2, e3⟩
  · by_cases z : k < r 1 ∧ arX b (iSet I b 11 (r 2 + m)) k
    · have e := a3 k.toNat (by omega) (by rw [show ((k.toNat : Nat) : Int) = k by omega]; exact z.2)
      rw [show ((k.toNat : Nat) : Int) = k by omega] at e
      exact Or.inl e
    · rw [a4 k (fun q => z ⟨q.2.1, q.2.2⟩)]; exact h.2.2 k k0 k1
theorem arX_cnt {r : Int → Int} {b : Nat} {I : SmI} {m : Int} (hW : WR r) (h : LnR r b I) : cntTo (arX b (iSet I b 11 (r 2 + m))) (r 1).toNat = cntTo (arr r m) (r 1).toNat := cntTo_congr (fun j hj => arX_arr hW h (by omega) (by omega))
