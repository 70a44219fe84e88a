/-! rows: what is right of one, a train goes, the clock goes on, what of it stays -/
set_option maxRecDepth 100000
def WRp (r : Int → Int) : Prop := ∀ p : Int, 0 ≤ p → p < 6 → (0 ≤ r (4 + 5 * p) ∧ r (4 + 5 * p) ≤ 3) ∧ (∀ j : Int, 0 ≤ j → j < 3 → 0 ≤ r (4 + 5 * p + (1 + j)) ∧ r (4 + 5 * p + (1 + j)) ≤ 20) ∧ 0 ≤ r (4 + 5 * p + 4) ∧ r (4 + 5 * p + 4) ≤ 9
def WRq (r : Int → Int) : Prop := ∀ p : Int, 0 ≤ p → p < r 0 → 1 ≤ r (4 + 5 * p) ∧ 1 ≤ r (4 + 5 * p + 4)
def WRt (r : Int → Int) (t : Int) : Prop := ((0 ≤ r (34 + 6 * t) ∧ r (34 + 6 * t) < r 0) ∧ 0 ≤ r (34 + 6 * t + 1) ∧ r (34 + 6 * t + 1) < r 0 ∧ r (34 + 6 * t) ≠ r (34 + 6 * t + 1)) ∧ (1 ≤ r (34 + 6 * t + 2) ∧ r (34 + 6 * t + 2) ≤ 20) ∧ ((r (34 + 6 * t) < r (34 + 6 * t + 1) → r (34 + 6 * t) ≤ r (34 + 6 * t + 3) ∧ r (34 + 6 * t + 3) ≤ r (34 + 6 * t + 1)) ∧ (¬ r (34 + 6 * t) < r (34 + 6 * t + 1) → r (34 + 6 * t + 1) ≤ r (34 + 6 * t + 3) ∧ r (34 + 6 * t + 3) ≤ r (34 + 6 * t))) ∧ (r (34 + 6 * t + 4) = 0 ∨ r (34 + 6 * t + 4) = 1 ∨ r (34 + 6 * t + 4) = 2) ∧ (r (34 + 6 * t + 4) = 0 → r (34 + 6 * t + 3) ≠ r (34 + 6 * t + 1) ∧ r (34 + 6 * t + 5) = -4) ∧ (r (34 + 6 * t + 4) = 1 → r (34 + 6 * t + 3) ≠ r (34 + 6 * t) ∧ r 2 < r (34 + 6 * t + 5) ∧ r (34 + 6 * t + 5) ≤ r 2 + 9) ∧ (r (34 + 6 * t + 4) = 2 → r (34 + 6 * t + 3) = r (34 + 6 * t + 1) ∧ 0 ≤ r (34 + 6 * t + 5) ∧ r (34 + 6 * t + 5) ≤ r 2)
def WR (r : Int → Int) : Prop := ((0 ≤ r 0 ∧ r 0 ≤ 6) ∧ (0 ≤ r 1 ∧ r 1 ≤ 4) ∧ (0 ≤ r 2 ∧ r 2 ≤ 1000000) ∧ 0 ≤ r 3 ∧ r 3 ≤ 60) ∧ WRp r ∧ WRq r ∧ ∀ t : Int, 0 ≤ t → t < r 1 → WRt r t
theorem WR_trB {J : SmI} (h : WR (J 107)) : trB J := by
  obtain ⟨⟨h0, h1, _⟩, _, _, ht⟩ := h
  refine ⟨h1, fun t t0 t1 => ?_⟩
  have := (ht t t0 t1).1
  omega
theorem WR_mOk {J : SmI} (h : WR (J 107)) : mOk J := ⟨WR_trB h, fun p p0 p1 => (h.2.1 p p0 p1).1⟩
/-- the digits of the posture now -/
def pD (r : Int → Int) (t : Int) : Int := if 0 ≤ t ∧ t < r 1 ∧ r (34 + 6 * t + 3) ≠ r (34 + 6 * t + 1) then r (34 + 6 * t + 3) + 1 else 0
theorem WR_dn {J : SmI} (h : WR (J 107)) {t : Int} (t0 : 0 ≤ t) (t1 : t < J 107 1) : mDn J t ↔ J 107 (34 + 6 * t + 3) = J 107 (34 + 6 * t + 1) := by
  have w := (h.2.2.2 t t0 t1).2.2.2
  unfold mDn
  omega
theorem pD_in {r : Int → Int} (h : WR r) (t : Int) : 0 ≤ pD r t ∧ pD r t < 7 := by
  unfold pD
  split
  · rename_i q
    have w := h.2.2.2 t q.1 q.2.1
    have p := h.1.1
    obtain ⟨w1, w2, w3, _⟩ := w
    omega
  · omega
theorem pTm_eq {J : SmI} (h : WR (J 107)) {t : Int} (t0 : 0 ≤ t) (t1 : t < J 107 1) : pTm J t = w7 t * pD (J 107) t := by
  have e := WR_dn h t0 t1
  unfold pTm pD
  by_cases q : mDn J t
  · rw [if_pos q, if_neg (fun z => z.2.2 (e.mp q))]; omega
  · rw [if_neg q, if_pos ⟨t0, t1, fun z => q (e.mpr z)⟩]
theorem pNow_eq {J : SmI} (h : WR (J 107)) : pNow J = mEn (pD (J 107)) := by
  have hn := h.1.2.1
  have out : ∀ t : Int, J 107 1 ≤ t → pD (J 107) t = 0 := fun t ht => by unfold pD; rw [if_neg (by omega)]
  have e : ∀ n : Nat, (n : Int) ≤ J 107 1 → sumTo (pTm J) n = sumTo (fun t => w7 t * pD (J 107) t) n := fun n hn => sumTo_congr (fun j hj => pTm_eq h (by omega) (by omega))
  unfold pNow
  rw [e _ (by omega)]
  unfold mEn
  have hc : J 107 1 = 0 ∨ J 107 1 = 1 ∨ J 107 1 = 2 ∨ J 107 1 = 3 ∨ J 107 1 = 4 := by omega
  rcases hc with c | c | c | c | c
  · rw [c, out 0 (by omega), out 1 (by omega), out 2 (by omega), out 3 (by omega)]; rfl
  · rw [c, out 1 (by omega), out 2 (by omega), out 3 (by omega)]
    show sumTo _ 1 = _
    rw [sumTo_s, sumTo_0]; simp only [Int.cast_ofNat_Int, w7_0]; omega
  · rw [c, out 2 (by omega), out 3 (by omega)]
    show sumTo _ 2 = _
    rw [sumTo_s, sumTo_s, sumTo_0]; simp only [Int.cast_ofNat_Int, w7_0, w7_1]; omega
  · rw [c, out 3 (by omega)]
    show sumTo _ 3 = _
    rw [sumTo_s, sumTo_s, sumTo_s, sumTo_0]; simp only [Int.cast_ofNat_Int, w7_0, w7_1, w7_2]; omega
  · rw [c]
    show sumTo _ 4 = _
    rw [sumTo_s, sumTo_s, sumTo_s, sumTo_s, sumTo_0]; simp only [Int.cast_ofNat_Int, w7_0, w7_1, w7_2, w7_3]; omega
theorem pNow_d {J : SmI} (h : WR (J 107)) {t : Int} (t0 : 0 ≤ t) (t1 : t < 4) : dgt (pNow J) t = pD (J 107) t := by
  rw [pNow_eq h]
  exact dgt_mEn (fun k _ _ => pD_in h k) t0 t1
theorem pNow_ok {J : SmI} (h : WR (J 107)) : okP J (pNow J) := by
  refine ⟨by rw [pNow_eq h]; exact mEn_in (fun k _ _ => pD_in h k), fun t t0 t1 e => ?_⟩
  rw [pNow_d h t0 t1] at e ⊢
  unfold pD at e ⊢
  split at e
  · rename_i q
    rw [if_pos q]
    have w := h.2.2.2 t q.1 q.2.1
    obtain ⟨w1, w2, w3, _⟩ := w
    refine ⟨q.2.1, fun a => ?_, fun a => ?_⟩
    · have := w3.1 a; omega
    · have := w3.2 a; omega
  · exact absurd rfl e
/-! what stays -/
def statE (r r' : Int → Int) : Prop := r 1 = r' 1 ∧ (∀ c : Int, 4 ≤ c → c < 34 → r c = r' c) ∧ ∀ t w : Int, 0 ≤ t → t < 4 → 0 ≤ w → w < 3 → r (34 + 6 * t + w) = r' (34 + 6 * t + w)
theorem statE_refl {r : Int → Int} : statE r r := ⟨rfl, fun _ _ _ => rfl, fun _ _ _ _ _ _ => rfl⟩
theorem statE_trans {r r' r2 : Int → Int} (h : statE r r') (h2 : statE r' r2) : statE r r2 := ⟨h.1.trans h2.1, fun c a b => (h.2.1 c a b).trans (h2.2.1 c a b), fun t w a b c d => (h.2.2 t w a b c d).trans (h2.2.2 t w a b c d)⟩
theorem statE_symm {r r' : Int → Int} (h : statE r r') : statE r' r := ⟨h.1.symm, fun c a b => (h.2.1 c a b).symm, fun t w a b c d => (h.2.2 t w a b c d).symm⟩
theorem statE_f {r r' : Int → Int} (h : statE r r') {t : Int} (t0 : 0 ≤ t) (t1 : t < 4) : r (34 + 6 * t) = r' (34 + 6 * t) := by have := h.2.2 t 0 t0 t1 (by omega) (by omega); simpa using this
theorem statE_t {r r' : Int → Int} (h : statE r r') {t : Int} (t0 : 0 ≤ t) (t1 : t < 4) : r (34 + 6 * t + 1) = r' (34 + 6 * t + 1) := h.2.2 t 1 t0 t1 (by omega) (by omega)
theorem statE_l {r r' : Int → Int} (h : statE r r') {t : Int} (t0 : 0 ≤ t) (t1 : t < 4) : r (34 + 6 * t + 2) = r' (34 + 6 * t + 2) := h.2.2 t 2 t0 t1 (by omega) (by omega)
theorem statE_k {r r' : Int → Int} (h : statE r r') {p : Int} (p0 : 0 ≤ p) (p1 : p < 6) : r (4 + 5 * p) = r' (4 + 5 * p) := h.2.1 _ (by omega) (by omega)
theorem mNx_stat {J J' : SmI} (h : statE (J 107) (J' 107)) {t p : Int} (t0 : 0 ≤ t) (t1 : t < 4) : mNx J t p = mNx J' t p := by unfold mNx; rw [statE_f h t0 t1, statE_t h t0 t1]
theorem onWay_stat {J J' : SmI} (h : statE (J 107) (J' 107)) {t p : Int} (t0 : 0 ≤ t) (t1 : t < 4) : onWay J t p ↔ onWay J' t p := by unfold onWay; rw [statE_f h t0 t1, statE_t h t0 t1]
theorem trB_stat {J J' : SmI} (h : statE (J 107) (J' 107)) (hb : trB J) : trB J' := by
  refine ⟨by rw [← h.1]; exact hb.1, fun t t0 t1 => ?_⟩
  rw [← h.1] at t1
  have := hb.1
  rw [← statE_f h t0 (by omega), ← statE_t h t0 (by omega)]
  exact hb.2 t t0 t1
theorem mOk_stat {J J' : SmI} (h : statE (J 107) (J' 107)) (hb : mOk J) : mOk J' := ⟨trB_stat h hb.1, fun p p0 p1 => by rw [← statE_k h p0 p1]; exact hb.2 p p0 p1⟩
theorem okP_stat {J J' : SmI} (h : statE (J 107) (J' 107)) {c : Int} (hc : okP J c) : okP J' c := by
  refine ⟨hc.1, fun t t0 t1 e => ?_⟩
  have := hc.2 t t0 t1 e
  rw [← h.1, ← onWay_stat h t0 t1]
  exact this
theorem mTk_stat {I I' : SmI} (h : statE (I 107) (I' 107)) {p x : Int} (p0 : 0 ≤ p) (p1 : p < 6) (hq : I 107 (4 + 5 * p) ≤ 3) : mTk I p x = mTk I' p x := by
  unfold mTk
  rw [show I' 107 (4 + 5 * p + 0) = I 107 (4 + 5 * p + 0) from (h.2.1 _ (by omega) (by omega)).symm]
  refine cntTo_congr (fun j hj => ?_)
  rw [Int.add_zero] at hj
  rw [h.2.1 (4 + 5 * p + (1 + j)) (by omega) (by omega)]
theorem mTr_stat {I I' : SmI} (h : statE (I 107) (I' 107)) (hs : I 113 = I' 113) {p x : Int} (h4 : I 107 1 ≤ 4) : mTr I p x = mTr I' p x := by
  unfold mTr
  rw [← h.1, ← hs]
  exact cntTo_congr (fun j hj => by rw [statE_l h (t := j) (by omega) (by omega)])
theorem mHold_stat {I I' : SmI} (h : statE (I 107) (I' 107)) (hs : I 113 = I' 113) {p : Int} (h4 : I 107 1 ≤ 4) (p0 : 0 ≤ p) (p1 : p < 6) (hq : I 107 (4 + 5 * p) ≤ 3) {n : Nat} (hn : n ≤ 4) : mHold I p n ↔ mHold I' p n := by
  unfold mHold allTo
  refine forall_congr' fun j => forall_congr' fun hj => ?_
  show (I 113 (j : Int) = p + 1 → mTr I p (I 107 (34 + 6 * (j : Int) + 2)) ≤ mTk I p (I 107 (34 + 6 * (j : Int) + 2))) ↔ (I' 113 (j : Int) = p + 1 → mTr I' p (I' 107 (34 + 6 * (j : Int) + 2)) ≤ mTk I' p (I' 107 (34 + 6 * (j : Int) + 2)))
  rw [hs, statE_l h (t := j) (by omega) (by omega), mTr_stat h hs h4, mTk_stat h p0 p1 hq]
theorem mvP_stat {J J' : SmI} (h : statE (J 107) (J' 107)) (hm : mOk J) {c t : Int} (hc : okP J c) (t0 : 0 ≤ t) (t1 : t < J 107 1) : mvP J c t = mvP J' c t := by
  have h4 := hm.1.1.2
  unfold mvP mvD
  by_cases e : dgt c t = 0
  · rw [if_pos e, if_pos e]
  · obtain ⟨a, w⟩ := hc.2 t t0 (by omega) e
    have b := hm.1.2 t t0 a
    have hp : 0 ≤ mNx J t (dgt c t - 1) ∧ mNx J t (dgt c t - 1) < 6 := by
      unfold onWay at w
      unfold mNx
      split <;> omega
    rw [if_neg e, if_neg e, ← mNx_stat h t0 (by omega), ← statE_t h t0 (by omega), ← h.1]
    have := mHold_stat (I := jS J (updD (dgt c) t (mNx J t (dgt c t - 1) + 1))) (I' := jS J' (updD (dgt c) t (mNx J t (dgt c t - 1) + 1))) (p := mNx J t (dgt c t - 1)) (by rw [jS107, jS107]; exact h) (by rw [jS113, jS113]) (by rw [jS107]; exact h4) hp.1 hp.2 (by rw [jS107]; exact (hm.2 _ hp.1 hp.2).2) (n := (J 107 1).toNat) (by omega)
    by_cases b2 : mNx J t (dgt c t - 1) = J 107 (34 + 6 * t + 1)
    · rw [if_pos b2, if_pos b2]
    · rw [if_neg b2, if_neg b2]
      by_cases b3 : mHold (jS J (updD (dgt c) t (mNx J t (dgt c t - 1) + 1))) (mNx J t (dgt c t - 1)) (J 107 1).toNat
      · rw [if_pos b3, if_pos (this.mp b3)]
      · rw [if_neg b3, if_neg (fun z => b3 (this.mpr z))]
theorem stpP_stat {J J' : SmI} (h : statE (J 107) (J' 107)) (hm : mOk J) {a b : Int} (hc : okP J a) : stpP J a b ↔ stpP J' a b := by
  unfold stpP
  constructor
  · rintro ⟨t, h0, h1, h2, h3⟩
    rw [mvP_stat h hm hc h0 h1] at h2 h3
    exact ⟨t, h0, by rw [← h.1]; exact h1, h2, h3⟩
  · rintro ⟨t, h0, h1, h2, h3⟩
    rw [← h.1] at h1
    rw [← mvP_stat h hm hc h0 h1] at h2 h3
    exact ⟨t, h0, h1, h2, h3⟩
theorem safP_stat {J J' : SmI} (h : statE (J 107) (J' 107)) (hm : mOk J) {c : Int} (hc : okP J c) : safP J c ↔ safP J' c := by
  have key : ∀ (n : Nat) (c : Int), okP J c → (sfN J n c ↔ sfN J' n c) := by
    intro n
    induction n with
    | zero => exact fun c _ => Iff.rfl
    | succ n ih =>
      intro c hc
      constructor
      · rintro (q | ⟨b, hb, q⟩)
        · exact Or.inl q
        · exact Or.inr ⟨b, (stpP_stat h hm hc).mp hb, (ih b (stpP_ok hm.1 hc hb).1).mp q⟩
      · rintro (q | ⟨b, hb, q⟩)
        · exact Or.inl q
        · have hb' := (stpP_stat h hm hc).mpr hb
          exact Or.inr ⟨b, hb', (ih b (stpP_ok hm.1 hc hb').1).mpr q⟩
  exact ⟨fun ⟨n, q⟩ => ⟨n, (key n c hc).mp q⟩, fun ⟨n, q⟩ => ⟨n, (key n c hc).mpr q⟩⟩
/-! the journal -/
def kpF (r : Int → Int) (t : Int) : Nat → Int
  | 0 => 0
  | n + 1 => if r (58 + 3 * (n : Int)) = r 2 ∧ t < r (58 + 3 * (n : Int) + 1) then kpF r t n else (n : Int) + 1
theorem kpF_in {r : Int → Int} {t : Int} (n : Nat) : 0 ≤ kpF r t n ∧ kpF r t n ≤ n := by
  induction n with
  | zero => exact ⟨Int.le_refl _, Int.le_refl _⟩
  | succ n ih => unfold kpF; split <;> omega
/-- an entry (when, who, from where) goes in at k -/
def gIns (r : Int → Int) (k t l : Int) : Int → Int := fun c => if c = 3 then r 3 + 1 else if c = 58 + 3 * k then r 2 else if c = 58 + 3 * k + 1 then t else if c = 58 + 3 * k + 2 then l else if 58 + 3 * k + 3 ≤ c ∧ c < 58 + 3 * r 3 + 3 then r (c - 3) else r c
def gShift (r : Int → Int) : Int → Int := if r 3 = 60 then (fun c => if c = 3 then 59 else if 58 ≤ c ∧ c < 235 then r (c + 3) else r c) else r
def gEnt (r : Int → Int) (t l : Int) : Int → Int := gIns (gShift r) (kpF (gShift r) t (gShift r 3).toNat) t l
theorem gShift_lo {r : Int → Int} {c : Int} (h : c < 58) (h3 : c ≠ 3) : gShift r c = r c := by
  unfold gShift
  split
  · show (if c = 3 then 59 else if 58 ≤ c ∧ c < 235 then r (c + 3) else r c) = r c
    rw [if_neg h3, if_neg (by omega)]
  · rfl
theorem gShift_3 {r : Int → Int} (h : 0 ≤ r 3 ∧ r 3 ≤ 60) : 0 ≤ gShift r 3 ∧ gShift r 3 < 60 := by
  unfold gShift
  split
  · simp
  · omega
theorem gEnt_lo {r : Int → Int} {t l c : Int} (hr : 0 ≤ r 3 ∧ r 3 ≤ 60) (h : c < 58) (h3 : c ≠ 3) : gEnt r t l c = r c := by
  have k := kpF_in (r := gShift r) (t := t) (gShift r 3).toNat
  unfold gEnt gIns
  rw [if_neg h3, if_neg (by omega), if_neg (by omega), if_neg (by omega), if_neg (by omega), gShift_lo h h3]
theorem gEnt_3 {r : Int → Int} {t l : Int} (hr : 0 ≤ r 3 ∧ r 3 ≤ 60) : 0 ≤ gEnt r t l 3 ∧ gEnt r t l 3 ≤ 60 := by
  have := gShift_3 hr
  unfold gEnt gIns
  rw [if_pos rfl]
  omega
theorem gEnt_out {r : Int → Int} {t l c : Int} (hr : 0 ≤ r 3 ∧ r 3 ≤ 60) (h : c < 0 ∨ 238 ≤ c) : gEnt r t l c = r c := by
  have q := gShift_3 hr
  have k := kpF_in (r := gShift r) (t := t) (gShift r 3).toNat
  unfold gEnt gIns
  rw [if_neg (by omega), if_neg (by omega), if_neg (by omega), if_neg (by omega), if_neg (by omega)]
  unfold gShift
  split
  · show (if c = 3 then 59 else if 58 ≤ c ∧ c < 235 then r (c + 3) else r c) = r c
    rw [if_neg (by omega), if_neg (by omega)]
  · rfl
/-! a train goes -/
def gGo1 (r : Int → Int) (t : Int) : Int → Int := fun c => if c = 34 + 6 * t + 3 then mNx (rS r) t (r (34 + 6 * t + 3)) else if c = 34 + 6 * t + 4 then 1 else if c = 34 + 6 * t + 5 then r 2 + r (4 + 5 * (if r (34 + 6 * t + 3) < mNx (rS r) t (r (34 + 6 * t + 3)) then r (34 + 6 * t + 3) else mNx (rS r) t (r (34 + 6 * t + 3))) + 4) else r c
def gGo (r : Int → Int) (t : Int) : Int → Int := gEnt (gGo1 r t) t (r (34 + 6 * t + 3))
theorem gGo1_o {r : Int → Int} {t c : Int} (h3 : c ≠ 34 + 6 * t + 3) (h4 : c ≠ 34 + 6 * t + 4) (h5 : c ≠ 34 + 6 * t + 5) : gGo1 r t c = r c := by unfold gGo1; rw [if_neg h3, if_neg h4, if_neg h5]
theorem gGo1_3 {r : Int → Int} {t : Int} : gGo1 r t (34 + 6 * t + 3) = mNx (rS r) t (r (34 + 6 * t + 3)) := if_pos rfl
theorem gGo1_4 {r : Int → Int} {t : Int} : gGo1 r t (34 + 6 * t + 4) = 1 := by unfold gGo1; rw [if_neg (by omega), if_pos rfl]
theorem gGo1_5 {r : Int → Int} {t : Int} : gGo1 r t (34 + 6 * t + 5) = r 2 + r (4 + 5 * (if r (34 + 6 * t + 3) < mNx (rS r) t (r (34 + 6 * t + 3)) then r (34 + 6 * t + 3) else mNx (rS r) t (r (34 + 6 * t + 3))) + 4) := by unfold gGo1; rw [if_neg (by omega), if_neg (by omega), if_pos rfl]
theorem gGo_lo {r : Int → Int} {t c : Int} (hr : 0 ≤ r 3 ∧ r 3 ≤ 60) (t0 : 0 ≤ t) (t1 : t < 4) (h : c < 58) (h3 : c ≠ 3) : gGo r t c = gGo1 r t c := gEnt_lo (by rw [gGo1_o (by omega) (by omega) (by omega)]; exact hr) h h3
theorem gGo_out {r : Int → Int} {t c : Int} (hr : 0 ≤ r 3 ∧ r 3 ≤ 60) (t0 : 0 ≤ t) (t1 : t < 4) (h : c < 0 ∨ 238 ≤ c) : gGo r t c = r c := by
  unfold gGo
  rw [gEnt_out (by rw [gGo1_o (by omega) (by omega) (by omega)]; exact hr) h, gGo1_o (by omega) (by omega) (by omega)]
theorem gGo_stat {r : Int → Int} {t : Int} (hr : 0 ≤ r 3 ∧ r 3 ≤ 60) (t0 : 0 ≤ t) (t1 : t < 4) : statE r (gGo r t) := by
  refine ⟨?_, fun c c0 c1 => ?_, fun u w u0 u1 w0 w1 => ?_⟩
  · rw [gGo_lo hr t0 t1 (by omega) (by omega), gGo1_o (by omega) (by omega) (by omega)]
  · rw [gGo_lo hr t0 t1 (by omega) (by omega), gGo1_o (by omega) (by omega) (by omega)]
  · rw [gGo_lo hr t0 t1 (by omega) (by omega), gGo1_o (by omega) (by omega) (by omega)]
theorem mNx_in {r : Int → Int} (h : WR r) {t : Int} (t0 : 0 ≤ t) (t1 : t < r 1) (hs : r (34 + 6 * t + 4) = 0) :
    (0 ≤ mNx (rS r) t (r (34 + 6 * t + 3)) ∧ mNx (rS r) t (r (34 + 6 * t + 3)) < r 0) ∧ (if r (34 + 6 * t + 3) < mNx (rS r) t (r (34 + 6 * t + 3)) then r (34 + 6 * t + 3) else mNx (rS r) t (r (34 + 6 * t + 3))) < r 0 ∧ 0 ≤ (if r (34 + 6 * t + 3) < mNx (rS r) t (r (34 + 6 * t + 3)) then r (34 + 6 * t + 3) else mNx (rS r) t (r (34 + 6 * t + 3))) := by
  obtain ⟨w1, w2, w3, w4, w5, _⟩ := h.2.2.2 t t0 t1
  have := w5 hs
  unfold mNx rS
  split
  · rename_i q
    have := w3.1 q
    split <;> omega
  · rename_i q
    have := w3.2 q
    split <;> omega
theorem WR_go {r : Int → Int} (h : WR r) {t : Int} (t0 : 0 ≤ t) (t1 : t < r 1) (hs : r (34 + 6 * t + 4) = 0) : WR (gGo r t) := by
  have h4 := h.1.2.1
  have hr := h.1.2.2.2
  have lo : ∀ c : Int, c < 58 → c ≠ 3 → gGo r t c = gGo1 r t c := fun c a b => gGo_lo hr t0 (by omega) a b
  have st := gGo_stat (t := t) hr t0 (by omega)
  have e0 : gGo r t 0 = r 0 := by rw [lo 0 (by omega) (by omega), gGo1_o (by omega) (by omega) (by omega)]
  have e1 : gGo r t 1 = r 1 := st.1.symm
  have e2 : gGo r t 2 = r 2 := by rw [lo 2 (by omega) (by omega), gGo1_o (by omega) (by omega) (by omega)]
  have e3 : 0 ≤ gGo r t 3 ∧ gGo r t 3 ≤ 60 := gEnt_3 (by rw [gGo1_o (by omega) (by omega) (by omega)]; exact hr)
  refine ⟨by rw [e0, e1, e2]; exact ⟨h.1.1, h.1.2.1, h.1.2.2.1, e3⟩, fun p p0 p1 => ?_, fun p p0 p1 => ?_, fun u u0 u1 => ?_⟩
  · have q := h.2.1 p p0 p1
    refine ⟨by rw [← st.2.1 _ (by omega) (by omega)]; exact q.1, fun j j0 j1 => by rw [← st.2.1 _ (by omega) (by omega)]; exact q.2.1 j j0 j1, by rw [← st.2.1 _ (by omega) (by omega)]; exact q.2.2⟩
  · rw [e0] at p1
    have := h.1.1
    rw [← st.2.1 _ (by omega) (by omega), ← st.2.1 _ (by omega) (by omega)]
    exact h.2.2.1 p p0 p1
  · rw [e1] at u1
    have w := h.2.2.2 u u0 u1
    unfold WRt at w ⊢
    rw [e0, e2, ← statE_f st u0 (by omega), ← statE_t st u0 (by omega), ← statE_l st u0 (by omega)]
    rw [lo _ (by omega) (by omega), lo _ (by omega) (by omega), lo _ (by omega) (by omega)]
    by_cases e : u = t
    · subst e
      rw [gGo1_3, gGo1_4, gGo1_5]
      obtain ⟨w1, w2, w3, w4, w5, _⟩ := w
      obtain ⟨n1, n2, n3⟩ := mNx_in h t0 t1 hs
      have m1 := (h.2.2.1 _ n3 n2).2
      have m2 := (h.2.1 _ n3 (by have := h.1.1; omega)).2.2
      have w6 := w5 hs
      refine ⟨w1, w2, ?_, Or.inr (Or.inl rfl), fun z => absurd z (by omega), fun _ => ⟨?_, by omega, by omega⟩, fun z => absurd z (by omega)⟩
      · unfold mNx rS
        constructor <;> intro z
        · have := w3.1 z
          rw [if_pos z]; omega
        · have := w3.2 z
          rw [if_neg z]; omega
      · unfold mNx rS
        by_cases z : r (34 + 6 * u) < r (34 + 6 * u + 1)
        · have := w3.1 z
          rw [if_pos z]; omega
        · have := w3.2 z
          rw [if_neg z]; omega
    · rw [gGo1_o (by omega) (by omega) (by omega), gGo1_o (by omega) (by omega) (by omega), gGo1_o (by omega) (by omega) (by omega)]
      exact w
/-- the posture behind a train's going is the move's -/
theorem pNow_go {r : Int → Int} (h : WR r) {t : Int} (t0 : 0 ≤ t) (t1 : t < r 1) (hs : r (34 + 6 * t + 4) = 0) (hv : mvP (rS r) (pNow (rS r)) t ≠ -4) : pNow (rS (gGo r t)) = mvP (rS r) (pNow (rS r)) t := by
  have h4 := h.1.2.1
  have hr := h.1.2.2.2
  have hJ : WR (rS r 107) := h
  have hJ' : WR (rS (gGo r t) 107) := WR_go h t0 t1 hs
  have st := gGo_stat (t := t) hr t0 (by omega)
  obtain ⟨a, b, q, o⟩ := mvP_cases (WR_trB hJ) (pNow_ok hJ) t0 t1 hv
  rw [pNow_eq hJ', b]
  refine mEn_congr fun k k0 k1 => ?_
  have ek := pNow_d hJ k0 k1
  have et := pNow_d hJ t0 (by omega)
  unfold rS at ek et ⊢
  unfold pD
  rw [← st.1, gGo_lo hr t0 (by omega) (by omega) (by omega), ← statE_t st k0 k1]
  by_cases e : k = t
  · subst e
    rw [updD_same, gGo1_3]
    unfold nxd
    have w5 := (h.2.2.2 k k0 t1).2.2.2.2.1 hs
    have ep : pD r k = r (34 + 6 * k + 3) + 1 := by unfold pD; rw [if_pos ⟨k0, t1, w5.1⟩]
    rw [et, ep]
    simp only [Int.add_sub_cancel]
    have er : mNx (fun _ => r) k (r (34 + 6 * k + 3)) = mNx (rS r) k (r (34 + 6 * k + 3)) := rfl
    rw [er]
    by_cases z : mNx (rS r) k (r (34 + 6 * k + 3)) = r (34 + 6 * k + 1)
    · rw [if_neg (fun y => y.2.2 z), if_pos z]
    · rw [if_pos ⟨k0, t1, z⟩, if_neg z]
  · rw [updD_ne e, ek, gGo1_o (by omega) (by omega) (by omega)]
    rfl
/-! the clock goes on -/
def arr (r : Int → Int) (m t : Int) : Prop := r (34 + 6 * t + 4) = 1 ∧ r (34 + 6 * t + 5) ≤ r 2 + m
noncomputable def gOn (r : Int → Int) (m : Int) : Int → Int := by
  classical exact fun c => if c = 2 then r 2 + m else if 34 ≤ c ∧ c < 34 + 6 * r 1 ∧ (c - 34) % 6 = 4 ∧ arr r m ((c - 34) / 6) then (if r (c - 1) = r (c - 3) then 2 else 0) else if 34 ≤ c ∧ c < 34 + 6 * r 1 ∧ (c - 34) % 6 = 5 ∧ arr r m ((c - 34) / 6) then (if r (c - 2) = r (c - 4) then r c else -4) else r c
theorem gOn_2 {r : Int → Int} {m : Int} : gOn r m 2 = r 2 + m := by unfold gOn; exact if_pos rfl
theorem gOn_o {r : Int → Int} {m c : Int} (h2 : c ≠ 2) (h : c < 34 ∨ 34 + 6 * r 1 ≤ c ∨ ((c - 34) % 6 ≠ 4 ∧ (c - 34) % 6 ≠ 5)) : gOn r m c = r c := by
  unfold gOn
  rw [if_neg h2, if_neg (by omega), if_neg (by omega)]
theorem gOn_4 {r : Int → Int} {m t : Int} (t0 : 0 ≤ t) (t1 : t < r 1) (ha : arr r m t) : gOn r m (34 + 6 * t + 4) = if r (34 + 6 * t + 3) = r (34 + 6 * t + 1) then 2 else 0 := by
  have e : (34 + 6 * t + 4 - 34) / 6 = t := by omega
  unfold gOn
  rw [if_neg (by omega), if_pos ⟨by omega, by omega, by omega, by rw [e]; exact ha⟩, show 34 + 6 * t + 4 - 1 = 34 + 6 * t + 3 by omega, show 34 + 6 * t + 4 - 3 = 34 + 6 * t + 1 by omega]
theorem gOn_5 {r : Int → Int} {m t : Int} (t0 : 0 ≤ t) (t1 : t < r 1) (ha : arr r m t) : gOn r m (34 + 6 * t + 5) = if r (34 + 6 * t + 3) = r (34 + 6 * t + 1) then r (34 + 6 * t + 5) else -4 := by
  have e : (34 + 6 * t + 5 - 34) / 6 = t := by omega
  unfold gOn
  rw [if_neg (by omega), if_neg (by omega), if_pos ⟨by omega, by omega, by omega, by rw [e]; exact ha⟩, show 34 + 6 * t + 5 - 2 = 34 + 6 * t + 3 by omega, show 34 + 6 * t + 5 - 4 = 34 + 6 * t + 1 by omega]
theorem gOn_n4 {r : Int → Int} {m t : Int} (t0 : 0 ≤ t) (ha : ¬ arr r m t) : gOn r m (34 + 6 * t + 4) = r (34 + 6 * t + 4) := by
  have e : (34 + 6 * t + 4 - 34) / 6 = t := by omega
  unfold gOn
  rw [if_neg (by omega), if_neg (fun z => ha (e ▸ z.2.2.2)), if_neg (by omega)]
theorem gOn_n5 {r : Int → Int} {m t : Int} (t0 : 0 ≤ t) (ha : ¬ arr r m t) : gOn r m (34 + 6 * t + 5) = r (34 + 6 * t + 5) := by
  have e : (34 + 6 * t + 5 - 34) / 6 = t := by omega
  unfold gOn
  rw [if_neg (by omega), if_neg (by omega), if_neg (fun z => ha (e ▸ z.2.2.2))]
theorem gOn_w {r : Int → Int} {m t w : Int} (t0 : 0 ≤ t) (w0 : 0 ≤ w) (w1 : w < 4) : gOn r m (34 + 6 * t + w) = r (34 + 6 * t + w) := gOn_o (by omega) (by omega)
theorem gOn_out {r : Int → Int} {m c : Int} (h4 : r 1 ≤ 4) (h : c < 0 ∨ 58 ≤ c) : gOn r m c = r c := gOn_o (by omega) (by omega)
theorem gOn_stat {r : Int → Int} {m : Int} : statE r (gOn r m) := ⟨(gOn_o (by omega) (by omega)).symm, fun c c0 c1 => (gOn_o (by omega) (by omega)).symm, fun t w t0 t1 w0 w1 => (gOn_w t0 w0 (by omega)).symm⟩
theorem WR_on {r : Int → Int} (h : WR r) {m : Int} (m0 : 0 ≤ m) (m1 : r 2 + m ≤ 1000000) : WR (gOn r m) := by
  have h4 := h.1.2.1
  have st := gOn_stat (r := r) (m := m)
  have e0 : gOn r m 0 = r 0 := gOn_o (by omega) (by omega)
  have e1 : gOn r m 1 = r 1 := st.1.symm
  have e3 : gOn r m 3 = r 3 := gOn_o (by omega) (by omega)
  refine ⟨by rw [e0, e1, gOn_2, e3]; exact ⟨h.1.1, h.1.2.1, ⟨by have := h.1.2.2.1; omega, m1⟩, h.1.2.2.2⟩, fun p p0 p1 => ?_, fun p p0 p1 => ?_, fun u u0 u1 => ?_⟩
  · have q := h.2.1 p p0 p1
    refine ⟨by rw [← st.2.1 _ (by omega) (by omega)]; exact q.1, fun j j0 j1 => by rw [← st.2.1 _ (by omega) (by omega)]; exact q.2.1 j j0 j1, by rw [← st.2.1 _ (by omega) (by omega)]; exact q.2.2⟩
  · rw [e0] at p1
    have := h.1.1
    rw [← st.2.1 _ (by omega) (by omega), ← st.2.1 _ (by omega) (by omega)]
    exact h.2.2.1 p p0 p1
  · rw [e1] at u1
    have w := h.2.2.2 u u0 u1
    unfold WRt at w ⊢
    rw [e0, gOn_2, ← statE_f st u0 (by omega), ← statE_t st u0 (by omega), ← statE_l st u0 (by omega), gOn_w (w := 3) u0 (by omega) (by omega)]
    obtain ⟨w1, w2, w3, w4, w5, w6, w7⟩ := w
    refine ⟨w1, w2, w3, ?_⟩
    by_cases ha : arr r m u
    · rw [gOn_4 u0 u1 ha, gOn_5 u0 u1 ha]
      have := w6 ha.1
      have := ha.2
      have := h.1.2.2.1
      split <;> omega
    · rw [gOn_n4 u0 ha, gOn_n5 u0 ha]
      unfold arr at ha
      have := h.1.2.2.1
      refine ⟨w4, w5, fun z => ?_, fun z => ?_⟩
      · have := w6 z
        omega
      · have := w7 z
        omega
theorem pNow_on {r : Int → Int} (h : WR r) {m : Int} (m0 : 0 ≤ m) (m1 : r 2 + m ≤ 1000000) : pNow (rS (gOn r m)) = pNow (rS r) := by
  have hJ : WR (rS r 107) := h
  have hJ' : WR (rS (gOn r m) 107) := WR_on h m0 m1
  rw [pNow_eq hJ, pNow_eq hJ']
  refine mEn_congr fun k k0 k1 => ?_
  show pD (gOn r m) k = pD r k
  unfold pD
  rw [← (gOn_stat (r := r) (m := m)).1, gOn_w (w := 3) k0 (by omega) (by omega), gOn_w (w := 1) k0 (by omega) (by omega)]
