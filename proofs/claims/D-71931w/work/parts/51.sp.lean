/-! postures: digits, moves, what is safP, what can be come to -/
set_option maxRecDepth 100000
theorem cntTo_congr {p q : Int → Prop} {n : Nat} (h : ∀ j : Nat, j < n → (p j ↔ q j)) : cntTo p n = cntTo q n := by
  induction n with
  | zero => rfl
  | succ n ih => rw [cntTo_s, cntTo_s, ih (fun j hj => h j (by omega)), tf_iff (h n (by omega))]
theorem sumTo_congr {p q : Int → Int} {n : Nat} (h : ∀ j : Nat, j < n → p j = q j) : sumTo p n = sumTo q n := by
  induction n with
  | zero => rfl
  | succ n ih => rw [sumTo_s, sumTo_s, ih (fun j hj => h j (by omega)), h n (by omega)]
theorem fstI_congr {P Q : Int → Prop} {n : Nat} (h : ∀ j : Nat, j < n → (P j ↔ Q j)) : fstI P n = fstI Q n := by
  induction n with
  | zero => rfl
  | succ n ih =>
    have e := ih (fun j hj => h j (by omega))
    by_cases hp : fstI P n = -4
    · by_cases hq : P n
      · rw [fstI_y _ _ hp hq, fstI_y _ _ (e ▸ hp) ((h n (by omega)).mp hq)]
      · rw [fstI_s _ _ hp hq, fstI_s _ _ (e ▸ hp) (fun z => hq ((h n (by omega)).mpr z))]
    · rw [fstI_up P n (n + 1) hp (by omega), fstI_up Q n (n + 1) (e ▸ hp) (by omega), e]
theorem fstI_no {P : Int → Prop} {n : Nat} (h : ∀ j : Nat, j < n → ¬ P j) : fstI P n = -4 := by
  induction n with
  | zero => rfl
  | succ n ih => exact fstI_s _ _ (ih (fun j hj => h j (by omega))) (h n (by omega))
theorem fstI_yes {P : Int → Prop} {n k : Nat} (hk : k < n) (hP : P k) (h : ∀ j : Nat, j < k → ¬ P j) : fstI P n = k := by
  have e := fstI_y P k (fstI_no h) hP
  rw [← e]
  exact fstI_up P (k + 1) n (by rw [e]; omega) hk
theorem fstI_cases (P : Int → Prop) (n : Nat) : (fstI P n = -4 ∧ ∀ j : Nat, j < n → ¬ P j) ∨ ∃ k : Nat, k < n ∧ fstI P n = k ∧ P k ∧ ∀ j : Nat, j < k → ¬ P j := by
  induction n with
  | zero => exact Or.inl ⟨rfl, fun j h => absurd h (Nat.not_lt_zero _)⟩
  | succ n ih =>
    rcases ih with ⟨e, h⟩ | ⟨k, hk, e, hP, h⟩
    · by_cases hp : P n
      · exact Or.inr ⟨n, by omega, fstI_y _ _ e hp, hp, h⟩
      · refine Or.inl ⟨fstI_s _ _ e hp, fun j hj => ?_⟩
        by_cases hjn : j = n
        · exact hjn ▸ hp
        · exact h j (by omega)
    · exact Or.inr ⟨k, by omega, (fstI_up P n (n + 1) (by rw [e]; omega) (by omega)).trans e, hP, h⟩
/-- a row as a heap -/
def rS (r : Int → Int) : SmI := fun _ => r
/-- the digits of a posture; a posture out of digits; one digit changed -/
def dgt (c t : Int) : Int := c / w7 t % 7
def mEn (f : Int → Int) : Int := f 0 + 7 * f 1 + 49 * f 2 + 343 * f 3
def updD (f : Int → Int) (t x : Int) : Int → Int := fun j => if j = t then x else f j
/-- a heap with digits in the spots -/
def jS (J : SmI) (f : Int → Int) : SmI := fun b j => if b = 113 then f j else J b j
theorem jS107 {J : SmI} {f : Int → Int} : jS J f 107 = J 107 := by funext j; exact if_neg (by decide)
theorem jS113 {J : SmI} {f : Int → Int} : jS J f 113 = f := by funext j; exact if_pos rfl
theorem jS_set {J : SmI} {f : Int → Int} {t x : Int} : iSet (jS J f) 113 t x = jS J (updD f t x) := by
  funext b j
  rw [iSet_ap]
  unfold jS updD
  by_cases h : b = 113
  · by_cases h2 : j = t
    · rw [if_pos ⟨h, h2⟩, if_pos h, if_pos h2]
    · rw [if_neg (fun z => h2 z.2), if_pos h, if_pos h, if_neg h2]
  · rw [if_neg (fun z => h z.1), if_neg h, if_neg h]
/-- moves by digits -/
noncomputable def mvD (J : SmI) (f : Int → Int) (t : Int) : Int := by
  classical exact if f t = 0 then -4 else if mNx J t (f t - 1) = J 107 (34 + 6 * t + 1) then mEn (updD f t 0) else if mHold (jS J (updD f t (mNx J t (f t - 1) + 1))) (mNx J t (f t - 1)) (J 107 1).toNat then mEn (updD f t (mNx J t (f t - 1) + 1)) else -4
noncomputable def mvP (J : SmI) (c t : Int) : Int := mvD J (dgt c) t
theorem mTr_congr {I I' : SmI} {p x : Int} (h1 : I 107 = I' 107) (h4 : I 107 1 ≤ 4) (h2 : ∀ k : Int, 0 ≤ k → k < 4 → I 113 k = I' 113 k) : mTr I p x = mTr I' p x := by
  unfold mTr
  rw [← h1]
  exact cntTo_congr (fun j hj => by rw [h2 j (by omega) (by omega)])
theorem mTk_congr {I I' : SmI} {p x : Int} (h1 : I 107 = I' 107) : mTk I p x = mTk I' p x := by
  unfold mTk
  rw [← h1]
theorem mHold_congr {I I' : SmI} {p : Int} (h1 : I 107 = I' 107) (h4 : I 107 1 ≤ 4) (h2 : ∀ k : Int, 0 ≤ k → k < 4 → I 113 k = I' 113 k) {n : Nat} (hn : n ≤ 4) : mHold I p n ↔ mHold I' p n := by
  unfold mHold allTo
  constructor
  · intro h j hj e
    rw [← h2 j (by omega) (by omega)] at e
    have := h j hj e
    rwa [mTr_congr h1 h4 h2, mTk_congr h1, h1] at this
  · intro h j hj e
    rw [h2 j (by omega) (by omega)] at e
    have := h j hj e
    rwa [← mTr_congr h1 h4 h2, ← mTk_congr h1, ← h1] at this
theorem mEn_congr {f g : Int → Int} (h : ∀ k : Int, 0 ≤ k → k < 4 → f k = g k) : mEn f = mEn g := by
  unfold mEn
  rw [h 0 (by omega) (by omega), h 1 (by omega) (by omega), h 2 (by omega) (by omega), h 3 (by omega) (by omega)]
/-- what movedBy answers, by the digits in the spots -/
theorem mMv_eq {I : SmI} {J : SmI} {f : Int → Int} {t : Int} (hJ : I 107 = J 107) (h4 : J 107 1 ≤ 4) (h0 : 0 ≤ t) (h1 : t < 4) (hf : ∀ k : Int, 0 ≤ k → k < 4 → I 113 k = f k) : mMv I t = mvD J f t := by
  have e1 : ∀ x, mEnc (iSet I 113 t x) = mEn (updD f t x) := fun x => by
    have : mEnc (iSet I 113 t x) = mEn (iSet I 113 t x 113) := rfl
    rw [this]
    refine mEn_congr fun k k0 k1 => ?_
    rw [iSet_ap]
    unfold updD
    by_cases e : k = t
    · rw [if_pos ⟨rfl, e⟩, if_pos e]
    · rw [if_neg (fun z => e z.2), if_neg e, hf k k0 k1]
  have e2 : ∀ p, mNx I t p = mNx J t p := fun p => by unfold mNx; rw [hJ]
  have e3 : ∀ x p, mHold (iSet I 113 t x) p (I 107 1).toNat ↔ mHold (jS J (updD f t x)) p (J 107 1).toNat := fun x p => by
    rw [hJ]
    refine mHold_congr ?_ ?_ ?_ (by omega)
    · rw [i113, jS107, hJ]
    · rw [i113, hJ]; exact h4
    · intro k k0 k1
      rw [jS113, iSet_ap]
      unfold updD
      by_cases e : k = t
      · rw [if_pos ⟨rfl, e⟩, if_pos e]
      · rw [if_neg (fun z => e z.2), if_neg e, hf k k0 k1]
  unfold mMv mvD
  rw [hf t h0 h1]
  by_cases a : f t = 0
  · rw [if_pos a, if_pos a]
  · rw [if_neg a, if_neg a, e2, show I 107 (34 + 6 * t + 1) = J 107 (34 + 6 * t + 1) by rw [hJ]]
    by_cases b : mNx J t (f t - 1) = J 107 (34 + 6 * t + 1)
    · rw [if_pos b, if_pos b, e1]
    · rw [if_neg b, if_neg b]
      by_cases c : mHold (jS J (updD f t (mNx J t (f t - 1) + 1))) (mNx J t (f t - 1)) (J 107 1).toNat
      · rw [if_pos c, if_pos ((e3 _ _).mpr c), e1]
      · rw [if_neg c, if_neg (fun z => c ((e3 _ _).mp z))]
theorem mvD_congr {J J' : SmI} {f g : Int → Int} {t : Int} (hJ : J 107 = J' 107) (h4 : J 107 1 ≤ 4) (h0 : 0 ≤ t) (h1 : t < 4) (hf : ∀ k : Int, 0 ≤ k → k < 4 → f k = g k) : mvD J f t = mvD J' g t := by
  rw [← mMv_eq (I := jS J f) (J := J) (f := f) jS107 h4 h0 h1 (fun k _ _ => by rw [jS113])]
  exact mMv_eq (by rw [jS107, hJ]) (hJ ▸ h4) h0 h1 (fun k k0 k1 => by rw [jS113, hf k k0 k1])
theorem mvP_congr {J J' : SmI} {c t : Int} (hJ : J 107 = J' 107) (h4 : J 107 1 ≤ 4) (h0 : 0 ≤ t) (h1 : t < 4) : mvP J c t = mvP J' c t := mvD_congr hJ h4 h0 h1 (fun _ _ _ => rfl)
theorem w7_0 : w7 0 = 1 := rfl
theorem w7_1 : w7 1 = 7 := rfl
theorem w7_2 : w7 2 = 49 := rfl
theorem w7_3 : w7 3 = 343 := rfl
theorem i4 {t : Int} (h0 : 0 ≤ t) (h1 : t < 4) : t = 0 ∨ t = 1 ∨ t = 2 ∨ t = 3 := by omega
theorem dgt_in (c t : Int) : 0 ≤ dgt c t ∧ dgt c t < 7 := by unfold dgt; omega
theorem dgt_mEn {f : Int → Int} (h : ∀ k : Int, 0 ≤ k → k < 4 → 0 ≤ f k ∧ f k < 7) {t : Int} (h0 : 0 ≤ t) (h1 : t < 4) : dgt (mEn f) t = f t := by
  have a := h 0 (by omega) (by omega)
  have b := h 1 (by omega) (by omega)
  have c := h 2 (by omega) (by omega)
  have d := h 3 (by omega) (by omega)
  unfold dgt mEn
  rcases i4 h0 h1 with rfl | rfl | rfl | rfl
  · rw [w7_0]; omega
  · rw [w7_1]; omega
  · rw [w7_2]; omega
  · rw [w7_3]; omega
theorem mEn_in {f : Int → Int} (h : ∀ k : Int, 0 ≤ k → k < 4 → 0 ≤ f k ∧ f k < 7) : 0 ≤ mEn f ∧ mEn f < 2401 := by
  have a := h 0 (by omega) (by omega)
  have b := h 1 (by omega) (by omega)
  have c := h 2 (by omega) (by omega)
  have d := h 3 (by omega) (by omega)
  unfold mEn
  omega
theorem mEn_dgt {c : Int} (h0 : 0 ≤ c) (h1 : c < 2401) : mEn (dgt c) = c := by
  unfold mEn dgt
  rw [w7_0, w7_1, w7_2, w7_3]
  omega
theorem dgt_inj {c c' : Int} (h0 : 0 ≤ c) (h1 : c < 2401) (h0' : 0 ≤ c') (h1' : c' < 2401) (h : ∀ k : Int, 0 ≤ k → k < 4 → dgt c k = dgt c' k) : c = c' := by
  rw [← mEn_dgt h0 h1, ← mEn_dgt h0' h1']
  exact mEn_congr h
theorem dgt_0 (t : Int) : dgt 0 t = 0 := by unfold dgt; simp
theorem dgt_all0 {c : Int} (h0 : 0 ≤ c) (h1 : c < 2401) (h : ∀ k : Int, 0 ≤ k → k < 4 → dgt c k = 0) : c = 0 := dgt_inj h0 h1 (by omega) (by omega) (fun k k0 k1 => by rw [h k k0 k1, dgt_0])
theorem updD_same {f : Int → Int} {t x : Int} : updD f t x t = x := if_pos rfl
theorem updD_ne {f : Int → Int} {t x k : Int} (h : k ≠ t) : updD f t x k = f k := if_neg h
/-- a place on a train's way, its end left out -/
def onWay (J : SmI) (t p : Int) : Prop := (J 107 (34 + 6 * t) < J 107 (34 + 6 * t + 1) → J 107 (34 + 6 * t) ≤ p ∧ p < J 107 (34 + 6 * t + 1)) ∧ (¬ J 107 (34 + 6 * t) < J 107 (34 + 6 * t + 1) → J 107 (34 + 6 * t + 1) < p ∧ p ≤ J 107 (34 + 6 * t))
/-- the trains' ends are places, not one -/
def trB (J : SmI) : Prop := (0 ≤ J 107 1 ∧ J 107 1 ≤ 4) ∧ ∀ t : Int, 0 ≤ t → t < J 107 1 → (0 ≤ J 107 (34 + 6 * t) ∧ J 107 (34 + 6 * t) < 6) ∧ 0 ≤ J 107 (34 + 6 * t + 1) ∧ J 107 (34 + 6 * t + 1) < 6
def okP (J : SmI) (c : Int) : Prop := (0 ≤ c ∧ c < 2401) ∧ ∀ t : Int, 0 ≤ t → t < 4 → dgt c t ≠ 0 → t < J 107 1 ∧ onWay J t (dgt c t - 1)
def lfT (J : SmI) (c t : Int) : Int := if dgt c t = 0 then 0 else if J 107 (34 + 6 * t) < J 107 (34 + 6 * t + 1) then J 107 (34 + 6 * t + 1) - (dgt c t - 1) else dgt c t - 1 - J 107 (34 + 6 * t + 1)
def lfC (J : SmI) (c : Int) : Int := lfT J c 0 + lfT J c 1 + lfT J c 2 + lfT J c 3
theorem lfT_in {J : SmI} {c t : Int} (hb : trB J) (hc : okP J c) (h0 : 0 ≤ t) (h1 : t < 4) : 0 ≤ lfT J c t ∧ lfT J c t ≤ 5 ∧ (lfT J c t = 0 → dgt c t = 0) := by
  by_cases e : dgt c t = 0
  · unfold lfT; rw [if_pos e]; omega
  · obtain ⟨a, b⟩ := hc.2 t h0 h1 e
    have w := hb.2 t h0 a
    unfold onWay at b
    unfold lfT
    rw [if_neg e]
    split <;> omega
theorem lfC_in {J : SmI} {c : Int} (hb : trB J) (hc : okP J c) : 0 ≤ lfC J c ∧ lfC J c ≤ 20 := by
  have a := lfT_in hb hc (t := 0) (by omega) (by omega)
  have b := lfT_in hb hc (t := 1) (by omega) (by omega)
  have c := lfT_in hb hc (t := 2) (by omega) (by omega)
  have d := lfT_in hb hc (t := 3) (by omega) (by omega)
  unfold lfC
  omega
theorem okP_0 {J : SmI} : okP J 0 := ⟨by omega, fun t _ _ h => absurd (dgt_0 t) h⟩
theorem lfC_0 {J : SmI} : lfC J 0 = 0 := by
  unfold lfC lfT
  simp [dgt_0]
theorem lfC_pos {J : SmI} {c : Int} (hb : trB J) (hc : okP J c) (h : lfC J c = 0) : c = 0 := by
  have a := lfT_in hb hc (t := 0) (by omega) (by omega)
  have b := lfT_in hb hc (t := 1) (by omega) (by omega)
  have e := lfT_in hb hc (t := 2) (by omega) (by omega)
  have d := lfT_in hb hc (t := 3) (by omega) (by omega)
  unfold lfC at h
  refine dgt_all0 hc.1.1 hc.1.2 fun k k0 k1 => ?_
  rcases i4 k0 k1 with rfl | rfl | rfl | rfl
  · exact a.2.2 (by omega)
  · exact b.2.2 (by omega)
  · exact e.2.2 (by omega)
  · exact d.2.2 (by omega)
/-- the digit behind a move -/
def nxd (J : SmI) (c t : Int) : Int := if mNx J t (dgt c t - 1) = J 107 (34 + 6 * t + 1) then 0 else mNx J t (dgt c t - 1) + 1
theorem mvP_cases {J : SmI} {c t : Int} (hb : trB J) (hc : okP J c) (h0 : 0 ≤ t) (h1 : t < J 107 1) (h : mvP J c t ≠ -4) :
    dgt c t ≠ 0 ∧ mvP J c t = mEn (updD (dgt c) t (nxd J c t)) ∧ (0 ≤ nxd J c t ∧ nxd J c t < 7) ∧ (nxd J c t ≠ 0 → onWay J t (nxd J c t - 1)) := by
  have n4 := hb.1.2
  unfold mvP mvD at h ⊢
  by_cases e : dgt c t = 0
  · rw [if_pos e] at h; exact absurd rfl h
  · obtain ⟨a, b⟩ := hc.2 t h0 (by omega) e
    have w := hb.2 t h0 a
    have q := dgt_in c t
    rw [if_neg e] at h ⊢
    have hx : (J 107 (34 + 6 * t) < J 107 (34 + 6 * t + 1) → mNx J t (dgt c t - 1) = dgt c t) ∧ (¬ J 107 (34 + 6 * t) < J 107 (34 + 6 * t + 1) → mNx J t (dgt c t - 1) = dgt c t - 2) := by
      unfold mNx
      constructor <;> intro z
      · rw [if_pos z]; omega
      · rw [if_neg z]; omega
    unfold onWay at b ⊢
    unfold nxd
    generalize mNx J t (dgt c t - 1) = x at *
    by_cases e2 : x = J 107 (34 + 6 * t + 1)
    · rw [if_pos e2, if_pos e2] at *
      exact ⟨e, rfl, by omega, fun z => absurd rfl z⟩
    · rw [if_neg e2] at h ⊢
      rw [if_neg e2]
      refine ⟨e, ?_, by omega, fun _ => ⟨fun z => by omega, fun z => by omega⟩⟩
      split at h
      · rename_i hh
        rw [if_pos hh]
      · exact absurd rfl h
theorem mvP_ok {J : SmI} {c t : Int} (hb : trB J) (hc : okP J c) (h0 : 0 ≤ t) (h1 : t < J 107 1) (h : mvP J c t ≠ -4) :
    okP J (mvP J c t) ∧ lfC J (mvP J c t) = lfC J c - 1 ∧ (∀ k : Int, 0 ≤ k → k < 4 → k ≠ t → dgt (mvP J c t) k = dgt c k) ∧ dgt (mvP J c t) t = nxd J c t ∧ dgt c t ≠ 0 := by
  have n4 := hb.1.2
  obtain ⟨a, b, q, o⟩ := mvP_cases hb hc h0 h1 h
  have hf : ∀ k : Int, 0 ≤ k → k < 4 → 0 ≤ updD (dgt c) t (nxd J c t) k ∧ updD (dgt c) t (nxd J c t) k < 7 := fun k _ _ => by
    by_cases e : k = t
    · rw [e, updD_same]; exact q
    · rw [updD_ne e]; exact dgt_in c k
  have d1 : ∀ k : Int, 0 ≤ k → k < 4 → k ≠ t → dgt (mvP J c t) k = dgt c k := fun k k0 k1 e => by
    rw [b, dgt_mEn hf k0 k1, updD_ne e]
  have d2 : dgt (mvP J c t) t = nxd J c t := by rw [b, dgt_mEn hf h0 (by omega), updD_same]
  have hok : okP J (mvP J c t) := by
    refine ⟨by rw [b]; exact mEn_in hf, fun k k0 k1 e => ?_⟩
    by_cases ek : k = t
    · subst ek
      rw [d2] at e ⊢
      exact ⟨h1, o e⟩
    · rw [d1 k k0 k1 ek] at e ⊢
      exact hc.2 k k0 k1 e
  refine ⟨hok, ?_, d1, d2, a⟩
  have l1 : ∀ k : Int, 0 ≤ k → k < 4 → k ≠ t → lfT J (mvP J c t) k = lfT J c k := fun k k0 k1 e => by unfold lfT; rw [d1 k k0 k1 e]
  have l2 : lfT J (mvP J c t) t = lfT J c t - 1 := by
    obtain ⟨_, w⟩ := hc.2 t h0 (by omega) a
    have hx : (J 107 (34 + 6 * t) < J 107 (34 + 6 * t + 1) → mNx J t (dgt c t - 1) = dgt c t) ∧ (¬ J 107 (34 + 6 * t) < J 107 (34 + 6 * t + 1) → mNx J t (dgt c t - 1) = dgt c t - 2) := by
      unfold mNx
      constructor <;> intro z
      · rw [if_pos z]; omega
      · rw [if_neg z]; omega
    unfold lfT
    rw [d2, if_neg a]
    unfold nxd at *
    unfold onWay at w
    generalize mNx J t (dgt c t - 1) = x at *
    have tb := hb.2 t h0 h1
    clear d1 d2 hf b hok h
    by_cases e2 : x = J 107 (34 + 6 * t + 1)
    · rw [if_pos e2, if_pos rfl]
      split <;> omega
    · rw [if_neg e2] at q ⊢
      by_cases e3 : x + 1 = 0
      · omega
      · rw [if_neg e3]
        split <;> omega
  unfold lfC
  rcases i4 h0 (show t < 4 by omega) with rfl | rfl | rfl | rfl
  · rw [l2, l1 1 (by omega) (by omega) (by omega), l1 2 (by omega) (by omega) (by omega), l1 3 (by omega) (by omega) (by omega)]; omega
  · rw [l2, l1 0 (by omega) (by omega) (by omega), l1 2 (by omega) (by omega) (by omega), l1 3 (by omega) (by omega) (by omega)]; omega
  · rw [l2, l1 1 (by omega) (by omega) (by omega), l1 0 (by omega) (by omega) (by omega), l1 3 (by omega) (by omega) (by omega)]; omega
  · rw [l2, l1 1 (by omega) (by omega) (by omega), l1 2 (by omega) (by omega) (by omega), l1 0 (by omega) (by omega) (by omega)]; omega
/-- a move leads from a posture to one -/
def stpP (J : SmI) (a b : Int) : Prop := ∃ t : Int, 0 ≤ t ∧ t < J 107 1 ∧ mvP J a t ≠ -4 ∧ b = mvP J a t
def sfN (J : SmI) : Nat → Int → Prop
  | 0, c => c = 0
  | n + 1, c => c = 0 ∨ ∃ b, stpP J c b ∧ sfN J n b
def safP (J : SmI) (c : Int) : Prop := ∃ n, sfN J n c
theorem sfN_up {J : SmI} : ∀ (n : Nat) (c : Int), sfN J n c → sfN J (n + 1) c := fun n => by
  induction n with
  | zero => exact fun c h => Or.inl h
  | succ n ih =>
    intro c h
    rcases h with h | ⟨b, hb, h⟩
    · exact Or.inl h
    · exact Or.inr ⟨b, hb, ih b h⟩
theorem safP_iff {J : SmI} {c : Int} : safP J c ↔ c = 0 ∨ ∃ b, stpP J c b ∧ safP J b := by
  constructor
  · rintro ⟨n, h⟩
    cases n with
    | zero => exact Or.inl h
    | succ n =>
      rcases h with h | ⟨b, hb, h⟩
      · exact Or.inl h
      · exact Or.inr ⟨b, hb, n, h⟩
  · rintro (h | ⟨b, hb, n, h⟩)
    · exact ⟨0, h⟩
    · exact ⟨n + 1, Or.inr ⟨b, hb, h⟩⟩
theorem safP_0 {J : SmI} : safP J 0 := safP_iff.mpr (Or.inl rfl)
theorem stpP_ok {J : SmI} {a b : Int} (hb : trB J) (hc : okP J a) (h : stpP J a b) : okP J b ∧ lfC J b = lfC J a - 1 := by
  obtain ⟨t, h0, h1, h2, rfl⟩ := h
  have := mvP_ok hb hc h0 h1 h2
  exact ⟨this.1, this.2.1⟩
def rcN (J : SmI) : Nat → Int → Int → Prop
  | 0, a, b => a = b
  | n + 1, a, b => ∃ m, stpP J a m ∧ rcN J n m b
def rchP (J : SmI) (a b : Int) : Prop := ∃ n, rcN J n a b
theorem rchP_refl {J : SmI} {a : Int} : rchP J a a := ⟨0, rfl⟩
theorem rchP_cons {J : SmI} {a m b : Int} (h : stpP J a m) (h2 : rchP J m b) : rchP J a b := by
  obtain ⟨n, h2⟩ := h2
  exact ⟨n + 1, m, h, h2⟩
theorem rchP_trans {J : SmI} {a m b : Int} (h : rchP J a m) (h2 : rchP J m b) : rchP J a b := by
  obtain ⟨n, h⟩ := h
  induction n generalizing a with
  | zero => cases h; exact h2
  | succ n ih =>
    obtain ⟨q, hq, h⟩ := h
    exact rchP_cons hq (ih h)
theorem rchP_snoc {J : SmI} {a m b : Int} (h : rchP J a m) (h2 : stpP J m b) : rchP J a b := rchP_trans h (rchP_cons h2 rchP_refl)
theorem rchP_cases {J : SmI} {a b : Int} (h : rchP J a b) : a = b ∨ ∃ m, stpP J a m ∧ rchP J m b := by
  obtain ⟨n, h⟩ := h
  cases n with
  | zero => exact Or.inl h
  | succ n => obtain ⟨m, hm, h⟩ := h; exact Or.inr ⟨m, hm, n, h⟩
theorem rchP_ok {J : SmI} {a b : Int} (hb : trB J) (hc : okP J a) (h : rchP J a b) : okP J b ∧ lfC J b ≤ lfC J a := by
  obtain ⟨n, h⟩ := h
  induction n generalizing a with
  | zero => cases h; exact ⟨hc, Int.le_refl _⟩
  | succ n ih =>
    obtain ⟨m, hm, h⟩ := h
    have q := stpP_ok hb hc hm
    have w := ih q.1 h
    exact ⟨w.1, by omega⟩
theorem trB_congr {J J' : SmI} (h : J 107 = J' 107) : trB J ↔ trB J' := by unfold trB; rw [h]
theorem okP_congr {J J' : SmI} {c : Int} (h : J 107 = J' 107) : okP J c ↔ okP J' c := by unfold okP onWay; rw [h]
theorem stpP_congr {J J' : SmI} {a b : Int} (h : J 107 = J' 107) (h4 : J 107 1 ≤ 4) : stpP J a b ↔ stpP J' a b := by
  unfold stpP
  constructor
  · rintro ⟨t, h0, h1, h2, h3⟩
    rw [mvP_congr h h4 h0 (by omega)] at h2 h3
    exact ⟨t, h0, by rw [← h]; exact h1, h2, h3⟩
  · rintro ⟨t, h0, h1, h2, h3⟩
    rw [← h] at h1
    rw [← mvP_congr h h4 h0 (by omega)] at h2 h3
    exact ⟨t, h0, h1, h2, h3⟩
theorem sfN_congr {J J' : SmI} (h : J 107 = J' 107) (h4 : J 107 1 ≤ 4) : ∀ (n : Nat) (c : Int), sfN J n c ↔ sfN J' n c := fun n => by
  induction n with
  | zero => exact fun c => Iff.rfl
  | succ n ih =>
    intro c
    constructor
    · rintro (q | ⟨b, hb, q⟩)
      · exact Or.inl q
      · exact Or.inr ⟨b, (stpP_congr h h4).mp hb, (ih b).mp q⟩
    · rintro (q | ⟨b, hb, q⟩)
      · exact Or.inl q
      · exact Or.inr ⟨b, (stpP_congr h h4).mpr hb, (ih b).mpr q⟩
theorem safP_congr {J J' : SmI} {c : Int} (h : J 107 = J' 107) (h4 : J 107 1 ≤ 4) : safP J c ↔ safP J' c := ⟨fun ⟨n, q⟩ => ⟨n, (sfN_congr h h4 n c).mp q⟩, fun ⟨n, q⟩ => ⟨n, (sfN_congr h h4 n c).mpr q⟩⟩
theorem rcN_congr {J J' : SmI} (h : J 107 = J' 107) (h4 : J 107 1 ≤ 4) : ∀ (n : Nat) (a b : Int), rcN J n a b ↔ rcN J' n a b := fun n => by
  induction n with
  | zero => exact fun a b => Iff.rfl
  | succ n ih =>
    intro a b
    constructor
    · rintro ⟨m, hm, q⟩
      exact ⟨m, (stpP_congr h h4).mp hm, (ih m b).mp q⟩
    · rintro ⟨m, hm, q⟩
      exact ⟨m, (stpP_congr h h4).mpr hm, (ih m b).mpr q⟩
theorem rchP_congr {J J' : SmI} {a b : Int} (h : J 107 = J' 107) (h4 : J 107 1 ≤ 4) : rchP J a b ↔ rchP J' a b := ⟨fun ⟨n, q⟩ => ⟨n, (rcN_congr h h4 n a b).mp q⟩, fun ⟨n, q⟩ => ⟨n, (rcN_congr h h4 n a b).mpr q⟩⟩
/-! counting -/
theorem cnt_one {p r : Int → Prop} {N : Nat} {a : Int} (ha : ¬ p a) (h0 : 0 ≤ a) (h1 : a < N) (h : ∀ j : Nat, j < N → (r j ↔ p j ∨ (j : Int) = a)) : cntTo r N = cntTo p N + 1 := by
  induction N with
  | zero => omega
  | succ N ih =>
    rw [cntTo_s, cntTo_s]
    by_cases e : (N : Int) = a
    · rw [cntTo_congr (p := r) (q := p) (fun j hj => by rw [h j (by omega)]; exact ⟨fun z => z.elim id (fun z => by omega), Or.inl⟩)]
      rw [tf_t ((h N (by omega)).mpr (Or.inr e)), tf_f (e ▸ ha)]
      omega
    · have := ih (by omega) (fun j hj => h j (by omega))
      rw [this, tf_iff (a := r N) (b := p N) (by rw [h N (by omega)]; exact ⟨fun z => z.elim id (fun z => absurd z e), Or.inl⟩)]
      omega
theorem cnt_inj {f : Int → Int} {N : Nat} {P : Int → Prop} : ∀ (n : Nat), (∀ j : Nat, j < n → 0 ≤ f j ∧ f j < N) → (∀ i j : Nat, i < n → j < n → f i = f j → i = j) → cntTo (fun x => (∃ j : Nat, j < n ∧ f j = x) ∧ P x) N = cntTo (fun k => P (f k)) n := fun n => by
  induction n with
  | zero =>
    intro _ _
    rw [cntTo_congr (p := fun x => (∃ j : Nat, j < 0 ∧ f j = x) ∧ P x) (q := fun _ => False) (fun j _ => ⟨fun ⟨⟨i, h, _⟩, _⟩ => absurd h (Nat.not_lt_zero _), fun h => h.elim⟩)]
    have : ∀ M : Nat, cntTo (fun _ => False) M = 0 := fun M => by
      induction M with
      | zero => rfl
      | succ M ih => rw [cntTo_s, ih, tf_F]; rfl
    rw [this]; rfl
  | succ n ih =>
    intro h1 h2
    have e := ih (fun j hj => h1 j (by omega)) (fun i j hi hj => h2 i j (by omega) (by omega))
    rw [cntTo_s, ← e]
    by_cases hp : P (f n)
    · rw [tf_t hp]
      refine cnt_one (a := f n) (fun ⟨⟨j, hj, q⟩, _⟩ => ?_) (h1 n (by omega)).1 (h1 n (by omega)).2 (fun x _ => ⟨fun ⟨⟨j, hj, q⟩, w⟩ => ?_, fun q => ?_⟩)
      · have := h2 j n (by omega) (by omega) q
        omega
      · by_cases hjn : j = n
        · exact Or.inr (by rw [← q, hjn])
        · exact Or.inl ⟨⟨j, by omega, q⟩, w⟩
      · rcases q with ⟨⟨j, hj, q⟩, w⟩ | q
        · exact ⟨⟨j, by omega, q⟩, w⟩
        · exact ⟨⟨n, by omega, q.symm⟩, q ▸ hp⟩
    · rw [tf_f hp, Int.add_zero]
      refine cntTo_congr (fun x _ => ⟨fun ⟨⟨j, hj, q⟩, w⟩ => ?_, fun ⟨⟨j, hj, q⟩, w⟩ => ⟨⟨j, by omega, q⟩, w⟩⟩)
      by_cases hjn : j = n
      · rw [← q, hjn] at w
        exact absurd w hp
      · exact ⟨⟨j, by omega, q⟩, w⟩
theorem cnt_all {N : Nat} : cntTo (fun _ => True) N = N := by
  induction N with
  | zero => rfl
  | succ N ih => rw [cntTo_s, ih, tf_T]; omega
/-- no more values than there are numbers below N -/
theorem inj_le {f : Int → Int} {N n : Nat} (h1 : ∀ j : Nat, j < n → 0 ≤ f j ∧ f j < N) (h2 : ∀ i j : Nat, i < n → j < n → f i = f j → i = j) : n ≤ N := by
  have e := cnt_inj (P := fun _ => True) n h1 h2
  have b := cntTo_in (p := fun x => (∃ j : Nat, j < n ∧ f j = x) ∧ True) (n := N)
  rw [cnt_all] at e
  omega
