/-! numbers by length: a row, the greatest first, and the counts; the longest tracks; X's codes of postures -/
set_option maxRecDepth 100000
theorem cnt_mono {p q : Int → Prop} {n : Nat} (h : ∀ j : Nat, j < n → p j → q j) : cntTo p n ≤ cntTo q n := by
  induction n with
  | zero => exact Int.le_refl _
  | succ n ih =>
    have := ih (fun j hj => h j (by omega))
    rw [cntTo_s, cntTo_s]
    by_cases hp : p n
    · rw [tf_t hp, tf_t (h n (by omega) hp)]; omega
    · rw [tf_f hp]
      have := tf_in (c := q n)
      omega
theorem cnt_lt {p q : Int → Prop} {n : Nat} (h : ∀ j : Nat, j < n → p j → q j) {k : Nat} (hk : k < n) (hq : q k) (hp : ¬ p k) : cntTo p n + 1 ≤ cntTo q n := by
  have e := cnt_one (p := p) (r := fun x => p x ∨ x = k) (N := n) (a := k) hp (by omega) (by omega) (fun j _ => Iff.rfl)
  have m := cnt_mono (p := fun x => p x ∨ x = k) (q := q) (n := n) (fun j hj z => z.elim (h j hj) (fun z => by
    have : j = k := by omega
    rw [this]; exact hq))
  omega
theorem cnt_gt {p q : Int → Prop} {n : Nat} (h : cntTo q n < cntTo p n) : ∃ j : Nat, j < n ∧ p j ∧ ¬ q j := by
  refine Classical.byContradiction fun hn => ?_
  have := cnt_mono (p := p) (q := q) (n := n) (fun j hj hp => Classical.byContradiction fun hq => hn ⟨j, hj, hp, hq⟩)
  omega
theorem cnt_pos {p : Int → Prop} {n k : Nat} (hk : k < n) (hp : p k) : 1 ≤ cntTo p n := by
  have := cnt_lt (p := fun _ => False) (q := p) (n := n) (fun j _ z => z.elim) hk hp id
  have := cntTo_in (p := fun _ => False) (n := n)
  omega
def sdB (a : Int → Int) (n : Int) (C : Int → Int) : Prop := ∀ k : Int, 0 ≤ k → k < n → ∀ L : Int, (L ≤ a k ↔ k < C L)
theorem sdB_ins {a a' : Int → Int} {n k0 x : Int} {C C' : Int → Int} (h : sdB a n C) (hC : ∀ L, 0 ≤ C L ∧ C L ≤ n) (hC' : ∀ L, C' L = C L + (if L ≤ x then 1 else 0)) (k00 : 0 ≤ k0) (k01 : k0 ≤ n) (hlo : 0 < k0 → x ≤ a (k0 - 1)) (hhi : ∀ j, k0 ≤ j → j < n → a j < x) (e1 : ∀ j, 0 ≤ j → j < k0 → a' j = a j) (e2 : a' k0 = x) (e3 : ∀ j, k0 < j → j ≤ n → a' j = a (j - 1)) : sdB a' (n + 1) C' := by
  intro k k0' k1 L
  have cL := hC L
  have cx := hC x
  rw [hC' L]
  rcases Int.lt_trichotomy k k0 with q | q | q
  · rw [e1 k k0' q, h k k0' (by omega) L]
    split
    · rename_i w
      have h1 := (h (k0 - 1) (by omega) (by omega) L).mp (by have := hlo (by omega); omega)
      omega
    · omega
  · subst q
    rw [e2]
    by_cases w : L ≤ x
    · rw [if_pos w]
      refine ⟨fun _ => ?_, fun _ => w⟩
      by_cases z : 0 < k
      · have h1 := (h (k - 1) (by omega) (by omega) L).mp (by have := hlo z; omega)
        omega
      · omega
    · rw [if_neg w]
      refine ⟨fun z => absurd z w, fun z => ?_⟩
      by_cases y : k < n
      · have h1 := (h k k0' y L).mpr (by omega)
        have h2 := hhi k (Int.le_refl _) y
        omega
      · omega
  · rw [e3 k q (by omega), h (k - 1) (by omega) (by omega) L]
    have h2 := hhi (k - 1) (by omega) (by omega)
    by_cases w : L ≤ x
    · rw [if_pos w]; omega
    · rw [if_neg w]
      have h3 := h (k - 1) (by omega) (by omega) L
      omega
theorem sdB_hold {a b : Int → Int} {n m : Int} {C D : Int → Int} (ha : sdB a n C) (hb : sdB b m D) (hC : ∀ L, 0 ≤ C L ∧ C L ≤ n) (hD : ∀ L, 0 ≤ D L ∧ D L ≤ m) (X : Int → Prop) (hX : ∀ k, 0 ≤ k → k < n → X (a k)) (hX2 : ∀ x, X x → 1 ≤ C x) : (n ≤ m ∧ ∀ k, 0 ≤ k → k < n → a k ≤ b k) ↔ ∀ x, X x → C x ≤ D x := by
  constructor
  · rintro ⟨h1, h2⟩ x hx
    have c := hC x
    have c1 := hX2 x hx
    have e1 := (ha (C x - 1) (by omega) (by omega) x).mpr (by omega)
    have e2 := h2 (C x - 1) (by omega) (by omega)
    have e3 := (hb (C x - 1) (by omega) (by omega) x).mp (by omega)
    omega
  · intro h
    have key : ∀ k, 0 ≤ k → k < n → k < D (a k) := fun k k0 k1 => by
      have e1 := (ha k k0 k1 (a k)).mp (Int.le_refl _)
      have e2 := h _ (hX k k0 k1)
      omega
    have hn : n ≤ m := by
      by_cases z : 0 < n
      · have := key (n - 1) (by omega) (by omega)
        have := hD (a (n - 1))
        omega
      · have := hC 0
        have := hD 0
        omega
    exact ⟨hn, fun k k0 k1 => (hb k k0 (by omega) (a k)).mpr (key k k0 k1)⟩
/-- how many trains are at a place, by spot -/
noncomputable def mCn (I : SmI) (p : Int) (n : Nat) : Int := cntTo (fun t => I 113 t = p + 1) n
/-- trains at a place of a length, out of the first ones -/
noncomputable def mTn (I : SmI) (p : Int) (n : Nat) (L : Int) : Int := cntTo (fun t => I 113 t = p + 1 ∧ L ≤ I 107 (34 + 6 * t + 2)) n
theorem mTn_in {I : SmI} {p : Int} {n : Nat} {L : Int} : 0 ≤ mTn I p n L ∧ mTn I p n L ≤ mCn I p n := ⟨cntTo_in.1, cnt_mono (fun _ _ z => z.1)⟩
theorem mTk_in {I : SmI} {p L : Int} (h : 0 ≤ I 107 (4 + 5 * p)) : 0 ≤ mTk I p L ∧ mTk I p L ≤ I 107 (4 + 5 * p) := by
  have := cntTo_in (p := fun k => L ≤ I 107 (4 + 5 * p + (1 + k))) (n := (I 107 (4 + 5 * p + 0)).toNat)
  unfold mTk
  rw [Int.add_zero] at this ⊢
  omega
theorem mHold_sd {I : SmI} {p : Int} {n : Nat} {a b : Int → Int} (hn : I 107 1 = n) (h0 : 0 ≤ I 107 (4 + 5 * p)) (ha : sdB a (mCn I p n) (mTn I p n)) (hb : sdB b (I 107 (4 + 5 * p)) (mTk I p)) : (mCn I p n ≤ I 107 (4 + 5 * p) ∧ ∀ k, 0 ≤ k → k < mCn I p n → a k ≤ b k) ↔ mHold I p n := by
  have en : (I 107 1).toNat = n := by omega
  rw [sdB_hold ha hb (fun L => mTn_in) (fun L => mTk_in h0) (fun x => ∃ j : Nat, j < n ∧ I 113 j = p + 1 ∧ I 107 (34 + 6 * (j : Int) + 2) = x)]
  · unfold mHold allTo
    have et : ∀ x, mTr I p x = mTn I p n x := fun x => by unfold mTr mTn; rw [en]
    constructor
    · intro h j hj e
      rw [et]
      exact h _ ⟨j, hj, e, rfl⟩
    · rintro h x ⟨j, hj, e, rfl⟩
      have := h j hj e
      rw [et] at this
      exact this
  · intro k k0 k1
    have e1 := (ha k k0 k1 (a k)).mp (Int.le_refl _)
    have e2 : ¬ k < mTn I p n (a k + 1) := fun z => by
      have := (ha k k0 k1 (a k + 1)).mpr z
      omega
    obtain ⟨j, hj, hp, hq⟩ := cnt_gt (p := fun t => I 113 t = p + 1 ∧ a k ≤ I 107 (34 + 6 * t + 2)) (q := fun t => I 113 t = p + 1 ∧ a k + 1 ≤ I 107 (34 + 6 * t + 2)) (n := n) (by unfold mTn at e1 e2; omega)
    refine ⟨j, hj, hp.1, ?_⟩
    have := hp.2
    have : ¬ a k + 1 ≤ I 107 (34 + 6 * (j : Int) + 2) := fun z => hq ⟨hp.1, z⟩
    omega
  · rintro x ⟨j, hj, e, rfl⟩
    exact cnt_pos (k := j) hj ⟨e, Int.le_refl _⟩
theorem sdB_0 {a : Int → Int} {C : Int → Int} : sdB a 0 C := fun k k0 k1 => absurd k1 (by omega)
theorem sdB_eq {a : Int → Int} {n : Int} {C : Int → Int} {b : Int → Int} (ha : sdB a n C) (hb : sdB b n C) {k : Int} (k0 : 0 ≤ k) (k1 : k < n) : a k = b k := by
  have e1 := (hb k k0 k1 (a k)).mpr ((ha k k0 k1 (a k)).mp (Int.le_refl _))
  have e2 := (ha k k0 k1 (b k)).mpr ((hb k k0 k1 (b k)).mp (Int.le_refl _))
  omega
/-! the k-th longest track -/
theorem mTB_tr {I : SmI} {p a b c : Int} (h : mTB I p a b) (h2 : mTB I p b c) : mTB I p a c := by unfold mTB at *; omega
theorem mTB_tot {I : SmI} {p a b : Int} (h : a ≠ b) : mTB I p a b ∨ mTB I p b a := by unfold mTB; omega
theorem mTB_irr {I : SmI} {p a : Int} : ¬ mTB I p a a := by unfold mTB; omega
theorem mAh_in {I : SmI} {p : Int} {m a : Nat} (ha : a < m) : 0 ≤ mAh I p a m ∧ mAh I p a m < m := by
  have e := cnt_lt (p := mTB I p a) (q := fun _ => True) (n := m) (fun _ _ _ => trivial) ha trivial mTB_irr
  rw [cnt_all] at e
  have := cntTo_in (p := mTB I p a) (n := m)
  unfold mAh
  omega
theorem mAh_inj {I : SmI} {p : Int} {m a b : Nat} (ha : a < m) (hb : b < m) (h : mAh I p a m = mAh I p b m) : a = b := by
  refine Classical.byContradiction fun hn => ?_
  have key : ∀ x y : Nat, x < m → y < m → mTB I p x y → mAh I p y m + 1 ≤ mAh I p x m := fun x y hx hy q => cnt_lt (fun j _ z => mTB_tr q z) hy q mTB_irr
  rcases mTB_tot (I := I) (p := p) (a := a) (b := b) (by omega) with q | q
  · have := key a b ha hb q; omega
  · have := key b a hb ha q; omega
theorem mAh_on {I : SmI} {p : Int} {m k : Nat} (hk : k < m) : ∃ a : Nat, a < m ∧ mAh I p a m = k := by
  refine Classical.byContradiction fun hn => ?_
  have e := inj_le (f := fun j => if j = m then (k : Int) else mAh I p j m) (N := m) (n := m + 1) (fun j hj => by
      by_cases z : (j : Int) = m
      · simp only [z, ↓reduceIte]; omega
      · simp only [z, ↓reduceIte]
        exact mAh_in (by omega)) (fun i j hi hj q => by
      by_cases z : (i : Int) = m
      · by_cases y : (j : Int) = m
        · omega
        · simp only [z, y, ↓reduceIte] at q
          exact absurd ⟨j, by omega, q.symm⟩ hn
      · by_cases y : (j : Int) = m
        · simp only [z, y, ↓reduceIte] at q
          exact absurd ⟨i, by omega, q⟩ hn
        · simp only [z, y, ↓reduceIte] at q
          exact mAh_inj (by omega) (by omega) q)
  omega
theorem mTO_sd {I : SmI} {p : Int} (h0 : 0 ≤ I 107 (4 + 5 * p)) : sdB (mTO I p) (I 107 (4 + 5 * p)) (mTk I p) := by
  intro k k0 k1 L
  obtain ⟨m, hm⟩ : ∃ m : Nat, I 107 (4 + 5 * p) = m := ⟨(I 107 (4 + 5 * p)).toNat, by omega⟩
  obtain ⟨k', rfl⟩ : ∃ k' : Nat, k = k' := ⟨k.toNat, by omega⟩
  obtain ⟨a, ha, e⟩ := mAh_on (I := I) (p := p) (m := m) (k := k') (by omega)
  have em : (I 107 (4 + 5 * p)).toNat = m := by omega
  have f : fstI (fun a => mAh I p a m = k') m = a := fstI_yes (P := fun a => mAh I p a m = k') ha e (fun j hj z => by
    have := mAh_inj (I := I) (p := p) (by omega) ha (z.trans e.symm)
    omega)
  have ex : mTO I p k' = I 107 (4 + 5 * p + (1 + a)) := by
    unfold mTO
    rw [em, f, if_neg (by omega)]
  have ek : mTk I p L = cntTo (fun k => L ≤ I 107 (4 + 5 * p + (1 + k))) m := by unfold mTk; rw [Int.add_zero, em]
  rw [ex, ek]
  unfold mAh at e
  constructor
  · intro h
    have := cnt_lt (p := mTB I p a) (q := fun k => L ≤ I 107 (4 + 5 * p + (1 + k))) (n := m) (fun j _ z => by unfold mTB at z; show L ≤ _; omega) ha h mTB_irr
    omega
  · intro h
    refine Classical.byContradiction fun hn => ?_
    have := cnt_mono (p := fun k => L ≤ I 107 (4 + 5 * p + (1 + k))) (q := mTB I p a) (n := m) (fun j _ z => by
      have z' : L ≤ I 107 (4 + 5 * p + (1 + j)) := z
      unfold mTB; omega)
    omega
theorem mTO_none {I : SmI} {p k : Int} (h : I 107 (4 + 5 * p) ≤ k) : mTO I p k = -4 := by
  unfold mTO
  rw [fstI_no (fun j hj z => ?_), if_pos rfl]
  have := mAh_in (I := I) (p := p) hj
  omega
/-! X's codes: 6 for one that goes no further -/
def xdg (J : SmI) (f : Int → Int) (t : Int) : Int := if t < J 107 1 then (f t + 6) % 7 else 0
def xcd (J : SmI) (c : Int) : Int := mEn (xdg J (dgt c))
theorem xdg_in {J : SmI} {f : Int → Int} (t : Int) : 0 ≤ xdg J f t ∧ xdg J f t < 7 := by unfold xdg; split <;> omega
theorem xcd_in {J : SmI} {c : Int} : 0 ≤ xcd J c ∧ xcd J c < 2401 := mEn_in (fun k _ _ => xdg_in k)
theorem dgt_xcd {J : SmI} {c t : Int} (t0 : 0 ≤ t) (t1 : t < 4) : dgt (xcd J c) t = xdg J (dgt c) t := dgt_mEn (fun k _ _ => xdg_in k) t0 t1
theorem xcd_6 {J : SmI} {c t : Int} (t0 : 0 ≤ t) (h1 : t < J 107 1) (h4 : J 107 1 ≤ 4) : dgt (xcd J c) t = 6 ↔ dgt c t = 0 := by
  have := dgt_in c t
  rw [dgt_xcd t0 (by omega)]
  unfold xdg
  rw [if_pos h1]
  omega
theorem xcd_p {J : SmI} {c t p : Int} (t0 : 0 ≤ t) (h1 : t < J 107 1) (h4 : J 107 1 ≤ 4) (p0 : 0 ≤ p) (p1 : p < 6) : dgt (xcd J c) t = p ↔ dgt c t = p + 1 := by
  have := dgt_in c t
  rw [dgt_xcd t0 (by omega)]
  unfold xdg
  rw [if_pos h1]
  omega
theorem xcd_inj {J : SmI} {c c' : Int} (hc : okP J c) (hc' : okP J c') (h : xcd J c = xcd J c') : c = c' := by
  refine dgt_inj hc.1.1 hc.1.2 hc'.1.1 hc'.1.2 fun k k0 k1 => ?_
  have a := dgt_in c k
  have b := dgt_in c' k
  have e := congrArg (fun x => dgt x k) h
  simp only [dgt_xcd k0 k1] at e
  by_cases z : k < J 107 1
  · unfold xdg at e
    rw [if_pos z, if_pos z] at e
    omega
  · have q1 : dgt c k = 0 := Classical.byContradiction fun w => z (hc.2 k k0 k1 w).1
    have q2 : dgt c' k = 0 := Classical.byContradiction fun w => z (hc'.2 k k0 k1 w).1
    rw [q1, q2]
/-- a posture's code with one digit changed -/
theorem mEn_upd {f : Int → Int} {t x : Int} (t0 : 0 ≤ t) (t1 : t < 4) : mEn (updD f t x) = mEn f + (x - f t) * w7 t := by
  unfold mEn updD
  rcases i4 t0 t1 with rfl | rfl | rfl | rfl
  · rw [w7_0]; simp; omega
  · rw [w7_1]; simp; omega
  · rw [w7_2]; simp; omega
  · rw [w7_3]; simp; omega
theorem xcd_upd {J : SmI} {c t x : Int} (t0 : 0 ≤ t) (h1 : t < J 107 1) (h4 : J 107 1 ≤ 4) (x0 : 0 ≤ x) (x1 : x < 7) : xcd J (mEn (updD (dgt c) t x)) = xcd J c + ((x + 6) % 7 - dgt (xcd J c) t) * w7 t := by
  have hf : ∀ k : Int, 0 ≤ k → k < 4 → 0 ≤ updD (dgt c) t x k ∧ updD (dgt c) t x k < 7 := fun k _ _ => by
    by_cases e : k = t
    · rw [e, updD_same]; omega
    · rw [updD_ne e]; exact dgt_in c k
  rw [dgt_xcd t0 (by omega)]
  have e : xcd J (mEn (updD (dgt c) t x)) = mEn (updD (xdg J (dgt c)) t ((x + 6) % 7)) := by
    refine mEn_congr fun k k0 k1 => ?_
    have hd := dgt_mEn hf k0 k1
    by_cases e : k = t
    · subst e
      rw [updD_same]
      unfold xdg
      rw [if_pos h1, hd, updD_same]
    · rw [updD_ne e]
      unfold xdg
      rw [hd, updD_ne e]
  rw [e, mEn_upd t0 (by omega)]
  rfl
