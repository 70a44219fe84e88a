/-! helpers for the walks -/
set_option maxRecDepth 100000
/-- the locals l' are known among those of l -/
def leL : SmL → SmL → Prop
  | [], [] => True
  | none :: l', _ :: l => leL l' l
  | some v :: l', x :: l => x = some v ∧ leL l' l
  | _, _ => False
theorem leL_spec {l' l : SmL} (h : leL l' l) : l'.length = l.length ∧ ∀ (i : Nat) (v : SmV), l'[i]? = some (some v) → l[i]? = some (some v) := by
  induction l' generalizing l with
  | nil =>
    cases l with
    | nil => exact ⟨rfl, fun i v h => h⟩
    | cons x l => cases h
  | cons y l' ih =>
    cases l with
    | nil => cases y <;> cases h
    | cons x l =>
      cases y with
      | none =>
        obtain ⟨h1, h2⟩ := ih (l := l) h
        refine ⟨by rw [List.length_cons, List.length_cons, h1], fun i v hi => ?_⟩
        cases i with
        | zero => cases hi
        | succ i => exact h2 i v hi
      | some w =>
        obtain ⟨hx, h⟩ := h
        obtain ⟨h1, h2⟩ := ih (l := l) h
        refine ⟨by rw [List.length_cons, List.length_cons, h1], fun i v hi => ?_⟩
        cases i with
        | zero => rw [hx]; exact hi
        | succ i => exact h2 i v hi
theorem SW_le {M : SmM} {pc d : Nat} {Rq : SmQ} {l l' : SmL} {st : List SmV} {S : SmS} {I : SmI} (h : SW M pc d Rq l' st S I) (hl : leL l' l) : SW M pc d Rq l st S I := SW_loc h (leL_spec hl).1 (leL_spec hl).2
/-- the same, the stack and the heap alike by equations -/
theorem SW_as {M : SmM} {pc d : Nat} {Rq : SmQ} {l l' : SmL} {st st' : List SmV} {S S' : SmS} {I I' : SmI} (h : SW M pc d Rq l' st' S' I') (hl : leL l' l) (hst : st = st') (hS : S = S') (hI : I = I') : SW M pc d Rq l st S I := by
  subst hst; subst hS; subst hI
  exact SW_le h hl
theorem leL_nil : leL [] [] = True := rfl
theorem leL_none (x : Option SmV) (l' l : SmL) : leL (none :: l') (x :: l) = leL l' l := rfl
theorem leL_some (v : SmV) (x : Option SmV) (l' l : SmL) : leL (some v :: l') (x :: l) = (x = some v ∧ leL l' l) := rfl
theorem vI_inj (x y : Int) : (vI x = vI y) = (x = y) := by
  apply propext
  constructor
  · intro h; cases h; rfl
  · intro h; rw [h]
theorem vR_inj (x y : Option Nat) : (vR x = vR y) = (x = y) := by
  apply propext
  constructor
  · intro h; cases h; rfl
  · intro h; rw [h]
theorem Rq_as {Rq : SmQ} {o o' : SmO} {S S' : SmS} {I I' : SmI} (h : Rq o' S' I') (ho : o = o') (hS : S = S') (hI : I = I') : Rq o S I := by
  subst ho; subst hS; subst hI
  exact h
/-- sums over 0 .. n-1 -/
def sumTo (f : Int → Int) : Nat → Int
  | 0 => 0
  | n + 1 => sumTo f n + f n
theorem sumTo_s {f : Int → Int} {n : Nat} : sumTo f (n + 1) = sumTo f n + f n := rfl
theorem sumTo_0 {f : Int → Int} : sumTo f 0 = 0 := rfl
theorem sumTo_in {f : Int → Int} {n : Nat} {B : Int} (h : ∀ j : Nat, j < n → 0 ≤ f j ∧ f j ≤ B) : 0 ≤ sumTo f n ∧ sumTo f n ≤ n * B := by
  induction n with
  | zero => exact ⟨Int.le_refl _, by simp [sumTo]⟩
  | succ n ih =>
    have h1 := ih (fun j hj => h j (by omega))
    have h2 := h n (by omega)
    have e : ((n + 1 : Nat) : Int) * B = n * B + B := by rw [Int.natCast_succ, Int.add_mul, Int.one_mul]
    rw [e]
    unfold sumTo
    omega
noncomputable def cntTo (p : Int → Prop) (n : Nat) : Int := sumTo (fun t => tf (p t)) n
theorem cntTo_s {p : Int → Prop} {n : Nat} : cntTo p (n + 1) = cntTo p n + tf (p n) := rfl
theorem cntTo_0 {p : Int → Prop} : cntTo p 0 = 0 := rfl
theorem cntTo_in {p : Int → Prop} {n : Nat} : 0 ≤ cntTo p n ∧ cntTo p n ≤ n := by
  have := sumTo_in (f := fun t => tf (p t)) (n := n) (B := 1) (fun j _ => tf_in)
  rw [Int.mul_one] at this
  exact this
def allTo (P : Int → Prop) (n : Nat) : Prop := ∀ j : Nat, j < n → P j
theorem allTo_0 {P : Int → Prop} : allTo P 0 := fun j h => absurd h (Nat.not_lt_zero _)
theorem allTo_s {P : Int → Prop} {n : Nat} : allTo P (n + 1) ↔ allTo P n ∧ P n := ⟨fun h => ⟨fun j hj => h j (by omega), h n (by omega)⟩, fun h j hj => by
  rcases Nat.lt_or_ge j n with q | q
  · exact h.1 j q
  · have : j = n := by omega
    subst this; exact h.2⟩
def exTo (P : Int → Prop) (n : Nat) : Prop := ∃ j : Nat, j < n ∧ P j
theorem exTo_0 {P : Int → Prop} : ¬ exTo P 0 := fun ⟨j, h, _⟩ => absurd h (Nat.not_lt_zero _)
theorem exTo_s {P : Int → Prop} {n : Nat} : exTo P (n + 1) ↔ exTo P n ∨ P n := ⟨fun ⟨j, hj, h⟩ => by
  rcases Nat.lt_or_ge j n with q | q
  · exact Or.inl ⟨j, q, h⟩
  · have : j = n := by omega
    subst this; exact Or.inr h, fun h => h.elim (fun ⟨j, hj, h⟩ => ⟨j, by omega, h⟩) (fun h => ⟨n, by omega, h⟩)⟩
theorem cast_s (n : Nat) : ((n + 1 : Nat) : Int) = (n : Int) + 1 := rfl
/-- the first index below n with P, or -4 -/
noncomputable def firstTo (P : Int → Prop) : Nat → Int
  | 0 => -4
  | n + 1 => if firstTo P n ≠ -4 then firstTo P n else @ite Int (P n) (Classical.propDecidable _) n (-4)
theorem firstTo_no {P : Int → Prop} {n : Nat} (h : ∀ j : Nat, j < n → ¬ P j) : firstTo P n = -4 := by
  induction n with
  | zero => rfl
  | succ n ih =>
    unfold firstTo
    rw [ih (fun j hj => h j (by omega)), if_neg (by simp), if_neg (h n (by omega))]
theorem firstTo_yes {P : Int → Prop} {n k : Nat} (hk : k < n) (hP : P k) (h : ∀ j : Nat, j < k → ¬ P j) : firstTo P n = k := by
  induction n with
  | zero => omega
  | succ n ih =>
    unfold firstTo
    by_cases e : k = n
    · subst e
      rw [firstTo_no h, if_neg (by simp), if_pos hP]
    · rw [ih (by omega), if_pos (by omega)]
theorem firstTo_cases (P : Int → Prop) (n : Nat) : (firstTo P n = -4 ∧ ∀ j : Nat, j < n → ¬ P j) ∨ ∃ k : Nat, k < n ∧ firstTo P n = k ∧ P k ∧ ∀ j : Nat, j < k → ¬ P j := by
  by_cases h : ∃ k : Nat, k < n ∧ P k
  · obtain ⟨k, ⟨hk1, hk2⟩, hmin⟩ : ∃ k : Nat, (k < n ∧ P k) ∧ ∀ j : Nat, j < k → ¬ (j < n ∧ P j) := by
      obtain ⟨k0, hk0⟩ := h
      induction k0 using Nat.strongRecOn with
      | ind k0 ih =>
        by_cases hx : ∃ j, j < k0 ∧ (j < n ∧ P j)
        · obtain ⟨j, hj, hj2⟩ := hx
          exact ih j hj hj2
        · exact ⟨k0, hk0, fun j hj hj2 => hx ⟨j, hj, hj2⟩⟩
    have hm : ∀ j : Nat, j < k → ¬ P j := fun j hj hP => hmin j hj ⟨by omega, hP⟩
    exact Or.inr ⟨k, hk1, firstTo_yes hk1 hk2 hm, hk2, hm⟩
  · exact Or.inl ⟨firstTo_no fun j hj hP => h ⟨j, hj, hP⟩, fun j hj hP => h ⟨j, hj, hP⟩⟩
/-- a loop that searches upward: at i nothing was found below -/
theorem loop_find {P : Nat → Prop} {n : Nat} {F : Int → Prop} (hn : (∀ j : Nat, j < n → ¬ F j) → P n) (hs : ∀ i, i < n → (∀ j : Nat, j < i → ¬ F j) → ((¬ F i) → P (i + 1)) → P i) : P 0 := by
  have key : ∀ k, k ≤ n → (∀ j : Nat, j < n - k → ¬ F j) → P (n - k) := by
    intro k
    induction k with
    | zero => intro _ h; exact hn h
    | succ k ih =>
      intro hk h
      refine hs _ (by omega) h (fun hF => ?_)
      rw [show n - (k + 1) + 1 = n - k by omega]
      refine ih (by omega) (fun j hj => ?_)
      rcases Nat.lt_or_ge j (n - (k + 1)) with q | q
      · exact h j q
      · rw [show j = n - (k + 1) by omega]; exact hF
  have := key n (Nat.le_refl _)
  rw [Nat.sub_self] at this
  exact this (fun j h => absurd h (Nat.not_lt_zero _))
theorem mp_eq {a b : Prop} (x : a) (h : a = b) : b := h ▸ x
