/-! ===== small facts that the printed regions name ===== -/
set_option maxRecDepth 100000
theorem inRd {z : Int} (h : (decide (-2147483648 ≤ z) && decide (z < 2147483648)) = true) : inR z := by
  rw [Bool.and_eq_true, decide_eq_true_eq, decide_eq_true_eq] at h
  exact h
theorem inR64d {z : Int} (h : (decide (-9223372036854775808 ≤ z) && decide (z < 9223372036854775808)) = true) : inR64 z := by
  rw [Bool.and_eq_true, decide_eq_true_eq, decide_eq_true_eq] at h
  exact h
theorem in_none : ∀ w ∈ u_ws RX3 TX1 0, w ∈ lw_all := fun w h => by cases h
theorem ty_none : ∀ k, k < 0 → parseFieldDescriptor (TX1 k).2.2.1 = some (smTy 10 k) := fun k h => absurd h (Nat.not_lt_zero _)
theorem cl_1 : smCl[1]? = some (RX0, TX0, 14) := rfl
theorem tg_1 : 1 ≤ 1 ∧ 1 < 50 := ⟨Nat.le_of_ble_eq_true rfl, Nat.le_of_ble_eq_true rfl⟩
theorem df_1 : ∀ k, k < 14 → defaultValue (smTy 1 k) = if isRefTy (smTy 1 k) = true then .null else .int 0 := by decide +kernel
theorem cl_2 : smCl[2]? = some (RX1, TX1, 12) := rfl
theorem tg_2 : 1 ≤ 2 ∧ 2 < 50 := ⟨Nat.le_of_ble_eq_true rfl, Nat.le_of_ble_eq_true rfl⟩
theorem df_2 : ∀ k, k < 12 → defaultValue (smTy 2 k) = if isRefTy (smTy 2 k) = true then .null else .int 0 := by decide +kernel
theorem cl_3 : smCl[3]? = some (RX2, TX2, 4) := rfl
theorem tg_3 : 1 ≤ 3 ∧ 3 < 50 := ⟨Nat.le_of_ble_eq_true rfl, Nat.le_of_ble_eq_true rfl⟩
theorem df_3 : ∀ k, k < 4 → defaultValue (smTy 3 k) = if isRefTy (smTy 3 k) = true then .null else .int 0 := by decide +kernel
theorem cl_4 : smCl[4]? = some (RX4, TX4, 3) := rfl
theorem tg_4 : 1 ≤ 4 ∧ 4 < 50 := ⟨Nat.le_of_ble_eq_true rfl, Nat.le_of_ble_eq_true rfl⟩
theorem df_4 : ∀ k, k < 3 → defaultValue (smTy 4 k) = if isRefTy (smTy 4 k) = true then .null else .int 0 := by decide +kernel
theorem cl_5 : smCl[5]? = some (RX5, TX5, 2) := rfl
theorem tg_5 : 1 ≤ 5 ∧ 5 < 50 := ⟨Nat.le_of_ble_eq_true rfl, Nat.le_of_ble_eq_true rfl⟩
theorem df_5 : ∀ k, k < 2 → defaultValue (smTy 5 k) = if isRefTy (smTy 5 k) = true then .null else .int 0 := by decide +kernel
theorem cl_6 : smCl[6]? = some (RX7, TX7, 8) := rfl
theorem tg_6 : 1 ≤ 6 ∧ 6 < 50 := ⟨Nat.le_of_ble_eq_true rfl, Nat.le_of_ble_eq_true rfl⟩
theorem df_6 : ∀ k, k < 8 → defaultValue (smTy 6 k) = if isRefTy (smTy 6 k) = true then .null else .int 0 := by decide +kernel
theorem cl_7 : smCl[7]? = some (RX8, TX8, 8) := rfl
theorem tg_7 : 1 ≤ 7 ∧ 7 < 50 := ⟨Nat.le_of_ble_eq_true rfl, Nat.le_of_ble_eq_true rfl⟩
theorem df_7 : ∀ k, k < 8 → defaultValue (smTy 7 k) = if isRefTy (smTy 7 k) = true then .null else .int 0 := by decide +kernel
theorem cl_8 : smCl[8]? = some (RX10, TX10, 3) := rfl
theorem tg_8 : 1 ≤ 8 ∧ 8 < 50 := ⟨Nat.le_of_ble_eq_true rfl, Nat.le_of_ble_eq_true rfl⟩
theorem df_8 : ∀ k, k < 3 → defaultValue (smTy 8 k) = if isRefTy (smTy 8 k) = true then .null else .int 0 := by decide +kernel
theorem cl_9 : smCl[9]? = some (RX9, TX9, 2) := rfl
theorem tg_9 : 1 ≤ 9 ∧ 9 < 50 := ⟨Nat.le_of_ble_eq_true rfl, Nat.le_of_ble_eq_true rfl⟩
theorem df_9 : ∀ k, k < 2 → defaultValue (smTy 9 k) = if isRefTy (smTy 9 k) = true then .null else .int 0 := by decide +kernel
theorem cl_10 : smCl[10]? = some (RX3, TX1, 0) := rfl
theorem tg_10 : 1 ≤ 10 ∧ 10 < 50 := ⟨Nat.le_of_ble_eq_true rfl, Nat.le_of_ble_eq_true rfl⟩
theorem df_10 : ∀ k, k < 0 → defaultValue (smTy 10 k) = if isRefTy (smTy 10 k) = true then .null else .int 0 := by decide +kernel
theorem cl_11 : smCl[11]? = some (RX6, TX6, 24) := rfl
theorem tg_11 : 1 ≤ 11 ∧ 11 < 50 := ⟨Nat.le_of_ble_eq_true rfl, Nat.le_of_ble_eq_true rfl⟩
theorem df_11 : ∀ k, k < 24 → defaultValue (smTy 11 k) = if isRefTy (smTy 11 k) = true then .null else .int 0 := by decide +kernel
theorem cl_12 : smCl[12]? = some (RJ2, TJ2, 1) := rfl
theorem tg_12 : 1 ≤ 12 ∧ 12 < 50 := ⟨Nat.le_of_ble_eq_true rfl, Nat.le_of_ble_eq_true rfl⟩
theorem df_12 : ∀ k, k < 1 → defaultValue (smTy 12 k) = if isRefTy (smTy 12 k) = true then .null else .int 0 := by decide +kernel
theorem cl_13 : smCl[13]? = some (RJ4, TJ4, 9) := rfl
theorem tg_13 : 1 ≤ 13 ∧ 13 < 50 := ⟨Nat.le_of_ble_eq_true rfl, Nat.le_of_ble_eq_true rfl⟩
theorem df_13 : ∀ k, k < 9 → defaultValue (smTy 13 k) = if isRefTy (smTy 13 k) = true then .null else .int 0 := by decide +kernel
theorem cl_14 : smCl[14]? = some (RJ21, TJ21, 6) := rfl
theorem tg_14 : 1 ≤ 14 ∧ 14 < 50 := ⟨Nat.le_of_ble_eq_true rfl, Nat.le_of_ble_eq_true rfl⟩
theorem df_14 : ∀ k, k < 6 → defaultValue (smTy 14 k) = if isRefTy (smTy 14 k) = true then .null else .int 0 := by decide +kernel
theorem cl_15 : smCl[15]? = some (RJ24, TJ24, 1) := rfl
theorem tg_15 : 1 ≤ 15 ∧ 15 < 50 := ⟨Nat.le_of_ble_eq_true rfl, Nat.le_of_ble_eq_true rfl⟩
theorem df_15 : ∀ k, k < 1 → defaultValue (smTy 15 k) = if isRefTy (smTy 15 k) = true then .null else .int 0 := by decide +kernel
theorem cl_16 : smCl[16]? = some (RJ26, TJ26, 4) := rfl
theorem tg_16 : 1 ≤ 16 ∧ 16 < 50 := ⟨Nat.le_of_ble_eq_true rfl, Nat.le_of_ble_eq_true rfl⟩
theorem df_16 : ∀ k, k < 4 → defaultValue (smTy 16 k) = if isRefTy (smTy 16 k) = true then .null else .int 0 := by decide +kernel
theorem cl_17 : smCl[17]? = some (RJ6, TJ6, 4) := rfl
theorem tg_17 : 1 ≤ 17 ∧ 17 < 50 := ⟨Nat.le_of_ble_eq_true rfl, Nat.le_of_ble_eq_true rfl⟩
theorem df_17 : ∀ k, k < 4 → defaultValue (smTy 17 k) = if isRefTy (smTy 17 k) = true then .null else .int 0 := by decide +kernel
theorem cl_18 : smCl[18]? = some (RJ15, TJ15, 0) := rfl
theorem tg_18 : 1 ≤ 18 ∧ 18 < 50 := ⟨Nat.le_of_ble_eq_true rfl, Nat.le_of_ble_eq_true rfl⟩
theorem cl_19 : smCl[19]? = some (RJ31, TJ31, 0) := rfl
theorem tg_19 : 1 ≤ 19 ∧ 19 < 50 := ⟨Nat.le_of_ble_eq_true rfl, Nat.le_of_ble_eq_true rfl⟩
theorem cl_20 : smCl[20]? = some (RJ32, TJ32, 0) := rfl
theorem tg_20 : 1 ≤ 20 ∧ 20 < 50 := ⟨Nat.le_of_ble_eq_true rfl, Nat.le_of_ble_eq_true rfl⟩
theorem cl_21 : smCl[21]? = some (RJ29, TJ29, 0) := rfl
theorem tg_21 : 1 ≤ 21 ∧ 21 < 50 := ⟨Nat.le_of_ble_eq_true rfl, Nat.le_of_ble_eq_true rfl⟩
theorem w32_i {z : Int} (h0 : -2147483648 ≤ z) (h1 : z < 2147483648) : w32 z = z := w32_id ⟨h0, h1⟩
theorem w64_i {z : Int} (h0 : -9223372036854775808 ≤ z) (h1 : z < 9223372036854775808) : w64 z = z := w64_id ⟨h0, h1⟩
/-- a loop that counts up -/
theorem loop_up {P : Nat → Prop} {n : Nat} (hn : P n) (hs : ∀ i, i < n → P (i + 1) → P i) : P 0 := by
  have key : ∀ k, k ≤ n → P (n - k) := by
    intro k
    induction k with
    | zero => intro _; exact hn
    | succ k ih =>
      intro hk
      refine hs _ (by omega) ?_
      rw [show n - (k + 1) + 1 = n - k by omega]
      exact ih (by omega)
  have := key n (Nat.le_refl _)
  rwa [Nat.sub_self] at this
theorem if_both {c : Prop} [Decidable c] {P : Prop} {Q : Prop} (h1 : c → P) (h2 : ¬ c → Q) : (c → P) ∧ (¬ c → Q) := ⟨h1, h2⟩
/-- the truth of a condition as a number -/
noncomputable def tf (c : Prop) : Int := @ite Int c (Classical.propDecidable c) 1 0
theorem tf_t {c : Prop} (h : c) : tf c = 1 := by unfold tf; rw [if_pos h]
theorem tf_f {c : Prop} (h : ¬ c) : tf c = 0 := by unfold tf; rw [if_neg h]
theorem tf_0 {c : Prop} : (tf c = 0) = ¬ c := by
  by_cases h : c
  · rw [tf_t h]; simp [h]
  · rw [tf_f h]; simp [h]
theorem tf_n0 {c : Prop} : (¬ tf c = 0) = c := by rw [tf_0]; simp
theorem tf_1 {c : Prop} : (tf c = 1) = c := by
  by_cases h : c
  · rw [tf_t h]; simp [h]
  · rw [tf_f h]; simp [h]
theorem tf_01 {c : Prop} : (tf c = 0 ∨ tf c = 1) = True := by
  by_cases h : c
  · rw [tf_t h]; simp
  · rw [tf_f h]; simp
theorem tf_em {c : Prop} : (¬ c ∨ c) = True := by rw [eq_iff_iff]; exact ⟨fun _ => trivial, fun _ => (Classical.em c).symm⟩
theorem tf_me {c : Prop} : (c ∨ ¬ c) = True := by rw [eq_iff_iff]; exact ⟨fun _ => trivial, fun _ => Classical.em c⟩
theorem tf_if {c : Prop} [Decidable c] : tf c = if c then 1 else 0 := by
  by_cases h : c
  · rw [tf_t h, if_pos h]
  · rw [tf_f h, if_neg h]
theorem tf_in {c : Prop} : 0 ≤ tf c ∧ tf c ≤ 1 := by
  by_cases h : c
  · rw [tf_t h]; omega
  · rw [tf_f h]; omega
theorem tf_F : tf False = 0 := tf_f id
theorem tf_T : tf True = 1 := tf_t trivial
theorem tf_tf {c : Prop} : tf (tf c ≠ 0) = tf c := by rw [ne_eq, tf_n0]
def dOk (k d : Nat) : Prop := k + 1 ≤ d
theorem dOk_i {k d : Nat} (h : k + 1 ≤ d) : dOk k d = True := eq_true h
theorem sgnJ_lt (x y : Int) : (sgnJ x y < 0) = (x < y) := by unfold sgnJ; split <;> (try split) <;> simp <;> omega
theorem sgnJ_gt (x y : Int) : (0 < sgnJ x y) = (y < x) := by unfold sgnJ; split <;> (try split) <;> simp <;> omega
theorem td_i {x y : Int} (h : 0 ≤ x) : x.tdiv y = x / y := Int.tdiv_eq_ediv_of_nonneg h
theorem tm_i {x y : Int} (h : 0 ≤ x) : x.tmod y = x % y := Int.tmod_eq_emod_of_nonneg h
