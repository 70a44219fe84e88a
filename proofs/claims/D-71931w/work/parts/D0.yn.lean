/-! the rules, by the row -/
set_option maxRecDepth 100000
theorem byV_1 {r : Int → Int} {m : Nat} : tf (byV r m (-1) = 1) = tf (sqC (rS r) m (pNow (rS r)) = 0) := by
  unfold byV
  rw [if_pos (by omega)]
  by_cases z : sqC (rS r) m (pNow (rS r)) = 0
  · rw [if_pos z, tf_t z, tf_t rfl]
  · rw [if_neg z, tf_f z, tf_f (by omega)]
/-- what rule answers is what the model's rule answers -/
theorem rulX_row {r : Int → Int} {m : Nat} {w : Int} : rulX r m (r 3) w = if w = 0 ∨ w = 1 ∨ w = 2 then rS r 107 w else if w = 3 then cntTo (fun t => rS r 107 (34 + 6 * t + 4) = 1) (rS r 107 1).toNat else if w = 4 then cntTo (fun t => rS r 107 (34 + 6 * t + 4) = 2) (rS r 107 1).toNat else if w = 5 then rS r 107 3 else if w = 6 then tf (sqC (rS r) m (pNow (rS r)) = 0) else if w = 7 then sumTo (mLeft (rS r)) (rS r 107 1).toNat else if w = 8 then cntTo (fun t => agn (rS r) t = 0) (rS r 107 1).toNat else -1 := by
  unfold rulX
  rw [byV_1]
  rfl
